/-! SwarmPlannerModel -/
set_option maxRecDepth 100000
def RX3 : String := "SwarmPlannerModel"
def TX3 : u_T := fun k => match k with
  | 0 => ("SwarmPlannerModel", "all", "[I", true)
  | 1 => ("SwarmPlannerModel", "changes", "I", false)
  | 2 => ("SwarmPlannerModel", "isSaved", "Z", false)
  | 3 => ("SwarmPlannerModel", "far", "[I", true)
  | 4 => ("SwarmPlannerModel", "queue", "[I", true)
  | 5 => ("SwarmPlannerModel", "places", "[I", true)
  | 6 => ("SwarmPlannerModel", "worths", "[I", true)
  | 7 => ("SwarmPlannerModel", "slotOf", "[I", true)
  | 8 => ("SwarmPlannerModel", "given", "I", false)
  | 9 => ("SwarmPlannerModel", "givenSum", "I", false)
  | 10 => ("SwarmPlannerModel", "worthOf", "[I", true)
  | 11 => ("SwarmPlannerModel", "turns", "[I", true)
  | 12 => ("SwarmPlannerModel", "turnFar", "[I", true)
  | 13 => ("SwarmPlannerModel", "cellsWere", "[I", true)
  | 14 => ("SwarmPlannerModel", "tape", "[I", true)
  | 15 => ("SwarmPlannerModel", "taped", "I", false)
  | 16 => ("SwarmPlannerModel", "at", "I", false)
  | 17 => ("SwarmPlannerModel", "fault", "I", false)
  | 18 => ("SwarmPlannerModel", "read", "[I", true)
  | 19 => ("SwarmPlannerModel", "orders", "[I", true)
  | 20 => ("SwarmPlannerModel", "orderMany", "I", false)
  | 21 => ("SwarmPlannerModel", "refusedWhy", "I", false)
  | 22 => ("SwarmPlannerModel", "refusedAt", "I", false)
  | 23 => ("SwarmPlannerModel", "turnedX", "I", false)
  | _ => ("SwarmPlannerModel", "turnedY", "I", false)
def tyX3 : Nat → FieldType := fun k => match k with
  | 0 => .array .int
  | 1 => .int
  | 2 => .boolean
  | 3 => .array .int
  | 4 => .array .int
  | 5 => .array .int
  | 6 => .array .int
  | 7 => .array .int
  | 8 => .int
  | 9 => .int
  | 10 => .array .int
  | 11 => .array .int
  | 12 => .array .int
  | 13 => .array .int
  | 14 => .array .int
  | 15 => .int
  | 16 => .int
  | 17 => .int
  | 18 => .array .int
  | 19 => .array .int
  | 20 => .int
  | 21 => .int
  | 22 => .int
  | 23 => .int
  | _ => .int
abbrev wsX30 : List Cond := u_ws RX3 TX3 25
set_option maxRecDepth 100000 in
theorem nmX3 : ∀ a, a < 25 → ∀ b, b < 25 → a ≠ b → (TX3 a).2.1 ≠ (TX3 b).2.1 := by decide +kernel
set_option maxRecDepth 100000 in
theorem tyX3_ok : ∀ k, k < 25 → parseFieldDescriptor (TX3 k).2.2.1 = some (tyX3 k) := by decide +kernel
abbrev cX3_init : ByteArray := prog_11_method_1_code
def yX3_init : MethodName := ⟨RX3, "<init>", "()V"⟩
def dkwX3_init_5 : List UInt8 := [42, 180, 0, 9, 5, 2, 79, 177]
abbrev dktX3_init_5 : List UInt8 := dkwX3_init_5 ++ []
def dkwX3_init_4 : List UInt8 := [42, 16, 22, 188, 10, 181, 0, 43, 42, 17, 0, 180, 188, 10, 181, 0, 46, 42, 180, 0, 9, 4, 2, 79]
abbrev dktX3_init_4 : List UInt8 := dkwX3_init_4 ++ dktX3_init_5
def dkwX3_init_3 : List UInt8 := [42, 16, 10, 188, 10, 181, 0, 34, 42, 16, 10, 188, 10, 181, 0, 37, 42, 16, 60, 188, 10, 181, 0, 40]
abbrev dktX3_init_3 : List UInt8 := dkwX3_init_3 ++ dktX3_init_4
def dkwX3_init_2 : List UInt8 := [42, 16, 10, 188, 10, 181, 0, 25, 42, 16, 100, 188, 10, 181, 0, 28, 42, 16, 10, 188, 10, 181, 0, 31]
abbrev dktX3_init_2 : List UInt8 := dkwX3_init_2 ++ dktX3_init_3
def dkwX3_init_1 : List UInt8 := [16, 120, 188, 10, 181, 0, 16, 42, 16, 10, 188, 10, 181, 0, 19, 42, 17, 44, 0, 188, 10, 181, 0, 22]
abbrev dktX3_init_1 : List UInt8 := dkwX3_init_1 ++ dktX3_init_2
def dkwX3_init_0 : List UInt8 := [42, 183, 0, 3, 42, 17, 11, 22, 188, 10, 181, 0, 9, 42, 17, 5, 160, 188, 10, 181, 0, 13, 42]
abbrev dktX3_init_0 : List UInt8 := dkwX3_init_0 ++ dktX3_init_1
theorem dksX3_init_0 : cX3_init.data.toList.drop 0 = dktX3_init_0 := by decide +kernel
theorem dksX3_init_1 : cX3_init.data.toList.drop 23 = dktX3_init_1 := dk_seg dksX3_init_0 23 rfl rfl
theorem dksX3_init_2 : cX3_init.data.toList.drop 47 = dktX3_init_2 := dk_seg dksX3_init_1 24 rfl rfl
theorem dksX3_init_3 : cX3_init.data.toList.drop 71 = dktX3_init_3 := dk_seg dksX3_init_2 24 rfl rfl
theorem dksX3_init_4 : cX3_init.data.toList.drop 95 = dktX3_init_4 := dk_seg dksX3_init_3 24 rfl rfl
theorem dksX3_init_5 : cX3_init.data.toList.drop 119 = dktX3_init_5 := dk_seg dksX3_init_4 24 rfl rfl
theorem dX3_init_0 : decode cX3_init 0 = .ok (.aload_n 0, 1) := dk_42 (dk_at dksX3_init_0 0 rfl rfl)
theorem dX3_init_1 : decode cX3_init 1 = .ok (.invokespecial 3, 3) := dk_183 0 3 (dk_at dksX3_init_0 1 rfl rfl)
theorem dX3_init_4 : decode cX3_init 4 = .ok (.aload_n 0, 1) := dk_42 (dk_at dksX3_init_0 4 rfl rfl)
theorem dX3_init_5 : decode cX3_init 5 = .ok (.sipush 2838, 3) := dk_17 11 22 (dk_at dksX3_init_0 5 rfl rfl)
theorem dX3_init_8 : decode cX3_init 8 = .ok (.newarray .int, 2) := dk_188_10 (dk_at dksX3_init_0 8 rfl rfl)
theorem dX3_init_10 : decode cX3_init 10 = .ok (.putfield 9, 3) := dk_181 0 9 (dk_at dksX3_init_0 10 rfl rfl)
theorem dX3_init_13 : decode cX3_init 13 = .ok (.aload_n 0, 1) := dk_42 (dk_at dksX3_init_0 13 rfl rfl)
theorem dX3_init_14 : decode cX3_init 14 = .ok (.sipush 1440, 3) := dk_17 5 160 (dk_at dksX3_init_0 14 rfl rfl)
theorem dX3_init_17 : decode cX3_init 17 = .ok (.newarray .int, 2) := dk_188_10 (dk_at dksX3_init_0 17 rfl rfl)
theorem dX3_init_19 : decode cX3_init 19 = .ok (.putfield 13, 3) := dk_181 0 13 (dk_at dksX3_init_0 19 rfl rfl)
theorem dX3_init_22 : decode cX3_init 22 = .ok (.aload_n 0, 1) := dk_42 (dk_at dksX3_init_0 22 rfl rfl)
theorem dX3_init_23 : decode cX3_init 23 = .ok (.bipush 120, 2) := dk_16 120 (dk_at dksX3_init_1 0 rfl rfl)
theorem dX3_init_25 : decode cX3_init 25 = .ok (.newarray .int, 2) := dk_188_10 (dk_at dksX3_init_1 2 rfl rfl)
theorem dX3_init_27 : decode cX3_init 27 = .ok (.putfield 16, 3) := dk_181 0 16 (dk_at dksX3_init_1 4 rfl rfl)
theorem dX3_init_30 : decode cX3_init 30 = .ok (.aload_n 0, 1) := dk_42 (dk_at dksX3_init_1 7 rfl rfl)
theorem dX3_init_31 : decode cX3_init 31 = .ok (.bipush 10, 2) := dk_16 10 (dk_at dksX3_init_1 8 rfl rfl)
theorem dX3_init_33 : decode cX3_init 33 = .ok (.newarray .int, 2) := dk_188_10 (dk_at dksX3_init_1 10 rfl rfl)
theorem dX3_init_35 : decode cX3_init 35 = .ok (.putfield 19, 3) := dk_181 0 19 (dk_at dksX3_init_1 12 rfl rfl)
theorem dX3_init_38 : decode cX3_init 38 = .ok (.aload_n 0, 1) := dk_42 (dk_at dksX3_init_1 15 rfl rfl)
theorem dX3_init_39 : decode cX3_init 39 = .ok (.sipush 11264, 3) := dk_17 44 0 (dk_at dksX3_init_1 16 rfl rfl)
theorem dX3_init_42 : decode cX3_init 42 = .ok (.newarray .int, 2) := dk_188_10 (dk_at dksX3_init_1 19 rfl rfl)
theorem dX3_init_44 : decode cX3_init 44 = .ok (.putfield 22, 3) := dk_181 0 22 (dk_at dksX3_init_1 21 rfl rfl)
theorem dX3_init_47 : decode cX3_init 47 = .ok (.aload_n 0, 1) := dk_42 (dk_at dksX3_init_2 0 rfl rfl)
theorem dX3_init_48 : decode cX3_init 48 = .ok (.bipush 10, 2) := dk_16 10 (dk_at dksX3_init_2 1 rfl rfl)
theorem dX3_init_50 : decode cX3_init 50 = .ok (.newarray .int, 2) := dk_188_10 (dk_at dksX3_init_2 3 rfl rfl)
theorem dX3_init_52 : decode cX3_init 52 = .ok (.putfield 25, 3) := dk_181 0 25 (dk_at dksX3_init_2 5 rfl rfl)
theorem dX3_init_55 : decode cX3_init 55 = .ok (.aload_n 0, 1) := dk_42 (dk_at dksX3_init_2 8 rfl rfl)
theorem dX3_init_56 : decode cX3_init 56 = .ok (.bipush 100, 2) := dk_16 100 (dk_at dksX3_init_2 9 rfl rfl)
theorem dX3_init_58 : decode cX3_init 58 = .ok (.newarray .int, 2) := dk_188_10 (dk_at dksX3_init_2 11 rfl rfl)
theorem dX3_init_60 : decode cX3_init 60 = .ok (.putfield 28, 3) := dk_181 0 28 (dk_at dksX3_init_2 13 rfl rfl)
theorem dX3_init_63 : decode cX3_init 63 = .ok (.aload_n 0, 1) := dk_42 (dk_at dksX3_init_2 16 rfl rfl)
theorem dX3_init_64 : decode cX3_init 64 = .ok (.bipush 10, 2) := dk_16 10 (dk_at dksX3_init_2 17 rfl rfl)
theorem dX3_init_66 : decode cX3_init 66 = .ok (.newarray .int, 2) := dk_188_10 (dk_at dksX3_init_2 19 rfl rfl)
theorem dX3_init_68 : decode cX3_init 68 = .ok (.putfield 31, 3) := dk_181 0 31 (dk_at dksX3_init_2 21 rfl rfl)
theorem dX3_init_71 : decode cX3_init 71 = .ok (.aload_n 0, 1) := dk_42 (dk_at dksX3_init_3 0 rfl rfl)
theorem dX3_init_72 : decode cX3_init 72 = .ok (.bipush 10, 2) := dk_16 10 (dk_at dksX3_init_3 1 rfl rfl)
theorem dX3_init_74 : decode cX3_init 74 = .ok (.newarray .int, 2) := dk_188_10 (dk_at dksX3_init_3 3 rfl rfl)
theorem dX3_init_76 : decode cX3_init 76 = .ok (.putfield 34, 3) := dk_181 0 34 (dk_at dksX3_init_3 5 rfl rfl)
theorem dX3_init_79 : decode cX3_init 79 = .ok (.aload_n 0, 1) := dk_42 (dk_at dksX3_init_3 8 rfl rfl)
theorem dX3_init_80 : decode cX3_init 80 = .ok (.bipush 10, 2) := dk_16 10 (dk_at dksX3_init_3 9 rfl rfl)
theorem dX3_init_82 : decode cX3_init 82 = .ok (.newarray .int, 2) := dk_188_10 (dk_at dksX3_init_3 11 rfl rfl)
theorem dX3_init_84 : decode cX3_init 84 = .ok (.putfield 37, 3) := dk_181 0 37 (dk_at dksX3_init_3 13 rfl rfl)
theorem dX3_init_87 : decode cX3_init 87 = .ok (.aload_n 0, 1) := dk_42 (dk_at dksX3_init_3 16 rfl rfl)
theorem dX3_init_88 : decode cX3_init 88 = .ok (.bipush 60, 2) := dk_16 60 (dk_at dksX3_init_3 17 rfl rfl)
theorem dX3_init_90 : decode cX3_init 90 = .ok (.newarray .int, 2) := dk_188_10 (dk_at dksX3_init_3 19 rfl rfl)
theorem dX3_init_92 : decode cX3_init 92 = .ok (.putfield 40, 3) := dk_181 0 40 (dk_at dksX3_init_3 21 rfl rfl)
theorem dX3_init_95 : decode cX3_init 95 = .ok (.aload_n 0, 1) := dk_42 (dk_at dksX3_init_4 0 rfl rfl)
theorem dX3_init_96 : decode cX3_init 96 = .ok (.bipush 22, 2) := dk_16 22 (dk_at dksX3_init_4 1 rfl rfl)
theorem dX3_init_98 : decode cX3_init 98 = .ok (.newarray .int, 2) := dk_188_10 (dk_at dksX3_init_4 3 rfl rfl)
theorem dX3_init_100 : decode cX3_init 100 = .ok (.putfield 43, 3) := dk_181 0 43 (dk_at dksX3_init_4 5 rfl rfl)
theorem dX3_init_103 : decode cX3_init 103 = .ok (.aload_n 0, 1) := dk_42 (dk_at dksX3_init_4 8 rfl rfl)
theorem dX3_init_104 : decode cX3_init 104 = .ok (.sipush 180, 3) := dk_17 0 180 (dk_at dksX3_init_4 9 rfl rfl)
theorem dX3_init_107 : decode cX3_init 107 = .ok (.newarray .int, 2) := dk_188_10 (dk_at dksX3_init_4 12 rfl rfl)
theorem dX3_init_109 : decode cX3_init 109 = .ok (.putfield 46, 3) := dk_181 0 46 (dk_at dksX3_init_4 14 rfl rfl)
theorem dX3_init_112 : decode cX3_init 112 = .ok (.aload_n 0, 1) := dk_42 (dk_at dksX3_init_4 17 rfl rfl)
theorem dX3_init_113 : decode cX3_init 113 = .ok (.getfield 9, 3) := dk_180 0 9 (dk_at dksX3_init_4 18 rfl rfl)
theorem dX3_init_116 : decode cX3_init 116 = .ok (.iconst 1, 1) := dk_4 (dk_at dksX3_init_4 21 rfl rfl)
theorem dX3_init_117 : decode cX3_init 117 = .ok (.iconst (-1), 1) := dk_2 (dk_at dksX3_init_4 22 rfl rfl)
theorem dX3_init_118 : decode cX3_init 118 = .ok (.iastore, 1) := dk_79 (dk_at dksX3_init_4 23 rfl rfl)
theorem dX3_init_119 : decode cX3_init 119 = .ok (.aload_n 0, 1) := dk_42 (dk_at dksX3_init_5 0 rfl rfl)
theorem dX3_init_120 : decode cX3_init 120 = .ok (.getfield 9, 3) := dk_180 0 9 (dk_at dksX3_init_5 1 rfl rfl)
theorem dX3_init_123 : decode cX3_init 123 = .ok (.iconst 2, 1) := dk_5 (dk_at dksX3_init_5 4 rfl rfl)
theorem dX3_init_124 : decode cX3_init 124 = .ok (.iconst (-1), 1) := dk_2 (dk_at dksX3_init_5 5 rfl rfl)
theorem dX3_init_125 : decode cX3_init 125 = .ok (.iastore, 1) := dk_79 (dk_at dksX3_init_5 6 rfl rfl)
theorem dX3_init_126 : decode cX3_init 126 = .ok (.return_, 1) := dk_177 (dk_at dksX3_init_5 7 rfl rfl)
abbrev cX3_rounds : ByteArray := prog_11_method_36_code
def yX3_rounds : MethodName := ⟨RX3, "rounds", "(I)I"⟩
def dkwX3_rounds_1 : List UInt8 := [182, 0, 151, 42, 27, 182, 0, 154, 172]
abbrev dktX3_rounds_1 : List UInt8 := dkwX3_rounds_1 ++ []
def dkwX3_rounds_0 : List UInt8 := [27, 4, 16, 40, 184, 0, 57, 154, 0, 6, 16, 254, 172, 42, 182, 0, 85, 156, 0, 6, 16, 253, 172, 42]
abbrev dktX3_rounds_0 : List UInt8 := dkwX3_rounds_0 ++ dktX3_rounds_1
theorem dksX3_rounds_0 : cX3_rounds.data.toList.drop 0 = dktX3_rounds_0 := by decide +kernel
theorem dksX3_rounds_1 : cX3_rounds.data.toList.drop 24 = dktX3_rounds_1 := dk_seg dksX3_rounds_0 24 rfl rfl
theorem dX3_rounds_0 : decode cX3_rounds 0 = .ok (.iload_n 1, 1) := dk_27 (dk_at dksX3_rounds_0 0 rfl rfl)
theorem dX3_rounds_1 : decode cX3_rounds 1 = .ok (.iconst 1, 1) := dk_4 (dk_at dksX3_rounds_0 1 rfl rfl)
theorem dX3_rounds_2 : decode cX3_rounds 2 = .ok (.bipush 40, 2) := dk_16 40 (dk_at dksX3_rounds_0 2 rfl rfl)
theorem dX3_rounds_4 : decode cX3_rounds 4 = .ok (.invokestatic 57, 3) := dk_184 0 57 (dk_at dksX3_rounds_0 4 rfl rfl)
theorem dX3_rounds_7 : decode cX3_rounds 7 = .ok (.ifCond .ne 6, 3) := dk_154 0 6 (dk_at dksX3_rounds_0 7 rfl rfl)
theorem dX3_rounds_10 : decode cX3_rounds 10 = .ok (.bipush (-2), 2) := dk_16 254 (dk_at dksX3_rounds_0 10 rfl rfl)
theorem dX3_rounds_12 : decode cX3_rounds 12 = .ok (.ireturn, 1) := dk_172 (dk_at dksX3_rounds_0 12 rfl rfl)
theorem dX3_rounds_13 : decode cX3_rounds 13 = .ok (.aload_n 0, 1) := dk_42 (dk_at dksX3_rounds_0 13 rfl rfl)
theorem dX3_rounds_14 : decode cX3_rounds 14 = .ok (.invokevirtual 85, 3) := dk_182 0 85 (dk_at dksX3_rounds_0 14 rfl rfl)
theorem dX3_rounds_17 : decode cX3_rounds 17 = .ok (.ifCond .ge 6, 3) := dk_156 0 6 (dk_at dksX3_rounds_0 17 rfl rfl)
theorem dX3_rounds_20 : decode cX3_rounds 20 = .ok (.bipush (-3), 2) := dk_16 253 (dk_at dksX3_rounds_0 20 rfl rfl)
theorem dX3_rounds_22 : decode cX3_rounds 22 = .ok (.ireturn, 1) := dk_172 (dk_at dksX3_rounds_0 22 rfl rfl)
theorem dX3_rounds_23 : decode cX3_rounds 23 = .ok (.aload_n 0, 1) := dk_42 (dk_at dksX3_rounds_0 23 rfl rfl)
theorem dX3_rounds_24 : decode cX3_rounds 24 = .ok (.invokevirtual 151, 3) := dk_182 0 151 (dk_at dksX3_rounds_1 0 rfl rfl)
theorem dX3_rounds_27 : decode cX3_rounds 27 = .ok (.aload_n 0, 1) := dk_42 (dk_at dksX3_rounds_1 3 rfl rfl)
theorem dX3_rounds_28 : decode cX3_rounds 28 = .ok (.iload_n 1, 1) := dk_27 (dk_at dksX3_rounds_1 4 rfl rfl)
theorem dX3_rounds_29 : decode cX3_rounds 29 = .ok (.invokevirtual 154, 3) := dk_182 0 154 (dk_at dksX3_rounds_1 5 rfl rfl)
theorem dX3_rounds_32 : decode cX3_rounds 32 = .ok (.ireturn, 1) := dk_172 (dk_at dksX3_rounds_1 8 rfl rfl)
abbrev cX3_in : ByteArray := prog_11_method_2_code
def yX3_in : MethodName := ⟨RX3, "in", "(III)Z"⟩
def dkwX3_in_0 : List UInt8 := [26, 27, 161, 0, 12, 26, 28, 163, 0, 7, 4, 167, 0, 4, 3, 172]
abbrev dktX3_in_0 : List UInt8 := dkwX3_in_0 ++ []
theorem dksX3_in_0 : cX3_in.data.toList.drop 0 = dktX3_in_0 := by decide +kernel
theorem dX3_in_0 : decode cX3_in 0 = .ok (.iload_n 0, 1) := dk_26 (dk_at dksX3_in_0 0 rfl rfl)
theorem dX3_in_1 : decode cX3_in 1 = .ok (.iload_n 1, 1) := dk_27 (dk_at dksX3_in_0 1 rfl rfl)
theorem dX3_in_2 : decode cX3_in 2 = .ok (.if_icmp .lt 12, 3) := dk_161 0 12 (dk_at dksX3_in_0 2 rfl rfl)
theorem dX3_in_5 : decode cX3_in 5 = .ok (.iload_n 0, 1) := dk_26 (dk_at dksX3_in_0 5 rfl rfl)
theorem dX3_in_6 : decode cX3_in 6 = .ok (.iload_n 2, 1) := dk_28 (dk_at dksX3_in_0 6 rfl rfl)
theorem dX3_in_7 : decode cX3_in 7 = .ok (.if_icmp .gt 7, 3) := dk_163 0 7 (dk_at dksX3_in_0 7 rfl rfl)
theorem dX3_in_10 : decode cX3_in 10 = .ok (.iconst 1, 1) := dk_4 (dk_at dksX3_in_0 10 rfl rfl)
theorem dX3_in_11 : decode cX3_in 11 = .ok (.goto 4, 3) := dk_167 0 4 (dk_at dksX3_in_0 11 rfl rfl)
theorem dX3_in_14 : decode cX3_in 14 = .ok (.iconst 0, 1) := dk_3 (dk_at dksX3_in_0 14 rfl rfl)
theorem dX3_in_15 : decode cX3_in 15 = .ok (.ireturn, 1) := dk_172 (dk_at dksX3_in_0 15 rfl rfl)
abbrev cX3_leader : ByteArray := prog_11_method_12_code
def yX3_leader : MethodName := ⟨RX3, "leader", "()I"⟩
def dkwX3_leader_2 : List UInt8 := [132, 1, 1, 167, 255, 237, 2, 172]
abbrev dktX3_leader_2 : List UInt8 := dkwX3_leader_2 ++ []
def dkwX3_leader_1 : List UInt8 := [180, 0, 9, 4, 46, 172, 3, 60, 27, 16, 10, 162, 0, 19, 42, 27, 182, 0, 65, 153, 0, 5, 27, 172]
abbrev dktX3_leader_1 : List UInt8 := dkwX3_leader_1 ++ dktX3_leader_2
def dkwX3_leader_0 : List UInt8 := [42, 180, 0, 9, 4, 46, 155, 0, 23, 42, 42, 180, 0, 9, 4, 46, 182, 0, 65, 153, 0, 10, 42]
abbrev dktX3_leader_0 : List UInt8 := dkwX3_leader_0 ++ dktX3_leader_1
theorem dksX3_leader_0 : cX3_leader.data.toList.drop 0 = dktX3_leader_0 := by decide +kernel
theorem dksX3_leader_1 : cX3_leader.data.toList.drop 23 = dktX3_leader_1 := dk_seg dksX3_leader_0 23 rfl rfl
theorem dksX3_leader_2 : cX3_leader.data.toList.drop 47 = dktX3_leader_2 := dk_seg dksX3_leader_1 24 rfl rfl
theorem dX3_leader_0 : decode cX3_leader 0 = .ok (.aload_n 0, 1) := dk_42 (dk_at dksX3_leader_0 0 rfl rfl)
theorem dX3_leader_1 : decode cX3_leader 1 = .ok (.getfield 9, 3) := dk_180 0 9 (dk_at dksX3_leader_0 1 rfl rfl)
theorem dX3_leader_4 : decode cX3_leader 4 = .ok (.iconst 1, 1) := dk_4 (dk_at dksX3_leader_0 4 rfl rfl)
theorem dX3_leader_5 : decode cX3_leader 5 = .ok (.iaload, 1) := dk_46 (dk_at dksX3_leader_0 5 rfl rfl)
theorem dX3_leader_6 : decode cX3_leader 6 = .ok (.ifCond .lt 23, 3) := dk_155 0 23 (dk_at dksX3_leader_0 6 rfl rfl)
theorem dX3_leader_9 : decode cX3_leader 9 = .ok (.aload_n 0, 1) := dk_42 (dk_at dksX3_leader_0 9 rfl rfl)
theorem dX3_leader_10 : decode cX3_leader 10 = .ok (.aload_n 0, 1) := dk_42 (dk_at dksX3_leader_0 10 rfl rfl)
theorem dX3_leader_11 : decode cX3_leader 11 = .ok (.getfield 9, 3) := dk_180 0 9 (dk_at dksX3_leader_0 11 rfl rfl)
theorem dX3_leader_14 : decode cX3_leader 14 = .ok (.iconst 1, 1) := dk_4 (dk_at dksX3_leader_0 14 rfl rfl)
theorem dX3_leader_15 : decode cX3_leader 15 = .ok (.iaload, 1) := dk_46 (dk_at dksX3_leader_0 15 rfl rfl)
theorem dX3_leader_16 : decode cX3_leader 16 = .ok (.invokevirtual 65, 3) := dk_182 0 65 (dk_at dksX3_leader_0 16 rfl rfl)
theorem dX3_leader_19 : decode cX3_leader 19 = .ok (.ifCond .eq 10, 3) := dk_153 0 10 (dk_at dksX3_leader_0 19 rfl rfl)
theorem dX3_leader_22 : decode cX3_leader 22 = .ok (.aload_n 0, 1) := dk_42 (dk_at dksX3_leader_0 22 rfl rfl)
theorem dX3_leader_23 : decode cX3_leader 23 = .ok (.getfield 9, 3) := dk_180 0 9 (dk_at dksX3_leader_1 0 rfl rfl)
theorem dX3_leader_26 : decode cX3_leader 26 = .ok (.iconst 1, 1) := dk_4 (dk_at dksX3_leader_1 3 rfl rfl)
theorem dX3_leader_27 : decode cX3_leader 27 = .ok (.iaload, 1) := dk_46 (dk_at dksX3_leader_1 4 rfl rfl)
theorem dX3_leader_28 : decode cX3_leader 28 = .ok (.ireturn, 1) := dk_172 (dk_at dksX3_leader_1 5 rfl rfl)
theorem dX3_leader_29 : decode cX3_leader 29 = .ok (.iconst 0, 1) := dk_3 (dk_at dksX3_leader_1 6 rfl rfl)
theorem dX3_leader_30 : decode cX3_leader 30 = .ok (.istore_n 1, 1) := dk_60 (dk_at dksX3_leader_1 7 rfl rfl)
theorem dX3_leader_31 : decode cX3_leader 31 = .ok (.iload_n 1, 1) := dk_27 (dk_at dksX3_leader_1 8 rfl rfl)
theorem dX3_leader_32 : decode cX3_leader 32 = .ok (.bipush 10, 2) := dk_16 10 (dk_at dksX3_leader_1 9 rfl rfl)
theorem dX3_leader_34 : decode cX3_leader 34 = .ok (.if_icmp .ge 19, 3) := dk_162 0 19 (dk_at dksX3_leader_1 11 rfl rfl)
theorem dX3_leader_37 : decode cX3_leader 37 = .ok (.aload_n 0, 1) := dk_42 (dk_at dksX3_leader_1 14 rfl rfl)
theorem dX3_leader_38 : decode cX3_leader 38 = .ok (.iload_n 1, 1) := dk_27 (dk_at dksX3_leader_1 15 rfl rfl)
theorem dX3_leader_39 : decode cX3_leader 39 = .ok (.invokevirtual 65, 3) := dk_182 0 65 (dk_at dksX3_leader_1 16 rfl rfl)
theorem dX3_leader_42 : decode cX3_leader 42 = .ok (.ifCond .eq 5, 3) := dk_153 0 5 (dk_at dksX3_leader_1 19 rfl rfl)
theorem dX3_leader_45 : decode cX3_leader 45 = .ok (.iload_n 1, 1) := dk_27 (dk_at dksX3_leader_1 22 rfl rfl)
theorem dX3_leader_46 : decode cX3_leader 46 = .ok (.ireturn, 1) := dk_172 (dk_at dksX3_leader_1 23 rfl rfl)
theorem dX3_leader_47 : decode cX3_leader 47 = .ok (.iinc 1 1, 3) := dk_132 1 1 (dk_at dksX3_leader_2 0 rfl rfl)
theorem dX3_leader_50 : decode cX3_leader 50 = .ok (.goto (-19), 3) := dk_167 255 237 (dk_at dksX3_leader_2 3 rfl rfl)
theorem dX3_leader_53 : decode cX3_leader 53 = .ok (.iconst (-1), 1) := dk_2 (dk_at dksX3_leader_2 6 rfl rfl)
theorem dX3_leader_54 : decode cX3_leader 54 = .ok (.ireturn, 1) := dk_172 (dk_at dksX3_leader_2 7 rfl rfl)
abbrev cX3_isMember : ByteArray := prog_11_method_7_code
def yX3_isMember : MethodName := ⟨RX3, "isMember", "(I)Z"⟩
def dkwX3_isMember_1 : List UInt8 := [155, 0, 7, 4, 167, 0, 4, 3, 172]
abbrev dktX3_isMember_1 : List UInt8 := dkwX3_isMember_1 ++ []
def dkwX3_isMember_0 : List UInt8 := [27, 3, 42, 180, 0, 9, 3, 46, 4, 100, 184, 0, 57, 153, 0, 16, 42, 27, 3, 182, 0, 61]
abbrev dktX3_isMember_0 : List UInt8 := dkwX3_isMember_0 ++ dktX3_isMember_1
theorem dksX3_isMember_0 : cX3_isMember.data.toList.drop 0 = dktX3_isMember_0 := by decide +kernel
theorem dksX3_isMember_1 : cX3_isMember.data.toList.drop 22 = dktX3_isMember_1 := dk_seg dksX3_isMember_0 22 rfl rfl
theorem dX3_isMember_0 : decode cX3_isMember 0 = .ok (.iload_n 1, 1) := dk_27 (dk_at dksX3_isMember_0 0 rfl rfl)
theorem dX3_isMember_1 : decode cX3_isMember 1 = .ok (.iconst 0, 1) := dk_3 (dk_at dksX3_isMember_0 1 rfl rfl)
theorem dX3_isMember_2 : decode cX3_isMember 2 = .ok (.aload_n 0, 1) := dk_42 (dk_at dksX3_isMember_0 2 rfl rfl)
theorem dX3_isMember_3 : decode cX3_isMember 3 = .ok (.getfield 9, 3) := dk_180 0 9 (dk_at dksX3_isMember_0 3 rfl rfl)
theorem dX3_isMember_6 : decode cX3_isMember 6 = .ok (.iconst 0, 1) := dk_3 (dk_at dksX3_isMember_0 6 rfl rfl)
theorem dX3_isMember_7 : decode cX3_isMember 7 = .ok (.iaload, 1) := dk_46 (dk_at dksX3_isMember_0 7 rfl rfl)
theorem dX3_isMember_8 : decode cX3_isMember 8 = .ok (.iconst 1, 1) := dk_4 (dk_at dksX3_isMember_0 8 rfl rfl)
theorem dX3_isMember_9 : decode cX3_isMember 9 = .ok (.isub, 1) := dk_100 (dk_at dksX3_isMember_0 9 rfl rfl)
theorem dX3_isMember_10 : decode cX3_isMember 10 = .ok (.invokestatic 57, 3) := dk_184 0 57 (dk_at dksX3_isMember_0 10 rfl rfl)
theorem dX3_isMember_13 : decode cX3_isMember 13 = .ok (.ifCond .eq 16, 3) := dk_153 0 16 (dk_at dksX3_isMember_0 13 rfl rfl)
theorem dX3_isMember_16 : decode cX3_isMember 16 = .ok (.aload_n 0, 1) := dk_42 (dk_at dksX3_isMember_0 16 rfl rfl)
theorem dX3_isMember_17 : decode cX3_isMember 17 = .ok (.iload_n 1, 1) := dk_27 (dk_at dksX3_isMember_0 17 rfl rfl)
theorem dX3_isMember_18 : decode cX3_isMember 18 = .ok (.iconst 0, 1) := dk_3 (dk_at dksX3_isMember_0 18 rfl rfl)
theorem dX3_isMember_19 : decode cX3_isMember 19 = .ok (.invokevirtual 61, 3) := dk_182 0 61 (dk_at dksX3_isMember_0 19 rfl rfl)
theorem dX3_isMember_22 : decode cX3_isMember 22 = .ok (.ifCond .lt 7, 3) := dk_155 0 7 (dk_at dksX3_isMember_1 0 rfl rfl)
theorem dX3_isMember_25 : decode cX3_isMember 25 = .ok (.iconst 1, 1) := dk_4 (dk_at dksX3_isMember_1 3 rfl rfl)
theorem dX3_isMember_26 : decode cX3_isMember 26 = .ok (.goto 4, 3) := dk_167 0 4 (dk_at dksX3_isMember_1 4 rfl rfl)
theorem dX3_isMember_29 : decode cX3_isMember 29 = .ok (.iconst 0, 1) := dk_3 (dk_at dksX3_isMember_1 7 rfl rfl)
theorem dX3_isMember_30 : decode cX3_isMember 30 = .ok (.ireturn, 1) := dk_172 (dk_at dksX3_isMember_1 8 rfl rfl)
abbrev cX3_of : ByteArray := prog_11_method_5_code
def yX3_of : MethodName := ⟨RX3, "of", "(II)I"⟩
def dkwX3_of_0 : List UInt8 := [42, 180, 0, 9, 16, 12, 16, 6, 27, 104, 96, 28, 96, 46, 172]
abbrev dktX3_of_0 : List UInt8 := dkwX3_of_0 ++ []
theorem dksX3_of_0 : cX3_of.data.toList.drop 0 = dktX3_of_0 := by decide +kernel
theorem dX3_of_0 : decode cX3_of 0 = .ok (.aload_n 0, 1) := dk_42 (dk_at dksX3_of_0 0 rfl rfl)
theorem dX3_of_1 : decode cX3_of 1 = .ok (.getfield 9, 3) := dk_180 0 9 (dk_at dksX3_of_0 1 rfl rfl)
theorem dX3_of_4 : decode cX3_of 4 = .ok (.bipush 12, 2) := dk_16 12 (dk_at dksX3_of_0 4 rfl rfl)
theorem dX3_of_6 : decode cX3_of 6 = .ok (.bipush 6, 2) := dk_16 6 (dk_at dksX3_of_0 6 rfl rfl)
theorem dX3_of_8 : decode cX3_of 8 = .ok (.iload_n 1, 1) := dk_27 (dk_at dksX3_of_0 8 rfl rfl)
theorem dX3_of_9 : decode cX3_of 9 = .ok (.imul, 1) := dk_104 (dk_at dksX3_of_0 9 rfl rfl)
theorem dX3_of_10 : decode cX3_of 10 = .ok (.iadd, 1) := dk_96 (dk_at dksX3_of_0 10 rfl rfl)
theorem dX3_of_11 : decode cX3_of 11 = .ok (.iload_n 2, 1) := dk_28 (dk_at dksX3_of_0 11 rfl rfl)
theorem dX3_of_12 : decode cX3_of 12 = .ok (.iadd, 1) := dk_96 (dk_at dksX3_of_0 12 rfl rfl)
theorem dX3_of_13 : decode cX3_of 13 = .ok (.iaload, 1) := dk_46 (dk_at dksX3_of_0 13 rfl rfl)
theorem dX3_of_14 : decode cX3_of 14 = .ok (.ireturn, 1) := dk_172 (dk_at dksX3_of_0 14 rfl rfl)
abbrev cX3_keeps : ByteArray := prog_11_method_4_code
def yX3_keeps : MethodName := ⟨RX3, "keeps", "()V"⟩
def dkwX3_keeps_2 : List UInt8 := [4, 96, 181, 0, 49, 42, 3, 42, 180, 0, 49, 182, 0, 53, 177]
abbrev dktX3_keeps_2 : List UInt8 := dkwX3_keeps_2 ++ []
def dkwX3_keeps_1 : List UInt8 := [182, 0, 53, 132, 1, 1, 167, 255, 239, 42, 89, 180, 0, 49, 4, 100, 181, 0, 49, 42, 89, 180, 0, 49]
abbrev dktX3_keeps_1 : List UInt8 := dkwX3_keeps_1 ++ dktX3_keeps_2
def dkwX3_keeps_0 : List UInt8 := [42, 180, 0, 49, 16, 8, 160, 0, 35, 4, 60, 27, 16, 8, 162, 0, 17, 42, 27, 4, 96, 27]
abbrev dktX3_keeps_0 : List UInt8 := dkwX3_keeps_0 ++ dktX3_keeps_1
theorem dksX3_keeps_0 : cX3_keeps.data.toList.drop 0 = dktX3_keeps_0 := by decide +kernel
theorem dksX3_keeps_1 : cX3_keeps.data.toList.drop 22 = dktX3_keeps_1 := dk_seg dksX3_keeps_0 22 rfl rfl
theorem dksX3_keeps_2 : cX3_keeps.data.toList.drop 46 = dktX3_keeps_2 := dk_seg dksX3_keeps_1 24 rfl rfl
theorem dX3_keeps_0 : decode cX3_keeps 0 = .ok (.aload_n 0, 1) := dk_42 (dk_at dksX3_keeps_0 0 rfl rfl)
theorem dX3_keeps_1 : decode cX3_keeps 1 = .ok (.getfield 49, 3) := dk_180 0 49 (dk_at dksX3_keeps_0 1 rfl rfl)
theorem dX3_keeps_4 : decode cX3_keeps 4 = .ok (.bipush 8, 2) := dk_16 8 (dk_at dksX3_keeps_0 4 rfl rfl)
theorem dX3_keeps_6 : decode cX3_keeps 6 = .ok (.if_icmp .ne 35, 3) := dk_160 0 35 (dk_at dksX3_keeps_0 6 rfl rfl)
theorem dX3_keeps_9 : decode cX3_keeps 9 = .ok (.iconst 1, 1) := dk_4 (dk_at dksX3_keeps_0 9 rfl rfl)
theorem dX3_keeps_10 : decode cX3_keeps 10 = .ok (.istore_n 1, 1) := dk_60 (dk_at dksX3_keeps_0 10 rfl rfl)
theorem dX3_keeps_11 : decode cX3_keeps 11 = .ok (.iload_n 1, 1) := dk_27 (dk_at dksX3_keeps_0 11 rfl rfl)
theorem dX3_keeps_12 : decode cX3_keeps 12 = .ok (.bipush 8, 2) := dk_16 8 (dk_at dksX3_keeps_0 12 rfl rfl)
theorem dX3_keeps_14 : decode cX3_keeps 14 = .ok (.if_icmp .ge 17, 3) := dk_162 0 17 (dk_at dksX3_keeps_0 14 rfl rfl)
theorem dX3_keeps_17 : decode cX3_keeps 17 = .ok (.aload_n 0, 1) := dk_42 (dk_at dksX3_keeps_0 17 rfl rfl)
theorem dX3_keeps_18 : decode cX3_keeps 18 = .ok (.iload_n 1, 1) := dk_27 (dk_at dksX3_keeps_0 18 rfl rfl)
theorem dX3_keeps_19 : decode cX3_keeps 19 = .ok (.iconst 1, 1) := dk_4 (dk_at dksX3_keeps_0 19 rfl rfl)
theorem dX3_keeps_20 : decode cX3_keeps 20 = .ok (.iadd, 1) := dk_96 (dk_at dksX3_keeps_0 20 rfl rfl)
theorem dX3_keeps_21 : decode cX3_keeps 21 = .ok (.iload_n 1, 1) := dk_27 (dk_at dksX3_keeps_0 21 rfl rfl)
theorem dX3_keeps_22 : decode cX3_keeps 22 = .ok (.invokevirtual 53, 3) := dk_182 0 53 (dk_at dksX3_keeps_1 0 rfl rfl)
theorem dX3_keeps_25 : decode cX3_keeps 25 = .ok (.iinc 1 1, 3) := dk_132 1 1 (dk_at dksX3_keeps_1 3 rfl rfl)
theorem dX3_keeps_28 : decode cX3_keeps 28 = .ok (.goto (-17), 3) := dk_167 255 239 (dk_at dksX3_keeps_1 6 rfl rfl)
theorem dX3_keeps_31 : decode cX3_keeps 31 = .ok (.aload_n 0, 1) := dk_42 (dk_at dksX3_keeps_1 9 rfl rfl)
theorem dX3_keeps_32 : decode cX3_keeps 32 = .ok (.dup, 1) := dk_89 (dk_at dksX3_keeps_1 10 rfl rfl)
theorem dX3_keeps_33 : decode cX3_keeps 33 = .ok (.getfield 49, 3) := dk_180 0 49 (dk_at dksX3_keeps_1 11 rfl rfl)
theorem dX3_keeps_36 : decode cX3_keeps 36 = .ok (.iconst 1, 1) := dk_4 (dk_at dksX3_keeps_1 14 rfl rfl)
theorem dX3_keeps_37 : decode cX3_keeps 37 = .ok (.isub, 1) := dk_100 (dk_at dksX3_keeps_1 15 rfl rfl)
theorem dX3_keeps_38 : decode cX3_keeps 38 = .ok (.putfield 49, 3) := dk_181 0 49 (dk_at dksX3_keeps_1 16 rfl rfl)
theorem dX3_keeps_41 : decode cX3_keeps 41 = .ok (.aload_n 0, 1) := dk_42 (dk_at dksX3_keeps_1 19 rfl rfl)
theorem dX3_keeps_42 : decode cX3_keeps 42 = .ok (.dup, 1) := dk_89 (dk_at dksX3_keeps_1 20 rfl rfl)
theorem dX3_keeps_43 : decode cX3_keeps 43 = .ok (.getfield 49, 3) := dk_180 0 49 (dk_at dksX3_keeps_1 21 rfl rfl)
theorem dX3_keeps_46 : decode cX3_keeps 46 = .ok (.iconst 1, 1) := dk_4 (dk_at dksX3_keeps_2 0 rfl rfl)
theorem dX3_keeps_47 : decode cX3_keeps 47 = .ok (.iadd, 1) := dk_96 (dk_at dksX3_keeps_2 1 rfl rfl)
theorem dX3_keeps_48 : decode cX3_keeps 48 = .ok (.putfield 49, 3) := dk_181 0 49 (dk_at dksX3_keeps_2 2 rfl rfl)
theorem dX3_keeps_51 : decode cX3_keeps 51 = .ok (.aload_n 0, 1) := dk_42 (dk_at dksX3_keeps_2 5 rfl rfl)
theorem dX3_keeps_52 : decode cX3_keeps 52 = .ok (.iconst 0, 1) := dk_3 (dk_at dksX3_keeps_2 6 rfl rfl)
theorem dX3_keeps_53 : decode cX3_keeps 53 = .ok (.aload_n 0, 1) := dk_42 (dk_at dksX3_keeps_2 7 rfl rfl)
theorem dX3_keeps_54 : decode cX3_keeps 54 = .ok (.getfield 49, 3) := dk_180 0 49 (dk_at dksX3_keeps_2 8 rfl rfl)
theorem dX3_keeps_57 : decode cX3_keeps 57 = .ok (.invokevirtual 53, 3) := dk_182 0 53 (dk_at dksX3_keeps_2 11 rfl rfl)
theorem dX3_keeps_60 : decode cX3_keeps 60 = .ok (.return_, 1) := dk_177 (dk_at dksX3_keeps_2 14 rfl rfl)
abbrev cX3_copies : ByteArray := prog_11_method_3_code
def yX3_copies : MethodName := ⟨RX3, "copies", "(II)V"⟩
def dkwX3_copies_1 : List UInt8 := [17, 1, 2, 27, 104, 29, 96, 46, 79, 132, 3, 1, 167, 255, 222, 177]
abbrev dktX3_copies_1 : List UInt8 := dkwX3_copies_1 ++ []
def dkwX3_copies_0 : List UInt8 := [3, 62, 29, 17, 1, 2, 162, 0, 33, 42, 180, 0, 9, 17, 1, 2, 28, 104, 29, 96, 42, 180, 0, 9]
abbrev dktX3_copies_0 : List UInt8 := dkwX3_copies_0 ++ dktX3_copies_1
theorem dksX3_copies_0 : cX3_copies.data.toList.drop 0 = dktX3_copies_0 := by decide +kernel
theorem dksX3_copies_1 : cX3_copies.data.toList.drop 24 = dktX3_copies_1 := dk_seg dksX3_copies_0 24 rfl rfl
theorem dX3_copies_0 : decode cX3_copies 0 = .ok (.iconst 0, 1) := dk_3 (dk_at dksX3_copies_0 0 rfl rfl)
theorem dX3_copies_1 : decode cX3_copies 1 = .ok (.istore_n 3, 1) := dk_62 (dk_at dksX3_copies_0 1 rfl rfl)
theorem dX3_copies_2 : decode cX3_copies 2 = .ok (.iload_n 3, 1) := dk_29 (dk_at dksX3_copies_0 2 rfl rfl)
theorem dX3_copies_3 : decode cX3_copies 3 = .ok (.sipush 258, 3) := dk_17 1 2 (dk_at dksX3_copies_0 3 rfl rfl)
theorem dX3_copies_6 : decode cX3_copies 6 = .ok (.if_icmp .ge 33, 3) := dk_162 0 33 (dk_at dksX3_copies_0 6 rfl rfl)
theorem dX3_copies_9 : decode cX3_copies 9 = .ok (.aload_n 0, 1) := dk_42 (dk_at dksX3_copies_0 9 rfl rfl)
theorem dX3_copies_10 : decode cX3_copies 10 = .ok (.getfield 9, 3) := dk_180 0 9 (dk_at dksX3_copies_0 10 rfl rfl)
theorem dX3_copies_13 : decode cX3_copies 13 = .ok (.sipush 258, 3) := dk_17 1 2 (dk_at dksX3_copies_0 13 rfl rfl)
theorem dX3_copies_16 : decode cX3_copies 16 = .ok (.iload_n 2, 1) := dk_28 (dk_at dksX3_copies_0 16 rfl rfl)
theorem dX3_copies_17 : decode cX3_copies 17 = .ok (.imul, 1) := dk_104 (dk_at dksX3_copies_0 17 rfl rfl)
theorem dX3_copies_18 : decode cX3_copies 18 = .ok (.iload_n 3, 1) := dk_29 (dk_at dksX3_copies_0 18 rfl rfl)
theorem dX3_copies_19 : decode cX3_copies 19 = .ok (.iadd, 1) := dk_96 (dk_at dksX3_copies_0 19 rfl rfl)
theorem dX3_copies_20 : decode cX3_copies 20 = .ok (.aload_n 0, 1) := dk_42 (dk_at dksX3_copies_0 20 rfl rfl)
theorem dX3_copies_21 : decode cX3_copies 21 = .ok (.getfield 9, 3) := dk_180 0 9 (dk_at dksX3_copies_0 21 rfl rfl)
theorem dX3_copies_24 : decode cX3_copies 24 = .ok (.sipush 258, 3) := dk_17 1 2 (dk_at dksX3_copies_1 0 rfl rfl)
theorem dX3_copies_27 : decode cX3_copies 27 = .ok (.iload_n 1, 1) := dk_27 (dk_at dksX3_copies_1 3 rfl rfl)
theorem dX3_copies_28 : decode cX3_copies 28 = .ok (.imul, 1) := dk_104 (dk_at dksX3_copies_1 4 rfl rfl)
theorem dX3_copies_29 : decode cX3_copies 29 = .ok (.iload_n 3, 1) := dk_29 (dk_at dksX3_copies_1 5 rfl rfl)
theorem dX3_copies_30 : decode cX3_copies 30 = .ok (.iadd, 1) := dk_96 (dk_at dksX3_copies_1 6 rfl rfl)
theorem dX3_copies_31 : decode cX3_copies 31 = .ok (.iaload, 1) := dk_46 (dk_at dksX3_copies_1 7 rfl rfl)
theorem dX3_copies_32 : decode cX3_copies 32 = .ok (.iastore, 1) := dk_79 (dk_at dksX3_copies_1 8 rfl rfl)
theorem dX3_copies_33 : decode cX3_copies 33 = .ok (.iinc 3 1, 3) := dk_132 3 1 (dk_at dksX3_copies_1 9 rfl rfl)
theorem dX3_copies_36 : decode cX3_copies 36 = .ok (.goto (-34), 3) := dk_167 255 222 (dk_at dksX3_copies_1 12 rfl rfl)
theorem dX3_copies_39 : decode cX3_copies 39 = .ok (.return_, 1) := dk_177 (dk_at dksX3_copies_1 15 rfl rfl)
abbrev cX3_makes : ByteArray := prog_11_method_35_code
def yX3_makes : MethodName := ⟨RX3, "makes", "(I)I"⟩
def dkwX3_makes_4 : List UInt8 := [167, 0, 4, 3, 96, 61, 132, 3, 1, 167, 255, 216, 28, 172]
abbrev dktX3_makes_4 : List UInt8 := dkwX3_makes_4 ++ []
def dkwX3_makes_3 : List UInt8 := [182, 0, 65, 153, 0, 22, 42, 29, 3, 182, 0, 61, 42, 180, 0, 37, 29, 46, 159, 0, 7, 4]
abbrev dktX3_makes_3 : List UInt8 := dkwX3_makes_3 ++ dktX3_makes_4
def dkwX3_makes_2 : List UInt8 := [182, 0, 148, 132, 2, 1, 167, 255, 244, 3, 61, 3, 62, 29, 16, 10, 162, 0, 40, 28, 42, 29]
abbrev dktX3_makes_2 : List UInt8 := dkwX3_makes_2 ++ dktX3_makes_3
def dkwX3_makes_1 : List UInt8 := [182, 0, 61, 167, 0, 4, 2, 79, 132, 2, 1, 167, 255, 223, 3, 61, 28, 27, 162, 0, 13, 42]
abbrev dktX3_makes_1 : List UInt8 := dkwX3_makes_1 ++ dktX3_makes_2
def dkwX3_makes_0 : List UInt8 := [3, 61, 28, 16, 10, 162, 0, 33, 42, 180, 0, 37, 28, 42, 28, 182, 0, 65, 153, 0, 12, 42, 28, 3]
abbrev dktX3_makes_0 : List UInt8 := dkwX3_makes_0 ++ dktX3_makes_1
theorem dksX3_makes_0 : cX3_makes.data.toList.drop 0 = dktX3_makes_0 := by decide +kernel
theorem dksX3_makes_1 : cX3_makes.data.toList.drop 24 = dktX3_makes_1 := dk_seg dksX3_makes_0 24 rfl rfl
theorem dksX3_makes_2 : cX3_makes.data.toList.drop 46 = dktX3_makes_2 := dk_seg dksX3_makes_1 22 rfl rfl
theorem dksX3_makes_3 : cX3_makes.data.toList.drop 68 = dktX3_makes_3 := dk_seg dksX3_makes_2 22 rfl rfl
theorem dksX3_makes_4 : cX3_makes.data.toList.drop 90 = dktX3_makes_4 := dk_seg dksX3_makes_3 22 rfl rfl
theorem dX3_makes_0 : decode cX3_makes 0 = .ok (.iconst 0, 1) := dk_3 (dk_at dksX3_makes_0 0 rfl rfl)
theorem dX3_makes_1 : decode cX3_makes 1 = .ok (.istore_n 2, 1) := dk_61 (dk_at dksX3_makes_0 1 rfl rfl)
theorem dX3_makes_2 : decode cX3_makes 2 = .ok (.iload_n 2, 1) := dk_28 (dk_at dksX3_makes_0 2 rfl rfl)
theorem dX3_makes_3 : decode cX3_makes 3 = .ok (.bipush 10, 2) := dk_16 10 (dk_at dksX3_makes_0 3 rfl rfl)
theorem dX3_makes_5 : decode cX3_makes 5 = .ok (.if_icmp .ge 33, 3) := dk_162 0 33 (dk_at dksX3_makes_0 5 rfl rfl)
theorem dX3_makes_8 : decode cX3_makes 8 = .ok (.aload_n 0, 1) := dk_42 (dk_at dksX3_makes_0 8 rfl rfl)
theorem dX3_makes_9 : decode cX3_makes 9 = .ok (.getfield 37, 3) := dk_180 0 37 (dk_at dksX3_makes_0 9 rfl rfl)
theorem dX3_makes_12 : decode cX3_makes 12 = .ok (.iload_n 2, 1) := dk_28 (dk_at dksX3_makes_0 12 rfl rfl)
theorem dX3_makes_13 : decode cX3_makes 13 = .ok (.aload_n 0, 1) := dk_42 (dk_at dksX3_makes_0 13 rfl rfl)
theorem dX3_makes_14 : decode cX3_makes 14 = .ok (.iload_n 2, 1) := dk_28 (dk_at dksX3_makes_0 14 rfl rfl)
theorem dX3_makes_15 : decode cX3_makes 15 = .ok (.invokevirtual 65, 3) := dk_182 0 65 (dk_at dksX3_makes_0 15 rfl rfl)
theorem dX3_makes_18 : decode cX3_makes 18 = .ok (.ifCond .eq 12, 3) := dk_153 0 12 (dk_at dksX3_makes_0 18 rfl rfl)
theorem dX3_makes_21 : decode cX3_makes 21 = .ok (.aload_n 0, 1) := dk_42 (dk_at dksX3_makes_0 21 rfl rfl)
theorem dX3_makes_22 : decode cX3_makes 22 = .ok (.iload_n 2, 1) := dk_28 (dk_at dksX3_makes_0 22 rfl rfl)
theorem dX3_makes_23 : decode cX3_makes 23 = .ok (.iconst 0, 1) := dk_3 (dk_at dksX3_makes_0 23 rfl rfl)
theorem dX3_makes_24 : decode cX3_makes 24 = .ok (.invokevirtual 61, 3) := dk_182 0 61 (dk_at dksX3_makes_1 0 rfl rfl)
theorem dX3_makes_27 : decode cX3_makes 27 = .ok (.goto 4, 3) := dk_167 0 4 (dk_at dksX3_makes_1 3 rfl rfl)
theorem dX3_makes_30 : decode cX3_makes 30 = .ok (.iconst (-1), 1) := dk_2 (dk_at dksX3_makes_1 6 rfl rfl)
theorem dX3_makes_31 : decode cX3_makes 31 = .ok (.iastore, 1) := dk_79 (dk_at dksX3_makes_1 7 rfl rfl)
theorem dX3_makes_32 : decode cX3_makes 32 = .ok (.iinc 2 1, 3) := dk_132 2 1 (dk_at dksX3_makes_1 8 rfl rfl)
theorem dX3_makes_35 : decode cX3_makes 35 = .ok (.goto (-33), 3) := dk_167 255 223 (dk_at dksX3_makes_1 11 rfl rfl)
theorem dX3_makes_38 : decode cX3_makes 38 = .ok (.iconst 0, 1) := dk_3 (dk_at dksX3_makes_1 14 rfl rfl)
theorem dX3_makes_39 : decode cX3_makes 39 = .ok (.istore_n 2, 1) := dk_61 (dk_at dksX3_makes_1 15 rfl rfl)
theorem dX3_makes_40 : decode cX3_makes 40 = .ok (.iload_n 2, 1) := dk_28 (dk_at dksX3_makes_1 16 rfl rfl)
theorem dX3_makes_41 : decode cX3_makes 41 = .ok (.iload_n 1, 1) := dk_27 (dk_at dksX3_makes_1 17 rfl rfl)
theorem dX3_makes_42 : decode cX3_makes 42 = .ok (.if_icmp .ge 13, 3) := dk_162 0 13 (dk_at dksX3_makes_1 18 rfl rfl)
theorem dX3_makes_45 : decode cX3_makes 45 = .ok (.aload_n 0, 1) := dk_42 (dk_at dksX3_makes_1 21 rfl rfl)
theorem dX3_makes_46 : decode cX3_makes 46 = .ok (.invokevirtual 148, 3) := dk_182 0 148 (dk_at dksX3_makes_2 0 rfl rfl)
theorem dX3_makes_49 : decode cX3_makes 49 = .ok (.iinc 2 1, 3) := dk_132 2 1 (dk_at dksX3_makes_2 3 rfl rfl)
theorem dX3_makes_52 : decode cX3_makes 52 = .ok (.goto (-12), 3) := dk_167 255 244 (dk_at dksX3_makes_2 6 rfl rfl)
theorem dX3_makes_55 : decode cX3_makes 55 = .ok (.iconst 0, 1) := dk_3 (dk_at dksX3_makes_2 9 rfl rfl)
theorem dX3_makes_56 : decode cX3_makes 56 = .ok (.istore_n 2, 1) := dk_61 (dk_at dksX3_makes_2 10 rfl rfl)
theorem dX3_makes_57 : decode cX3_makes 57 = .ok (.iconst 0, 1) := dk_3 (dk_at dksX3_makes_2 11 rfl rfl)
theorem dX3_makes_58 : decode cX3_makes 58 = .ok (.istore_n 3, 1) := dk_62 (dk_at dksX3_makes_2 12 rfl rfl)
theorem dX3_makes_59 : decode cX3_makes 59 = .ok (.iload_n 3, 1) := dk_29 (dk_at dksX3_makes_2 13 rfl rfl)
theorem dX3_makes_60 : decode cX3_makes 60 = .ok (.bipush 10, 2) := dk_16 10 (dk_at dksX3_makes_2 14 rfl rfl)
theorem dX3_makes_62 : decode cX3_makes 62 = .ok (.if_icmp .ge 40, 3) := dk_162 0 40 (dk_at dksX3_makes_2 16 rfl rfl)
theorem dX3_makes_65 : decode cX3_makes 65 = .ok (.iload_n 2, 1) := dk_28 (dk_at dksX3_makes_2 19 rfl rfl)
theorem dX3_makes_66 : decode cX3_makes 66 = .ok (.aload_n 0, 1) := dk_42 (dk_at dksX3_makes_2 20 rfl rfl)
theorem dX3_makes_67 : decode cX3_makes 67 = .ok (.iload_n 3, 1) := dk_29 (dk_at dksX3_makes_2 21 rfl rfl)
theorem dX3_makes_68 : decode cX3_makes 68 = .ok (.invokevirtual 65, 3) := dk_182 0 65 (dk_at dksX3_makes_3 0 rfl rfl)
theorem dX3_makes_71 : decode cX3_makes 71 = .ok (.ifCond .eq 22, 3) := dk_153 0 22 (dk_at dksX3_makes_3 3 rfl rfl)
theorem dX3_makes_74 : decode cX3_makes 74 = .ok (.aload_n 0, 1) := dk_42 (dk_at dksX3_makes_3 6 rfl rfl)
theorem dX3_makes_75 : decode cX3_makes 75 = .ok (.iload_n 3, 1) := dk_29 (dk_at dksX3_makes_3 7 rfl rfl)
theorem dX3_makes_76 : decode cX3_makes 76 = .ok (.iconst 0, 1) := dk_3 (dk_at dksX3_makes_3 8 rfl rfl)
theorem dX3_makes_77 : decode cX3_makes 77 = .ok (.invokevirtual 61, 3) := dk_182 0 61 (dk_at dksX3_makes_3 9 rfl rfl)
theorem dX3_makes_80 : decode cX3_makes 80 = .ok (.aload_n 0, 1) := dk_42 (dk_at dksX3_makes_3 12 rfl rfl)
theorem dX3_makes_81 : decode cX3_makes 81 = .ok (.getfield 37, 3) := dk_180 0 37 (dk_at dksX3_makes_3 13 rfl rfl)
theorem dX3_makes_84 : decode cX3_makes 84 = .ok (.iload_n 3, 1) := dk_29 (dk_at dksX3_makes_3 16 rfl rfl)
theorem dX3_makes_85 : decode cX3_makes 85 = .ok (.iaload, 1) := dk_46 (dk_at dksX3_makes_3 17 rfl rfl)
theorem dX3_makes_86 : decode cX3_makes 86 = .ok (.if_icmp .eq 7, 3) := dk_159 0 7 (dk_at dksX3_makes_3 18 rfl rfl)
theorem dX3_makes_89 : decode cX3_makes 89 = .ok (.iconst 1, 1) := dk_4 (dk_at dksX3_makes_3 21 rfl rfl)
theorem dX3_makes_90 : decode cX3_makes 90 = .ok (.goto 4, 3) := dk_167 0 4 (dk_at dksX3_makes_4 0 rfl rfl)
theorem dX3_makes_93 : decode cX3_makes 93 = .ok (.iconst 0, 1) := dk_3 (dk_at dksX3_makes_4 3 rfl rfl)
theorem dX3_makes_94 : decode cX3_makes 94 = .ok (.iadd, 1) := dk_96 (dk_at dksX3_makes_4 4 rfl rfl)
theorem dX3_makes_95 : decode cX3_makes 95 = .ok (.istore_n 2, 1) := dk_61 (dk_at dksX3_makes_4 5 rfl rfl)
theorem dX3_makes_96 : decode cX3_makes 96 = .ok (.iinc 3 1, 3) := dk_132 3 1 (dk_at dksX3_makes_4 6 rfl rfl)
theorem dX3_makes_99 : decode cX3_makes 99 = .ok (.goto (-40), 3) := dk_167 255 216 (dk_at dksX3_makes_4 9 rfl rfl)
theorem dX3_makes_102 : decode cX3_makes 102 = .ok (.iload_n 2, 1) := dk_28 (dk_at dksX3_makes_4 12 rfl rfl)
theorem dX3_makes_103 : decode cX3_makes 103 = .ok (.ireturn, 1) := dk_172 (dk_at dksX3_makes_4 13 rfl rfl)
abbrev cX3_round : ByteArray := prog_11_method_34_code
def yX3_round : MethodName := ⟨RX3, "round", "()V"⟩
def dkwX3_round_9 : List UInt8 := [162, 0, 19, 42, 42, 180, 0, 31, 28, 46, 182, 0, 145, 132, 2, 1, 167, 255, 238, 177]
abbrev dktX3_round_9 : List UInt8 := dkwX3_round_9 ++ []
def dkwX3_round_8 : List UInt8 := [28, 79, 42, 180, 0, 34, 21, 4, 29, 79, 132, 1, 1, 132, 2, 1, 167, 255, 72, 3, 61, 28, 27]
abbrev dktX3_round_8 : List UInt8 := dkwX3_round_8 ++ dktX3_round_9
def dkwX3_round_7 : List UInt8 := [21, 4, 42, 180, 0, 34, 21, 4, 4, 100, 46, 79, 132, 4, 255, 167, 255, 203, 42, 180, 0, 31, 21, 4]
abbrev dktX3_round_7 : List UInt8 := dkwX3_round_7 ++ dktX3_round_8
def dkwX3_round_6 : List UInt8 := [162, 0, 41, 42, 180, 0, 31, 21, 4, 42, 180, 0, 31, 21, 4, 4, 100, 46, 79, 42, 180, 0, 34]
abbrev dktX3_round_6 : List UInt8 := dkwX3_round_6 ++ dktX3_round_7
def dkwX3_round_5 : List UInt8 := [154, 0, 6, 167, 0, 81, 27, 54, 4, 21, 4, 158, 0, 54, 42, 180, 0, 34, 21, 4, 4, 100, 46, 29]
abbrev dktX3_round_5 : List UInt8 := dkwX3_round_5 ++ dktX3_round_6
def dkwX3_round_4 : List UInt8 := [180, 0, 13, 16, 120, 42, 180, 0, 25, 28, 46, 104, 42, 28, 3, 182, 0, 61, 96, 46, 62, 29]
abbrev dktX3_round_4 : List UInt8 := dkwX3_round_4 ++ dktX3_round_5
def dkwX3_round_3 : List UInt8 := [156, 0, 7, 5, 167, 0, 4, 4, 182, 0, 114, 42, 180, 0, 25, 28, 46, 156, 0, 6, 167, 0, 110, 42]
abbrev dktX3_round_3 : List UInt8 := dkwX3_round_3 ++ dktX3_round_4
def dkwX3_round_2 : List UInt8 := [182, 0, 114, 28, 42, 182, 0, 85, 160, 0, 6, 167, 0, 142, 42, 28, 8, 42, 180, 0, 25, 28, 46]
abbrev dktX3_round_2 : List UInt8 := dkwX3_round_2 ++ dktX3_round_3
def dkwX3_round_1 : List UInt8 := [42, 28, 182, 0, 65, 154, 0, 6, 167, 0, 167, 42, 28, 7, 42, 28, 7, 182, 0, 61, 4, 96]
abbrev dktX3_round_1 : List UInt8 := dkwX3_round_1 ++ dktX3_round_2
def dkwX3_round_0 : List UInt8 := [42, 3, 4, 182, 0, 118, 42, 182, 0, 142, 42, 182, 0, 111, 3, 60, 3, 61, 28, 16, 10, 162, 0, 184]
abbrev dktX3_round_0 : List UInt8 := dkwX3_round_0 ++ dktX3_round_1
theorem dksX3_round_0 : cX3_round.data.toList.drop 0 = dktX3_round_0 := by decide +kernel
theorem dksX3_round_1 : cX3_round.data.toList.drop 24 = dktX3_round_1 := dk_seg dksX3_round_0 24 rfl rfl
theorem dksX3_round_2 : cX3_round.data.toList.drop 46 = dktX3_round_2 := dk_seg dksX3_round_1 22 rfl rfl
theorem dksX3_round_3 : cX3_round.data.toList.drop 69 = dktX3_round_3 := dk_seg dksX3_round_2 23 rfl rfl
theorem dksX3_round_4 : cX3_round.data.toList.drop 93 = dktX3_round_4 := dk_seg dksX3_round_3 24 rfl rfl
theorem dksX3_round_5 : cX3_round.data.toList.drop 115 = dktX3_round_5 := dk_seg dksX3_round_4 22 rfl rfl
theorem dksX3_round_6 : cX3_round.data.toList.drop 139 = dktX3_round_6 := dk_seg dksX3_round_5 24 rfl rfl
theorem dksX3_round_7 : cX3_round.data.toList.drop 162 = dktX3_round_7 := dk_seg dksX3_round_6 23 rfl rfl
theorem dksX3_round_8 : cX3_round.data.toList.drop 186 = dktX3_round_8 := dk_seg dksX3_round_7 24 rfl rfl
theorem dksX3_round_9 : cX3_round.data.toList.drop 209 = dktX3_round_9 := dk_seg dksX3_round_8 23 rfl rfl
theorem dX3_round_0 : decode cX3_round 0 = .ok (.aload_n 0, 1) := dk_42 (dk_at dksX3_round_0 0 rfl rfl)
theorem dX3_round_1 : decode cX3_round 1 = .ok (.iconst 0, 1) := dk_3 (dk_at dksX3_round_0 1 rfl rfl)
theorem dX3_round_2 : decode cX3_round 2 = .ok (.iconst 1, 1) := dk_4 (dk_at dksX3_round_0 2 rfl rfl)
theorem dX3_round_3 : decode cX3_round 3 = .ok (.invokevirtual 118, 3) := dk_182 0 118 (dk_at dksX3_round_0 3 rfl rfl)
theorem dX3_round_6 : decode cX3_round 6 = .ok (.aload_n 0, 1) := dk_42 (dk_at dksX3_round_0 6 rfl rfl)
theorem dX3_round_7 : decode cX3_round 7 = .ok (.invokevirtual 142, 3) := dk_182 0 142 (dk_at dksX3_round_0 7 rfl rfl)
theorem dX3_round_10 : decode cX3_round 10 = .ok (.aload_n 0, 1) := dk_42 (dk_at dksX3_round_0 10 rfl rfl)
theorem dX3_round_11 : decode cX3_round 11 = .ok (.invokevirtual 111, 3) := dk_182 0 111 (dk_at dksX3_round_0 11 rfl rfl)
theorem dX3_round_14 : decode cX3_round 14 = .ok (.iconst 0, 1) := dk_3 (dk_at dksX3_round_0 14 rfl rfl)
theorem dX3_round_15 : decode cX3_round 15 = .ok (.istore_n 1, 1) := dk_60 (dk_at dksX3_round_0 15 rfl rfl)
theorem dX3_round_16 : decode cX3_round 16 = .ok (.iconst 0, 1) := dk_3 (dk_at dksX3_round_0 16 rfl rfl)
theorem dX3_round_17 : decode cX3_round 17 = .ok (.istore_n 2, 1) := dk_61 (dk_at dksX3_round_0 17 rfl rfl)
theorem dX3_round_18 : decode cX3_round 18 = .ok (.iload_n 2, 1) := dk_28 (dk_at dksX3_round_0 18 rfl rfl)
theorem dX3_round_19 : decode cX3_round 19 = .ok (.bipush 10, 2) := dk_16 10 (dk_at dksX3_round_0 19 rfl rfl)
theorem dX3_round_21 : decode cX3_round 21 = .ok (.if_icmp .ge 184, 3) := dk_162 0 184 (dk_at dksX3_round_0 21 rfl rfl)
theorem dX3_round_24 : decode cX3_round 24 = .ok (.aload_n 0, 1) := dk_42 (dk_at dksX3_round_1 0 rfl rfl)
theorem dX3_round_25 : decode cX3_round 25 = .ok (.iload_n 2, 1) := dk_28 (dk_at dksX3_round_1 1 rfl rfl)
theorem dX3_round_26 : decode cX3_round 26 = .ok (.invokevirtual 65, 3) := dk_182 0 65 (dk_at dksX3_round_1 2 rfl rfl)
theorem dX3_round_29 : decode cX3_round 29 = .ok (.ifCond .ne 6, 3) := dk_154 0 6 (dk_at dksX3_round_1 5 rfl rfl)
theorem dX3_round_32 : decode cX3_round 32 = .ok (.goto 167, 3) := dk_167 0 167 (dk_at dksX3_round_1 8 rfl rfl)
theorem dX3_round_35 : decode cX3_round 35 = .ok (.aload_n 0, 1) := dk_42 (dk_at dksX3_round_1 11 rfl rfl)
theorem dX3_round_36 : decode cX3_round 36 = .ok (.iload_n 2, 1) := dk_28 (dk_at dksX3_round_1 12 rfl rfl)
theorem dX3_round_37 : decode cX3_round 37 = .ok (.iconst 4, 1) := dk_7 (dk_at dksX3_round_1 13 rfl rfl)
theorem dX3_round_38 : decode cX3_round 38 = .ok (.aload_n 0, 1) := dk_42 (dk_at dksX3_round_1 14 rfl rfl)
theorem dX3_round_39 : decode cX3_round 39 = .ok (.iload_n 2, 1) := dk_28 (dk_at dksX3_round_1 15 rfl rfl)
theorem dX3_round_40 : decode cX3_round 40 = .ok (.iconst 4, 1) := dk_7 (dk_at dksX3_round_1 16 rfl rfl)
theorem dX3_round_41 : decode cX3_round 41 = .ok (.invokevirtual 61, 3) := dk_182 0 61 (dk_at dksX3_round_1 17 rfl rfl)
theorem dX3_round_44 : decode cX3_round 44 = .ok (.iconst 1, 1) := dk_4 (dk_at dksX3_round_1 20 rfl rfl)
theorem dX3_round_45 : decode cX3_round 45 = .ok (.iadd, 1) := dk_96 (dk_at dksX3_round_1 21 rfl rfl)
theorem dX3_round_46 : decode cX3_round 46 = .ok (.invokevirtual 114, 3) := dk_182 0 114 (dk_at dksX3_round_2 0 rfl rfl)
theorem dX3_round_49 : decode cX3_round 49 = .ok (.iload_n 2, 1) := dk_28 (dk_at dksX3_round_2 3 rfl rfl)
theorem dX3_round_50 : decode cX3_round 50 = .ok (.aload_n 0, 1) := dk_42 (dk_at dksX3_round_2 4 rfl rfl)
theorem dX3_round_51 : decode cX3_round 51 = .ok (.invokevirtual 85, 3) := dk_182 0 85 (dk_at dksX3_round_2 5 rfl rfl)
theorem dX3_round_54 : decode cX3_round 54 = .ok (.if_icmp .ne 6, 3) := dk_160 0 6 (dk_at dksX3_round_2 8 rfl rfl)
theorem dX3_round_57 : decode cX3_round 57 = .ok (.goto 142, 3) := dk_167 0 142 (dk_at dksX3_round_2 11 rfl rfl)
theorem dX3_round_60 : decode cX3_round 60 = .ok (.aload_n 0, 1) := dk_42 (dk_at dksX3_round_2 14 rfl rfl)
theorem dX3_round_61 : decode cX3_round 61 = .ok (.iload_n 2, 1) := dk_28 (dk_at dksX3_round_2 15 rfl rfl)
theorem dX3_round_62 : decode cX3_round 62 = .ok (.iconst 5, 1) := dk_8 (dk_at dksX3_round_2 16 rfl rfl)
theorem dX3_round_63 : decode cX3_round 63 = .ok (.aload_n 0, 1) := dk_42 (dk_at dksX3_round_2 17 rfl rfl)
theorem dX3_round_64 : decode cX3_round 64 = .ok (.getfield 25, 3) := dk_180 0 25 (dk_at dksX3_round_2 18 rfl rfl)
theorem dX3_round_67 : decode cX3_round 67 = .ok (.iload_n 2, 1) := dk_28 (dk_at dksX3_round_2 21 rfl rfl)
theorem dX3_round_68 : decode cX3_round 68 = .ok (.iaload, 1) := dk_46 (dk_at dksX3_round_2 22 rfl rfl)
theorem dX3_round_69 : decode cX3_round 69 = .ok (.ifCond .ge 7, 3) := dk_156 0 7 (dk_at dksX3_round_3 0 rfl rfl)
theorem dX3_round_72 : decode cX3_round 72 = .ok (.iconst 2, 1) := dk_5 (dk_at dksX3_round_3 3 rfl rfl)
theorem dX3_round_73 : decode cX3_round 73 = .ok (.goto 4, 3) := dk_167 0 4 (dk_at dksX3_round_3 4 rfl rfl)
theorem dX3_round_76 : decode cX3_round 76 = .ok (.iconst 1, 1) := dk_4 (dk_at dksX3_round_3 7 rfl rfl)
theorem dX3_round_77 : decode cX3_round 77 = .ok (.invokevirtual 114, 3) := dk_182 0 114 (dk_at dksX3_round_3 8 rfl rfl)
theorem dX3_round_80 : decode cX3_round 80 = .ok (.aload_n 0, 1) := dk_42 (dk_at dksX3_round_3 11 rfl rfl)
theorem dX3_round_81 : decode cX3_round 81 = .ok (.getfield 25, 3) := dk_180 0 25 (dk_at dksX3_round_3 12 rfl rfl)
theorem dX3_round_84 : decode cX3_round 84 = .ok (.iload_n 2, 1) := dk_28 (dk_at dksX3_round_3 15 rfl rfl)
theorem dX3_round_85 : decode cX3_round 85 = .ok (.iaload, 1) := dk_46 (dk_at dksX3_round_3 16 rfl rfl)
theorem dX3_round_86 : decode cX3_round 86 = .ok (.ifCond .ge 6, 3) := dk_156 0 6 (dk_at dksX3_round_3 17 rfl rfl)
theorem dX3_round_89 : decode cX3_round 89 = .ok (.goto 110, 3) := dk_167 0 110 (dk_at dksX3_round_3 20 rfl rfl)
theorem dX3_round_92 : decode cX3_round 92 = .ok (.aload_n 0, 1) := dk_42 (dk_at dksX3_round_3 23 rfl rfl)
theorem dX3_round_93 : decode cX3_round 93 = .ok (.getfield 13, 3) := dk_180 0 13 (dk_at dksX3_round_4 0 rfl rfl)
theorem dX3_round_96 : decode cX3_round 96 = .ok (.bipush 120, 2) := dk_16 120 (dk_at dksX3_round_4 3 rfl rfl)
theorem dX3_round_98 : decode cX3_round 98 = .ok (.aload_n 0, 1) := dk_42 (dk_at dksX3_round_4 5 rfl rfl)
theorem dX3_round_99 : decode cX3_round 99 = .ok (.getfield 25, 3) := dk_180 0 25 (dk_at dksX3_round_4 6 rfl rfl)
theorem dX3_round_102 : decode cX3_round 102 = .ok (.iload_n 2, 1) := dk_28 (dk_at dksX3_round_4 9 rfl rfl)
theorem dX3_round_103 : decode cX3_round 103 = .ok (.iaload, 1) := dk_46 (dk_at dksX3_round_4 10 rfl rfl)
theorem dX3_round_104 : decode cX3_round 104 = .ok (.imul, 1) := dk_104 (dk_at dksX3_round_4 11 rfl rfl)
theorem dX3_round_105 : decode cX3_round 105 = .ok (.aload_n 0, 1) := dk_42 (dk_at dksX3_round_4 12 rfl rfl)
theorem dX3_round_106 : decode cX3_round 106 = .ok (.iload_n 2, 1) := dk_28 (dk_at dksX3_round_4 13 rfl rfl)
theorem dX3_round_107 : decode cX3_round 107 = .ok (.iconst 0, 1) := dk_3 (dk_at dksX3_round_4 14 rfl rfl)
theorem dX3_round_108 : decode cX3_round 108 = .ok (.invokevirtual 61, 3) := dk_182 0 61 (dk_at dksX3_round_4 15 rfl rfl)
theorem dX3_round_111 : decode cX3_round 111 = .ok (.iadd, 1) := dk_96 (dk_at dksX3_round_4 18 rfl rfl)
theorem dX3_round_112 : decode cX3_round 112 = .ok (.iaload, 1) := dk_46 (dk_at dksX3_round_4 19 rfl rfl)
theorem dX3_round_113 : decode cX3_round 113 = .ok (.istore_n 3, 1) := dk_62 (dk_at dksX3_round_4 20 rfl rfl)
theorem dX3_round_114 : decode cX3_round 114 = .ok (.iload_n 3, 1) := dk_29 (dk_at dksX3_round_4 21 rfl rfl)
theorem dX3_round_115 : decode cX3_round 115 = .ok (.ifCond .ne 6, 3) := dk_154 0 6 (dk_at dksX3_round_5 0 rfl rfl)
theorem dX3_round_118 : decode cX3_round 118 = .ok (.goto 81, 3) := dk_167 0 81 (dk_at dksX3_round_5 3 rfl rfl)
theorem dX3_round_121 : decode cX3_round 121 = .ok (.iload_n 1, 1) := dk_27 (dk_at dksX3_round_5 6 rfl rfl)
theorem dX3_round_122 : decode cX3_round 122 = .ok (.istore 4, 2) := dk_54 4 (dk_at dksX3_round_5 7 rfl rfl)
theorem dX3_round_124 : decode cX3_round 124 = .ok (.iload 4, 2) := dk_21 4 (dk_at dksX3_round_5 9 rfl rfl)
theorem dX3_round_126 : decode cX3_round 126 = .ok (.ifCond .le 54, 3) := dk_158 0 54 (dk_at dksX3_round_5 11 rfl rfl)
theorem dX3_round_129 : decode cX3_round 129 = .ok (.aload_n 0, 1) := dk_42 (dk_at dksX3_round_5 14 rfl rfl)
theorem dX3_round_130 : decode cX3_round 130 = .ok (.getfield 34, 3) := dk_180 0 34 (dk_at dksX3_round_5 15 rfl rfl)
theorem dX3_round_133 : decode cX3_round 133 = .ok (.iload 4, 2) := dk_21 4 (dk_at dksX3_round_5 18 rfl rfl)
theorem dX3_round_135 : decode cX3_round 135 = .ok (.iconst 1, 1) := dk_4 (dk_at dksX3_round_5 20 rfl rfl)
theorem dX3_round_136 : decode cX3_round 136 = .ok (.isub, 1) := dk_100 (dk_at dksX3_round_5 21 rfl rfl)
theorem dX3_round_137 : decode cX3_round 137 = .ok (.iaload, 1) := dk_46 (dk_at dksX3_round_5 22 rfl rfl)
theorem dX3_round_138 : decode cX3_round 138 = .ok (.iload_n 3, 1) := dk_29 (dk_at dksX3_round_5 23 rfl rfl)
theorem dX3_round_139 : decode cX3_round 139 = .ok (.if_icmp .ge 41, 3) := dk_162 0 41 (dk_at dksX3_round_6 0 rfl rfl)
theorem dX3_round_142 : decode cX3_round 142 = .ok (.aload_n 0, 1) := dk_42 (dk_at dksX3_round_6 3 rfl rfl)
theorem dX3_round_143 : decode cX3_round 143 = .ok (.getfield 31, 3) := dk_180 0 31 (dk_at dksX3_round_6 4 rfl rfl)
theorem dX3_round_146 : decode cX3_round 146 = .ok (.iload 4, 2) := dk_21 4 (dk_at dksX3_round_6 7 rfl rfl)
theorem dX3_round_148 : decode cX3_round 148 = .ok (.aload_n 0, 1) := dk_42 (dk_at dksX3_round_6 9 rfl rfl)
theorem dX3_round_149 : decode cX3_round 149 = .ok (.getfield 31, 3) := dk_180 0 31 (dk_at dksX3_round_6 10 rfl rfl)
theorem dX3_round_152 : decode cX3_round 152 = .ok (.iload 4, 2) := dk_21 4 (dk_at dksX3_round_6 13 rfl rfl)
theorem dX3_round_154 : decode cX3_round 154 = .ok (.iconst 1, 1) := dk_4 (dk_at dksX3_round_6 15 rfl rfl)
theorem dX3_round_155 : decode cX3_round 155 = .ok (.isub, 1) := dk_100 (dk_at dksX3_round_6 16 rfl rfl)
theorem dX3_round_156 : decode cX3_round 156 = .ok (.iaload, 1) := dk_46 (dk_at dksX3_round_6 17 rfl rfl)
theorem dX3_round_157 : decode cX3_round 157 = .ok (.iastore, 1) := dk_79 (dk_at dksX3_round_6 18 rfl rfl)
theorem dX3_round_158 : decode cX3_round 158 = .ok (.aload_n 0, 1) := dk_42 (dk_at dksX3_round_6 19 rfl rfl)
theorem dX3_round_159 : decode cX3_round 159 = .ok (.getfield 34, 3) := dk_180 0 34 (dk_at dksX3_round_6 20 rfl rfl)
theorem dX3_round_162 : decode cX3_round 162 = .ok (.iload 4, 2) := dk_21 4 (dk_at dksX3_round_7 0 rfl rfl)
theorem dX3_round_164 : decode cX3_round 164 = .ok (.aload_n 0, 1) := dk_42 (dk_at dksX3_round_7 2 rfl rfl)
theorem dX3_round_165 : decode cX3_round 165 = .ok (.getfield 34, 3) := dk_180 0 34 (dk_at dksX3_round_7 3 rfl rfl)
theorem dX3_round_168 : decode cX3_round 168 = .ok (.iload 4, 2) := dk_21 4 (dk_at dksX3_round_7 6 rfl rfl)
theorem dX3_round_170 : decode cX3_round 170 = .ok (.iconst 1, 1) := dk_4 (dk_at dksX3_round_7 8 rfl rfl)
theorem dX3_round_171 : decode cX3_round 171 = .ok (.isub, 1) := dk_100 (dk_at dksX3_round_7 9 rfl rfl)
theorem dX3_round_172 : decode cX3_round 172 = .ok (.iaload, 1) := dk_46 (dk_at dksX3_round_7 10 rfl rfl)
theorem dX3_round_173 : decode cX3_round 173 = .ok (.iastore, 1) := dk_79 (dk_at dksX3_round_7 11 rfl rfl)
theorem dX3_round_174 : decode cX3_round 174 = .ok (.iinc 4 (-1), 3) := dk_132 4 255 (dk_at dksX3_round_7 12 rfl rfl)
theorem dX3_round_177 : decode cX3_round 177 = .ok (.goto (-53), 3) := dk_167 255 203 (dk_at dksX3_round_7 15 rfl rfl)
theorem dX3_round_180 : decode cX3_round 180 = .ok (.aload_n 0, 1) := dk_42 (dk_at dksX3_round_7 18 rfl rfl)
theorem dX3_round_181 : decode cX3_round 181 = .ok (.getfield 31, 3) := dk_180 0 31 (dk_at dksX3_round_7 19 rfl rfl)
theorem dX3_round_184 : decode cX3_round 184 = .ok (.iload 4, 2) := dk_21 4 (dk_at dksX3_round_7 22 rfl rfl)
theorem dX3_round_186 : decode cX3_round 186 = .ok (.iload_n 2, 1) := dk_28 (dk_at dksX3_round_8 0 rfl rfl)
theorem dX3_round_187 : decode cX3_round 187 = .ok (.iastore, 1) := dk_79 (dk_at dksX3_round_8 1 rfl rfl)
theorem dX3_round_188 : decode cX3_round 188 = .ok (.aload_n 0, 1) := dk_42 (dk_at dksX3_round_8 2 rfl rfl)
theorem dX3_round_189 : decode cX3_round 189 = .ok (.getfield 34, 3) := dk_180 0 34 (dk_at dksX3_round_8 3 rfl rfl)
theorem dX3_round_192 : decode cX3_round 192 = .ok (.iload 4, 2) := dk_21 4 (dk_at dksX3_round_8 6 rfl rfl)
theorem dX3_round_194 : decode cX3_round 194 = .ok (.iload_n 3, 1) := dk_29 (dk_at dksX3_round_8 8 rfl rfl)
theorem dX3_round_195 : decode cX3_round 195 = .ok (.iastore, 1) := dk_79 (dk_at dksX3_round_8 9 rfl rfl)
theorem dX3_round_196 : decode cX3_round 196 = .ok (.iinc 1 1, 3) := dk_132 1 1 (dk_at dksX3_round_8 10 rfl rfl)
theorem dX3_round_199 : decode cX3_round 199 = .ok (.iinc 2 1, 3) := dk_132 2 1 (dk_at dksX3_round_8 13 rfl rfl)
theorem dX3_round_202 : decode cX3_round 202 = .ok (.goto (-184), 3) := dk_167 255 72 (dk_at dksX3_round_8 16 rfl rfl)
theorem dX3_round_205 : decode cX3_round 205 = .ok (.iconst 0, 1) := dk_3 (dk_at dksX3_round_8 19 rfl rfl)
theorem dX3_round_206 : decode cX3_round 206 = .ok (.istore_n 2, 1) := dk_61 (dk_at dksX3_round_8 20 rfl rfl)
theorem dX3_round_207 : decode cX3_round 207 = .ok (.iload_n 2, 1) := dk_28 (dk_at dksX3_round_8 21 rfl rfl)
theorem dX3_round_208 : decode cX3_round 208 = .ok (.iload_n 1, 1) := dk_27 (dk_at dksX3_round_8 22 rfl rfl)
theorem dX3_round_209 : decode cX3_round 209 = .ok (.if_icmp .ge 19, 3) := dk_162 0 19 (dk_at dksX3_round_9 0 rfl rfl)
theorem dX3_round_212 : decode cX3_round 212 = .ok (.aload_n 0, 1) := dk_42 (dk_at dksX3_round_9 3 rfl rfl)
theorem dX3_round_213 : decode cX3_round 213 = .ok (.aload_n 0, 1) := dk_42 (dk_at dksX3_round_9 4 rfl rfl)
theorem dX3_round_214 : decode cX3_round 214 = .ok (.getfield 31, 3) := dk_180 0 31 (dk_at dksX3_round_9 5 rfl rfl)
theorem dX3_round_217 : decode cX3_round 217 = .ok (.iload_n 2, 1) := dk_28 (dk_at dksX3_round_9 8 rfl rfl)
theorem dX3_round_218 : decode cX3_round 218 = .ok (.iaload, 1) := dk_46 (dk_at dksX3_round_9 9 rfl rfl)
theorem dX3_round_219 : decode cX3_round 219 = .ok (.invokevirtual 145, 3) := dk_182 0 145 (dk_at dksX3_round_9 10 rfl rfl)
theorem dX3_round_222 : decode cX3_round 222 = .ok (.iinc 2 1, 3) := dk_132 2 1 (dk_at dksX3_round_9 13 rfl rfl)
theorem dX3_round_225 : decode cX3_round 225 = .ok (.goto (-18), 3) := dk_167 255 238 (dk_at dksX3_round_9 16 rfl rfl)
theorem dX3_round_228 : decode cX3_round 228 = .ok (.return_, 1) := dk_177 (dk_at dksX3_round_9 19 rfl rfl)
abbrev cX3_counts : ByteArray := prog_11_method_13_code
def yX3_counts : MethodName := ⟨RX3, "counts", "(II)V"⟩
def dkwX3_counts_0 : List UInt8 := [42, 180, 0, 9, 7, 27, 96, 92, 46, 28, 96, 79, 177]
abbrev dktX3_counts_0 : List UInt8 := dkwX3_counts_0 ++ []
theorem dksX3_counts_0 : cX3_counts.data.toList.drop 0 = dktX3_counts_0 := by decide +kernel
theorem dX3_counts_0 : decode cX3_counts 0 = .ok (.aload_n 0, 1) := dk_42 (dk_at dksX3_counts_0 0 rfl rfl)
theorem dX3_counts_1 : decode cX3_counts 1 = .ok (.getfield 9, 3) := dk_180 0 9 (dk_at dksX3_counts_0 1 rfl rfl)
theorem dX3_counts_4 : decode cX3_counts 4 = .ok (.iconst 4, 1) := dk_7 (dk_at dksX3_counts_0 4 rfl rfl)
theorem dX3_counts_5 : decode cX3_counts 5 = .ok (.iload_n 1, 1) := dk_27 (dk_at dksX3_counts_0 5 rfl rfl)
theorem dX3_counts_6 : decode cX3_counts 6 = .ok (.iadd, 1) := dk_96 (dk_at dksX3_counts_0 6 rfl rfl)
theorem dX3_counts_7 : decode cX3_counts 7 = .ok (.dup2, 1) := dk_92 (dk_at dksX3_counts_0 7 rfl rfl)
theorem dX3_counts_8 : decode cX3_counts 8 = .ok (.iaload, 1) := dk_46 (dk_at dksX3_counts_0 8 rfl rfl)
theorem dX3_counts_9 : decode cX3_counts 9 = .ok (.iload_n 2, 1) := dk_28 (dk_at dksX3_counts_0 9 rfl rfl)
theorem dX3_counts_10 : decode cX3_counts 10 = .ok (.iadd, 1) := dk_96 (dk_at dksX3_counts_0 10 rfl rfl)
theorem dX3_counts_11 : decode cX3_counts 11 = .ok (.iastore, 1) := dk_79 (dk_at dksX3_counts_0 11 rfl rfl)
theorem dX3_counts_12 : decode cX3_counts 12 = .ok (.return_, 1) := dk_177 (dk_at dksX3_counts_0 12 rfl rfl)
abbrev cX3_leads : ByteArray := prog_11_method_28_code
def yX3_leads : MethodName := ⟨RX3, "leads", "()V"⟩
def dkwX3_leads_8 : List UInt8 := [167, 255, 161, 177]
abbrev dktX3_leads_8 : List UInt8 := dkwX3_leads_8 ++ []
def dkwX3_leads_7 : List UInt8 := [21, 5, 182, 0, 127, 42, 4, 4, 182, 0, 118, 42, 27, 8, 3, 182, 0, 114, 177, 132, 4, 1]
abbrev dktX3_leads_7 : List UInt8 := dkwX3_leads_7 ++ dktX3_leads_8
def dkwX3_leads_6 : List UInt8 := [182, 0, 121, 155, 0, 19, 42, 27, 182, 0, 124, 42, 27, 8, 16, 9, 182, 0, 114, 167, 0, 23, 42, 27]
abbrev dktX3_leads_6 : List UInt8 := dkwX3_leads_6 ++ dktX3_leads_7
def dkwX3_leads_5 : List UInt8 := [155, 0, 67, 42, 180, 0, 13, 28, 21, 5, 96, 46, 29, 4, 100, 159, 0, 6, 167, 0, 49, 42, 21, 5]
abbrev dktX3_leads_5 : List UInt8 := dkwX3_leads_5 ++ dktX3_leads_6
def dkwX3_leads_4 : List UInt8 := [162, 0, 95, 29, 158, 0, 91, 42, 27, 3, 182, 0, 61, 21, 4, 184, 0, 72, 54, 5, 21, 5]
abbrev dktX3_leads_4 : List UInt8 := dkwX3_leads_4 ++ dktX3_leads_5
def dkwX3_leads_3 : List UInt8 := [28, 42, 27, 3, 182, 0, 61, 96, 46, 62, 42, 27, 8, 16, 8, 182, 0, 114, 3, 54, 4, 21, 4, 7]
abbrev dktX3_leads_3 : List UInt8 := dkwX3_leads_3 ++ dktX3_leads_4
def dkwX3_leads_2 : List UInt8 := [182, 0, 114, 177, 42, 16, 10, 42, 180, 0, 9, 5, 46, 182, 0, 75, 17, 4, 176, 61, 42, 180, 0, 13]
abbrev dktX3_leads_2 : List UInt8 := dkwX3_leads_2 ++ dktX3_leads_3
def dkwX3_leads_1 : List UInt8 := [5, 46, 160, 0, 26, 42, 27, 8, 42, 180, 0, 9, 5, 46, 156, 0, 8, 16, 6, 167, 0, 5, 16, 7]
abbrev dktX3_leads_1 : List UInt8 := dkwX3_leads_1 ++ dktX3_leads_2
def dkwX3_leads_0 : List UInt8 := [42, 182, 0, 85, 60, 42, 180, 0, 9, 5, 46, 155, 0, 18, 42, 27, 3, 182, 0, 61, 42, 180, 0, 9]
abbrev dktX3_leads_0 : List UInt8 := dkwX3_leads_0 ++ dktX3_leads_1
theorem dksX3_leads_0 : cX3_leads.data.toList.drop 0 = dktX3_leads_0 := by decide +kernel
theorem dksX3_leads_1 : cX3_leads.data.toList.drop 24 = dktX3_leads_1 := dk_seg dksX3_leads_0 24 rfl rfl
theorem dksX3_leads_2 : cX3_leads.data.toList.drop 48 = dktX3_leads_2 := dk_seg dksX3_leads_1 24 rfl rfl
theorem dksX3_leads_3 : cX3_leads.data.toList.drop 72 = dktX3_leads_3 := dk_seg dksX3_leads_2 24 rfl rfl
theorem dksX3_leads_4 : cX3_leads.data.toList.drop 96 = dktX3_leads_4 := dk_seg dksX3_leads_3 24 rfl rfl
theorem dksX3_leads_5 : cX3_leads.data.toList.drop 118 = dktX3_leads_5 := dk_seg dksX3_leads_4 22 rfl rfl
theorem dksX3_leads_6 : cX3_leads.data.toList.drop 142 = dktX3_leads_6 := dk_seg dksX3_leads_5 24 rfl rfl
theorem dksX3_leads_7 : cX3_leads.data.toList.drop 166 = dktX3_leads_7 := dk_seg dksX3_leads_6 24 rfl rfl
theorem dksX3_leads_8 : cX3_leads.data.toList.drop 188 = dktX3_leads_8 := dk_seg dksX3_leads_7 22 rfl rfl
theorem dX3_leads_0 : decode cX3_leads 0 = .ok (.aload_n 0, 1) := dk_42 (dk_at dksX3_leads_0 0 rfl rfl)
theorem dX3_leads_1 : decode cX3_leads 1 = .ok (.invokevirtual 85, 3) := dk_182 0 85 (dk_at dksX3_leads_0 1 rfl rfl)
theorem dX3_leads_4 : decode cX3_leads 4 = .ok (.istore_n 1, 1) := dk_60 (dk_at dksX3_leads_0 4 rfl rfl)
theorem dX3_leads_5 : decode cX3_leads 5 = .ok (.aload_n 0, 1) := dk_42 (dk_at dksX3_leads_0 5 rfl rfl)
theorem dX3_leads_6 : decode cX3_leads 6 = .ok (.getfield 9, 3) := dk_180 0 9 (dk_at dksX3_leads_0 6 rfl rfl)
theorem dX3_leads_9 : decode cX3_leads 9 = .ok (.iconst 2, 1) := dk_5 (dk_at dksX3_leads_0 9 rfl rfl)
theorem dX3_leads_10 : decode cX3_leads 10 = .ok (.iaload, 1) := dk_46 (dk_at dksX3_leads_0 10 rfl rfl)
theorem dX3_leads_11 : decode cX3_leads 11 = .ok (.ifCond .lt 18, 3) := dk_155 0 18 (dk_at dksX3_leads_0 11 rfl rfl)
theorem dX3_leads_14 : decode cX3_leads 14 = .ok (.aload_n 0, 1) := dk_42 (dk_at dksX3_leads_0 14 rfl rfl)
theorem dX3_leads_15 : decode cX3_leads 15 = .ok (.iload_n 1, 1) := dk_27 (dk_at dksX3_leads_0 15 rfl rfl)
theorem dX3_leads_16 : decode cX3_leads 16 = .ok (.iconst 0, 1) := dk_3 (dk_at dksX3_leads_0 16 rfl rfl)
theorem dX3_leads_17 : decode cX3_leads 17 = .ok (.invokevirtual 61, 3) := dk_182 0 61 (dk_at dksX3_leads_0 17 rfl rfl)
theorem dX3_leads_20 : decode cX3_leads 20 = .ok (.aload_n 0, 1) := dk_42 (dk_at dksX3_leads_0 20 rfl rfl)
theorem dX3_leads_21 : decode cX3_leads 21 = .ok (.getfield 9, 3) := dk_180 0 9 (dk_at dksX3_leads_0 21 rfl rfl)
theorem dX3_leads_24 : decode cX3_leads 24 = .ok (.iconst 2, 1) := dk_5 (dk_at dksX3_leads_1 0 rfl rfl)
theorem dX3_leads_25 : decode cX3_leads 25 = .ok (.iaload, 1) := dk_46 (dk_at dksX3_leads_1 1 rfl rfl)
theorem dX3_leads_26 : decode cX3_leads 26 = .ok (.if_icmp .ne 26, 3) := dk_160 0 26 (dk_at dksX3_leads_1 2 rfl rfl)
theorem dX3_leads_29 : decode cX3_leads 29 = .ok (.aload_n 0, 1) := dk_42 (dk_at dksX3_leads_1 5 rfl rfl)
theorem dX3_leads_30 : decode cX3_leads 30 = .ok (.iload_n 1, 1) := dk_27 (dk_at dksX3_leads_1 6 rfl rfl)
theorem dX3_leads_31 : decode cX3_leads 31 = .ok (.iconst 5, 1) := dk_8 (dk_at dksX3_leads_1 7 rfl rfl)
theorem dX3_leads_32 : decode cX3_leads 32 = .ok (.aload_n 0, 1) := dk_42 (dk_at dksX3_leads_1 8 rfl rfl)
theorem dX3_leads_33 : decode cX3_leads 33 = .ok (.getfield 9, 3) := dk_180 0 9 (dk_at dksX3_leads_1 9 rfl rfl)
theorem dX3_leads_36 : decode cX3_leads 36 = .ok (.iconst 2, 1) := dk_5 (dk_at dksX3_leads_1 12 rfl rfl)
theorem dX3_leads_37 : decode cX3_leads 37 = .ok (.iaload, 1) := dk_46 (dk_at dksX3_leads_1 13 rfl rfl)
theorem dX3_leads_38 : decode cX3_leads 38 = .ok (.ifCond .ge 8, 3) := dk_156 0 8 (dk_at dksX3_leads_1 14 rfl rfl)
theorem dX3_leads_41 : decode cX3_leads 41 = .ok (.bipush 6, 2) := dk_16 6 (dk_at dksX3_leads_1 17 rfl rfl)
theorem dX3_leads_43 : decode cX3_leads 43 = .ok (.goto 5, 3) := dk_167 0 5 (dk_at dksX3_leads_1 19 rfl rfl)
theorem dX3_leads_46 : decode cX3_leads 46 = .ok (.bipush 7, 2) := dk_16 7 (dk_at dksX3_leads_1 22 rfl rfl)
theorem dX3_leads_48 : decode cX3_leads 48 = .ok (.invokevirtual 114, 3) := dk_182 0 114 (dk_at dksX3_leads_2 0 rfl rfl)
theorem dX3_leads_51 : decode cX3_leads 51 = .ok (.return_, 1) := dk_177 (dk_at dksX3_leads_2 3 rfl rfl)
theorem dX3_leads_52 : decode cX3_leads 52 = .ok (.aload_n 0, 1) := dk_42 (dk_at dksX3_leads_2 4 rfl rfl)
theorem dX3_leads_53 : decode cX3_leads 53 = .ok (.bipush 10, 2) := dk_16 10 (dk_at dksX3_leads_2 5 rfl rfl)
theorem dX3_leads_55 : decode cX3_leads 55 = .ok (.aload_n 0, 1) := dk_42 (dk_at dksX3_leads_2 7 rfl rfl)
theorem dX3_leads_56 : decode cX3_leads 56 = .ok (.getfield 9, 3) := dk_180 0 9 (dk_at dksX3_leads_2 8 rfl rfl)
theorem dX3_leads_59 : decode cX3_leads 59 = .ok (.iconst 2, 1) := dk_5 (dk_at dksX3_leads_2 11 rfl rfl)
theorem dX3_leads_60 : decode cX3_leads 60 = .ok (.iaload, 1) := dk_46 (dk_at dksX3_leads_2 12 rfl rfl)
theorem dX3_leads_61 : decode cX3_leads 61 = .ok (.invokevirtual 75, 3) := dk_182 0 75 (dk_at dksX3_leads_2 13 rfl rfl)
theorem dX3_leads_64 : decode cX3_leads 64 = .ok (.sipush 1200, 3) := dk_17 4 176 (dk_at dksX3_leads_2 16 rfl rfl)
theorem dX3_leads_67 : decode cX3_leads 67 = .ok (.istore_n 2, 1) := dk_61 (dk_at dksX3_leads_2 19 rfl rfl)
theorem dX3_leads_68 : decode cX3_leads 68 = .ok (.aload_n 0, 1) := dk_42 (dk_at dksX3_leads_2 20 rfl rfl)
theorem dX3_leads_69 : decode cX3_leads 69 = .ok (.getfield 13, 3) := dk_180 0 13 (dk_at dksX3_leads_2 21 rfl rfl)
theorem dX3_leads_72 : decode cX3_leads 72 = .ok (.iload_n 2, 1) := dk_28 (dk_at dksX3_leads_3 0 rfl rfl)
theorem dX3_leads_73 : decode cX3_leads 73 = .ok (.aload_n 0, 1) := dk_42 (dk_at dksX3_leads_3 1 rfl rfl)
theorem dX3_leads_74 : decode cX3_leads 74 = .ok (.iload_n 1, 1) := dk_27 (dk_at dksX3_leads_3 2 rfl rfl)
theorem dX3_leads_75 : decode cX3_leads 75 = .ok (.iconst 0, 1) := dk_3 (dk_at dksX3_leads_3 3 rfl rfl)
theorem dX3_leads_76 : decode cX3_leads 76 = .ok (.invokevirtual 61, 3) := dk_182 0 61 (dk_at dksX3_leads_3 4 rfl rfl)
theorem dX3_leads_79 : decode cX3_leads 79 = .ok (.iadd, 1) := dk_96 (dk_at dksX3_leads_3 7 rfl rfl)
theorem dX3_leads_80 : decode cX3_leads 80 = .ok (.iaload, 1) := dk_46 (dk_at dksX3_leads_3 8 rfl rfl)
theorem dX3_leads_81 : decode cX3_leads 81 = .ok (.istore_n 3, 1) := dk_62 (dk_at dksX3_leads_3 9 rfl rfl)
theorem dX3_leads_82 : decode cX3_leads 82 = .ok (.aload_n 0, 1) := dk_42 (dk_at dksX3_leads_3 10 rfl rfl)
theorem dX3_leads_83 : decode cX3_leads 83 = .ok (.iload_n 1, 1) := dk_27 (dk_at dksX3_leads_3 11 rfl rfl)
theorem dX3_leads_84 : decode cX3_leads 84 = .ok (.iconst 5, 1) := dk_8 (dk_at dksX3_leads_3 12 rfl rfl)
theorem dX3_leads_85 : decode cX3_leads 85 = .ok (.bipush 8, 2) := dk_16 8 (dk_at dksX3_leads_3 13 rfl rfl)
theorem dX3_leads_87 : decode cX3_leads 87 = .ok (.invokevirtual 114, 3) := dk_182 0 114 (dk_at dksX3_leads_3 15 rfl rfl)
theorem dX3_leads_90 : decode cX3_leads 90 = .ok (.iconst 0, 1) := dk_3 (dk_at dksX3_leads_3 18 rfl rfl)
theorem dX3_leads_91 : decode cX3_leads 91 = .ok (.istore 4, 2) := dk_54 4 (dk_at dksX3_leads_3 19 rfl rfl)
theorem dX3_leads_93 : decode cX3_leads 93 = .ok (.iload 4, 2) := dk_21 4 (dk_at dksX3_leads_3 21 rfl rfl)
theorem dX3_leads_95 : decode cX3_leads 95 = .ok (.iconst 4, 1) := dk_7 (dk_at dksX3_leads_3 23 rfl rfl)
theorem dX3_leads_96 : decode cX3_leads 96 = .ok (.if_icmp .ge 95, 3) := dk_162 0 95 (dk_at dksX3_leads_4 0 rfl rfl)
theorem dX3_leads_99 : decode cX3_leads 99 = .ok (.iload_n 3, 1) := dk_29 (dk_at dksX3_leads_4 3 rfl rfl)
theorem dX3_leads_100 : decode cX3_leads 100 = .ok (.ifCond .le 91, 3) := dk_158 0 91 (dk_at dksX3_leads_4 4 rfl rfl)
theorem dX3_leads_103 : decode cX3_leads 103 = .ok (.aload_n 0, 1) := dk_42 (dk_at dksX3_leads_4 7 rfl rfl)
theorem dX3_leads_104 : decode cX3_leads 104 = .ok (.iload_n 1, 1) := dk_27 (dk_at dksX3_leads_4 8 rfl rfl)
theorem dX3_leads_105 : decode cX3_leads 105 = .ok (.iconst 0, 1) := dk_3 (dk_at dksX3_leads_4 9 rfl rfl)
theorem dX3_leads_106 : decode cX3_leads 106 = .ok (.invokevirtual 61, 3) := dk_182 0 61 (dk_at dksX3_leads_4 10 rfl rfl)
theorem dX3_leads_109 : decode cX3_leads 109 = .ok (.iload 4, 2) := dk_21 4 (dk_at dksX3_leads_4 13 rfl rfl)
theorem dX3_leads_111 : decode cX3_leads 111 = .ok (.invokestatic 72, 3) := dk_184 0 72 (dk_at dksX3_leads_4 15 rfl rfl)
theorem dX3_leads_114 : decode cX3_leads 114 = .ok (.istore 5, 2) := dk_54 5 (dk_at dksX3_leads_4 18 rfl rfl)
theorem dX3_leads_116 : decode cX3_leads 116 = .ok (.iload 5, 2) := dk_21 5 (dk_at dksX3_leads_4 20 rfl rfl)
theorem dX3_leads_118 : decode cX3_leads 118 = .ok (.ifCond .lt 67, 3) := dk_155 0 67 (dk_at dksX3_leads_5 0 rfl rfl)
theorem dX3_leads_121 : decode cX3_leads 121 = .ok (.aload_n 0, 1) := dk_42 (dk_at dksX3_leads_5 3 rfl rfl)
theorem dX3_leads_122 : decode cX3_leads 122 = .ok (.getfield 13, 3) := dk_180 0 13 (dk_at dksX3_leads_5 4 rfl rfl)
theorem dX3_leads_125 : decode cX3_leads 125 = .ok (.iload_n 2, 1) := dk_28 (dk_at dksX3_leads_5 7 rfl rfl)
theorem dX3_leads_126 : decode cX3_leads 126 = .ok (.iload 5, 2) := dk_21 5 (dk_at dksX3_leads_5 8 rfl rfl)
theorem dX3_leads_128 : decode cX3_leads 128 = .ok (.iadd, 1) := dk_96 (dk_at dksX3_leads_5 10 rfl rfl)
theorem dX3_leads_129 : decode cX3_leads 129 = .ok (.iaload, 1) := dk_46 (dk_at dksX3_leads_5 11 rfl rfl)
theorem dX3_leads_130 : decode cX3_leads 130 = .ok (.iload_n 3, 1) := dk_29 (dk_at dksX3_leads_5 12 rfl rfl)
theorem dX3_leads_131 : decode cX3_leads 131 = .ok (.iconst 1, 1) := dk_4 (dk_at dksX3_leads_5 13 rfl rfl)
theorem dX3_leads_132 : decode cX3_leads 132 = .ok (.isub, 1) := dk_100 (dk_at dksX3_leads_5 14 rfl rfl)
theorem dX3_leads_133 : decode cX3_leads 133 = .ok (.if_icmp .eq 6, 3) := dk_159 0 6 (dk_at dksX3_leads_5 15 rfl rfl)
theorem dX3_leads_136 : decode cX3_leads 136 = .ok (.goto 49, 3) := dk_167 0 49 (dk_at dksX3_leads_5 18 rfl rfl)
theorem dX3_leads_139 : decode cX3_leads 139 = .ok (.aload_n 0, 1) := dk_42 (dk_at dksX3_leads_5 21 rfl rfl)
theorem dX3_leads_140 : decode cX3_leads 140 = .ok (.iload 5, 2) := dk_21 5 (dk_at dksX3_leads_5 22 rfl rfl)
theorem dX3_leads_142 : decode cX3_leads 142 = .ok (.invokevirtual 121, 3) := dk_182 0 121 (dk_at dksX3_leads_6 0 rfl rfl)
theorem dX3_leads_145 : decode cX3_leads 145 = .ok (.ifCond .lt 19, 3) := dk_155 0 19 (dk_at dksX3_leads_6 3 rfl rfl)
theorem dX3_leads_148 : decode cX3_leads 148 = .ok (.aload_n 0, 1) := dk_42 (dk_at dksX3_leads_6 6 rfl rfl)
theorem dX3_leads_149 : decode cX3_leads 149 = .ok (.iload_n 1, 1) := dk_27 (dk_at dksX3_leads_6 7 rfl rfl)
theorem dX3_leads_150 : decode cX3_leads 150 = .ok (.invokevirtual 124, 3) := dk_182 0 124 (dk_at dksX3_leads_6 8 rfl rfl)
theorem dX3_leads_153 : decode cX3_leads 153 = .ok (.aload_n 0, 1) := dk_42 (dk_at dksX3_leads_6 11 rfl rfl)
theorem dX3_leads_154 : decode cX3_leads 154 = .ok (.iload_n 1, 1) := dk_27 (dk_at dksX3_leads_6 12 rfl rfl)
theorem dX3_leads_155 : decode cX3_leads 155 = .ok (.iconst 5, 1) := dk_8 (dk_at dksX3_leads_6 13 rfl rfl)
theorem dX3_leads_156 : decode cX3_leads 156 = .ok (.bipush 9, 2) := dk_16 9 (dk_at dksX3_leads_6 14 rfl rfl)
theorem dX3_leads_158 : decode cX3_leads 158 = .ok (.invokevirtual 114, 3) := dk_182 0 114 (dk_at dksX3_leads_6 16 rfl rfl)
theorem dX3_leads_161 : decode cX3_leads 161 = .ok (.goto 23, 3) := dk_167 0 23 (dk_at dksX3_leads_6 19 rfl rfl)
theorem dX3_leads_164 : decode cX3_leads 164 = .ok (.aload_n 0, 1) := dk_42 (dk_at dksX3_leads_6 22 rfl rfl)
theorem dX3_leads_165 : decode cX3_leads 165 = .ok (.iload_n 1, 1) := dk_27 (dk_at dksX3_leads_6 23 rfl rfl)
theorem dX3_leads_166 : decode cX3_leads 166 = .ok (.iload 5, 2) := dk_21 5 (dk_at dksX3_leads_7 0 rfl rfl)
theorem dX3_leads_168 : decode cX3_leads 168 = .ok (.invokevirtual 127, 3) := dk_182 0 127 (dk_at dksX3_leads_7 2 rfl rfl)
theorem dX3_leads_171 : decode cX3_leads 171 = .ok (.aload_n 0, 1) := dk_42 (dk_at dksX3_leads_7 5 rfl rfl)
theorem dX3_leads_172 : decode cX3_leads 172 = .ok (.iconst 1, 1) := dk_4 (dk_at dksX3_leads_7 6 rfl rfl)
theorem dX3_leads_173 : decode cX3_leads 173 = .ok (.iconst 1, 1) := dk_4 (dk_at dksX3_leads_7 7 rfl rfl)
theorem dX3_leads_174 : decode cX3_leads 174 = .ok (.invokevirtual 118, 3) := dk_182 0 118 (dk_at dksX3_leads_7 8 rfl rfl)
theorem dX3_leads_177 : decode cX3_leads 177 = .ok (.aload_n 0, 1) := dk_42 (dk_at dksX3_leads_7 11 rfl rfl)
theorem dX3_leads_178 : decode cX3_leads 178 = .ok (.iload_n 1, 1) := dk_27 (dk_at dksX3_leads_7 12 rfl rfl)
theorem dX3_leads_179 : decode cX3_leads 179 = .ok (.iconst 5, 1) := dk_8 (dk_at dksX3_leads_7 13 rfl rfl)
theorem dX3_leads_180 : decode cX3_leads 180 = .ok (.iconst 0, 1) := dk_3 (dk_at dksX3_leads_7 14 rfl rfl)
theorem dX3_leads_181 : decode cX3_leads 181 = .ok (.invokevirtual 114, 3) := dk_182 0 114 (dk_at dksX3_leads_7 15 rfl rfl)
theorem dX3_leads_184 : decode cX3_leads 184 = .ok (.return_, 1) := dk_177 (dk_at dksX3_leads_7 18 rfl rfl)
theorem dX3_leads_185 : decode cX3_leads 185 = .ok (.iinc 4 1, 3) := dk_132 4 1 (dk_at dksX3_leads_7 19 rfl rfl)
theorem dX3_leads_188 : decode cX3_leads 188 = .ok (.goto (-95), 3) := dk_167 255 161 (dk_at dksX3_leads_8 0 rfl rfl)
theorem dX3_leads_191 : decode cX3_leads 191 = .ok (.return_, 1) := dk_177 (dk_at dksX3_leads_8 3 rfl rfl)
abbrev cX3_lays : ByteArray := prog_11_method_6_code
def yX3_lays : MethodName := ⟨RX3, "lays", "(III)V"⟩
def dkwX3_lays_0 : List UInt8 := [42, 180, 0, 9, 16, 12, 16, 6, 27, 104, 96, 28, 96, 29, 79, 177]
abbrev dktX3_lays_0 : List UInt8 := dkwX3_lays_0 ++ []
theorem dksX3_lays_0 : cX3_lays.data.toList.drop 0 = dktX3_lays_0 := by decide +kernel
theorem dX3_lays_0 : decode cX3_lays 0 = .ok (.aload_n 0, 1) := dk_42 (dk_at dksX3_lays_0 0 rfl rfl)
theorem dX3_lays_1 : decode cX3_lays 1 = .ok (.getfield 9, 3) := dk_180 0 9 (dk_at dksX3_lays_0 1 rfl rfl)
theorem dX3_lays_4 : decode cX3_lays 4 = .ok (.bipush 12, 2) := dk_16 12 (dk_at dksX3_lays_0 4 rfl rfl)
theorem dX3_lays_6 : decode cX3_lays 6 = .ok (.bipush 6, 2) := dk_16 6 (dk_at dksX3_lays_0 6 rfl rfl)
theorem dX3_lays_8 : decode cX3_lays 8 = .ok (.iload_n 1, 1) := dk_27 (dk_at dksX3_lays_0 8 rfl rfl)
theorem dX3_lays_9 : decode cX3_lays 9 = .ok (.imul, 1) := dk_104 (dk_at dksX3_lays_0 9 rfl rfl)
theorem dX3_lays_10 : decode cX3_lays 10 = .ok (.iadd, 1) := dk_96 (dk_at dksX3_lays_0 10 rfl rfl)
theorem dX3_lays_11 : decode cX3_lays 11 = .ok (.iload_n 2, 1) := dk_28 (dk_at dksX3_lays_0 11 rfl rfl)
theorem dX3_lays_12 : decode cX3_lays 12 = .ok (.iadd, 1) := dk_96 (dk_at dksX3_lays_0 12 rfl rfl)
theorem dX3_lays_13 : decode cX3_lays 13 = .ok (.iload_n 3, 1) := dk_29 (dk_at dksX3_lays_0 13 rfl rfl)
theorem dX3_lays_14 : decode cX3_lays 14 = .ok (.iastore, 1) := dk_79 (dk_at dksX3_lays_0 14 rfl rfl)
theorem dX3_lays_15 : decode cX3_lays 15 = .ok (.return_, 1) := dk_177 (dk_at dksX3_lays_0 15 rfl rfl)
abbrev cX3_floods : ByteArray := prog_11_method_15_code
def yX3_floods : MethodName := ⟨RX3, "floods", "(II)V"⟩
def dkwX3_floods_7 : List UInt8 := [167, 255, 152, 177]
abbrev dktX3_floods_7 : List UInt8 := dkwX3_floods_7 ++ []
def dkwX3_floods_6 : List UInt8 := [4, 96, 79, 42, 180, 0, 16, 21, 4, 21, 8, 79, 132, 4, 1, 132, 7, 1, 167, 255, 177, 132, 5, 1]
abbrev dktX3_floods_6 : List UInt8 := dkwX3_floods_6 ++ dktX3_floods_7
def dkwX3_floods_5 : List UInt8 := [46, 155, 0, 6, 167, 0, 35, 42, 180, 0, 13, 29, 21, 8, 96, 42, 180, 0, 13, 29, 21, 6, 96, 46]
abbrev dktX3_floods_5 : List UInt8 := dkwX3_floods_5 ++ dktX3_floods_6
def dkwX3_floods_4 : List UInt8 := [54, 8, 21, 8, 155, 0, 59, 42, 21, 8, 182, 0, 69, 154, 0, 50, 42, 180, 0, 13, 29, 21, 8, 96]
abbrev dktX3_floods_4 : List UInt8 := dkwX3_floods_4 ++ dktX3_floods_5
def dkwX3_floods_3 : List UInt8 := [180, 0, 16, 21, 5, 46, 54, 6, 3, 54, 7, 21, 7, 7, 162, 0, 79, 21, 6, 21, 7, 184, 0, 72]
abbrev dktX3_floods_3 : List UInt8 := dkwX3_floods_3 ++ dktX3_floods_4
def dkwX3_floods_2 : List UInt8 := [79, 42, 180, 0, 16, 3, 28, 79, 4, 54, 4, 3, 54, 5, 21, 5, 21, 4, 162, 0, 103, 42]
abbrev dktX3_floods_2 : List UInt8 := dkwX3_floods_2 ++ dktX3_floods_3
def dkwX3_floods_1 : List UInt8 := [79, 132, 4, 1, 167, 255, 236, 42, 28, 182, 0, 69, 153, 0, 4, 177, 42, 180, 0, 13, 29, 28, 96, 3]
abbrev dktX3_floods_1 : List UInt8 := dkwX3_floods_1 ++ dktX3_floods_2
def dkwX3_floods_0 : List UInt8 := [16, 120, 27, 104, 62, 3, 54, 4, 21, 4, 16, 120, 162, 0, 19, 42, 180, 0, 13, 29, 21, 4, 96, 2]
abbrev dktX3_floods_0 : List UInt8 := dkwX3_floods_0 ++ dktX3_floods_1
theorem dksX3_floods_0 : cX3_floods.data.toList.drop 0 = dktX3_floods_0 := by decide +kernel
theorem dksX3_floods_1 : cX3_floods.data.toList.drop 24 = dktX3_floods_1 := dk_seg dksX3_floods_0 24 rfl rfl
theorem dksX3_floods_2 : cX3_floods.data.toList.drop 48 = dktX3_floods_2 := dk_seg dksX3_floods_1 24 rfl rfl
theorem dksX3_floods_3 : cX3_floods.data.toList.drop 70 = dktX3_floods_3 := dk_seg dksX3_floods_2 22 rfl rfl
theorem dksX3_floods_4 : cX3_floods.data.toList.drop 94 = dktX3_floods_4 := dk_seg dksX3_floods_3 24 rfl rfl
theorem dksX3_floods_5 : cX3_floods.data.toList.drop 118 = dktX3_floods_5 := dk_seg dksX3_floods_4 24 rfl rfl
theorem dksX3_floods_6 : cX3_floods.data.toList.drop 142 = dktX3_floods_6 := dk_seg dksX3_floods_5 24 rfl rfl
theorem dksX3_floods_7 : cX3_floods.data.toList.drop 166 = dktX3_floods_7 := dk_seg dksX3_floods_6 24 rfl rfl
theorem dX3_floods_0 : decode cX3_floods 0 = .ok (.bipush 120, 2) := dk_16 120 (dk_at dksX3_floods_0 0 rfl rfl)
theorem dX3_floods_2 : decode cX3_floods 2 = .ok (.iload_n 1, 1) := dk_27 (dk_at dksX3_floods_0 2 rfl rfl)
theorem dX3_floods_3 : decode cX3_floods 3 = .ok (.imul, 1) := dk_104 (dk_at dksX3_floods_0 3 rfl rfl)
theorem dX3_floods_4 : decode cX3_floods 4 = .ok (.istore_n 3, 1) := dk_62 (dk_at dksX3_floods_0 4 rfl rfl)
theorem dX3_floods_5 : decode cX3_floods 5 = .ok (.iconst 0, 1) := dk_3 (dk_at dksX3_floods_0 5 rfl rfl)
theorem dX3_floods_6 : decode cX3_floods 6 = .ok (.istore 4, 2) := dk_54 4 (dk_at dksX3_floods_0 6 rfl rfl)
theorem dX3_floods_8 : decode cX3_floods 8 = .ok (.iload 4, 2) := dk_21 4 (dk_at dksX3_floods_0 8 rfl rfl)
theorem dX3_floods_10 : decode cX3_floods 10 = .ok (.bipush 120, 2) := dk_16 120 (dk_at dksX3_floods_0 10 rfl rfl)
theorem dX3_floods_12 : decode cX3_floods 12 = .ok (.if_icmp .ge 19, 3) := dk_162 0 19 (dk_at dksX3_floods_0 12 rfl rfl)
theorem dX3_floods_15 : decode cX3_floods 15 = .ok (.aload_n 0, 1) := dk_42 (dk_at dksX3_floods_0 15 rfl rfl)
theorem dX3_floods_16 : decode cX3_floods 16 = .ok (.getfield 13, 3) := dk_180 0 13 (dk_at dksX3_floods_0 16 rfl rfl)
theorem dX3_floods_19 : decode cX3_floods 19 = .ok (.iload_n 3, 1) := dk_29 (dk_at dksX3_floods_0 19 rfl rfl)
theorem dX3_floods_20 : decode cX3_floods 20 = .ok (.iload 4, 2) := dk_21 4 (dk_at dksX3_floods_0 20 rfl rfl)
theorem dX3_floods_22 : decode cX3_floods 22 = .ok (.iadd, 1) := dk_96 (dk_at dksX3_floods_0 22 rfl rfl)
theorem dX3_floods_23 : decode cX3_floods 23 = .ok (.iconst (-1), 1) := dk_2 (dk_at dksX3_floods_0 23 rfl rfl)
theorem dX3_floods_24 : decode cX3_floods 24 = .ok (.iastore, 1) := dk_79 (dk_at dksX3_floods_1 0 rfl rfl)
theorem dX3_floods_25 : decode cX3_floods 25 = .ok (.iinc 4 1, 3) := dk_132 4 1 (dk_at dksX3_floods_1 1 rfl rfl)
theorem dX3_floods_28 : decode cX3_floods 28 = .ok (.goto (-20), 3) := dk_167 255 236 (dk_at dksX3_floods_1 4 rfl rfl)
theorem dX3_floods_31 : decode cX3_floods 31 = .ok (.aload_n 0, 1) := dk_42 (dk_at dksX3_floods_1 7 rfl rfl)
theorem dX3_floods_32 : decode cX3_floods 32 = .ok (.iload_n 2, 1) := dk_28 (dk_at dksX3_floods_1 8 rfl rfl)
theorem dX3_floods_33 : decode cX3_floods 33 = .ok (.invokevirtual 69, 3) := dk_182 0 69 (dk_at dksX3_floods_1 9 rfl rfl)
theorem dX3_floods_36 : decode cX3_floods 36 = .ok (.ifCond .eq 4, 3) := dk_153 0 4 (dk_at dksX3_floods_1 12 rfl rfl)
theorem dX3_floods_39 : decode cX3_floods 39 = .ok (.return_, 1) := dk_177 (dk_at dksX3_floods_1 15 rfl rfl)
theorem dX3_floods_40 : decode cX3_floods 40 = .ok (.aload_n 0, 1) := dk_42 (dk_at dksX3_floods_1 16 rfl rfl)
theorem dX3_floods_41 : decode cX3_floods 41 = .ok (.getfield 13, 3) := dk_180 0 13 (dk_at dksX3_floods_1 17 rfl rfl)
theorem dX3_floods_44 : decode cX3_floods 44 = .ok (.iload_n 3, 1) := dk_29 (dk_at dksX3_floods_1 20 rfl rfl)
theorem dX3_floods_45 : decode cX3_floods 45 = .ok (.iload_n 2, 1) := dk_28 (dk_at dksX3_floods_1 21 rfl rfl)
theorem dX3_floods_46 : decode cX3_floods 46 = .ok (.iadd, 1) := dk_96 (dk_at dksX3_floods_1 22 rfl rfl)
theorem dX3_floods_47 : decode cX3_floods 47 = .ok (.iconst 0, 1) := dk_3 (dk_at dksX3_floods_1 23 rfl rfl)
theorem dX3_floods_48 : decode cX3_floods 48 = .ok (.iastore, 1) := dk_79 (dk_at dksX3_floods_2 0 rfl rfl)
theorem dX3_floods_49 : decode cX3_floods 49 = .ok (.aload_n 0, 1) := dk_42 (dk_at dksX3_floods_2 1 rfl rfl)
theorem dX3_floods_50 : decode cX3_floods 50 = .ok (.getfield 16, 3) := dk_180 0 16 (dk_at dksX3_floods_2 2 rfl rfl)
theorem dX3_floods_53 : decode cX3_floods 53 = .ok (.iconst 0, 1) := dk_3 (dk_at dksX3_floods_2 5 rfl rfl)
theorem dX3_floods_54 : decode cX3_floods 54 = .ok (.iload_n 2, 1) := dk_28 (dk_at dksX3_floods_2 6 rfl rfl)
theorem dX3_floods_55 : decode cX3_floods 55 = .ok (.iastore, 1) := dk_79 (dk_at dksX3_floods_2 7 rfl rfl)
theorem dX3_floods_56 : decode cX3_floods 56 = .ok (.iconst 1, 1) := dk_4 (dk_at dksX3_floods_2 8 rfl rfl)
theorem dX3_floods_57 : decode cX3_floods 57 = .ok (.istore 4, 2) := dk_54 4 (dk_at dksX3_floods_2 9 rfl rfl)
theorem dX3_floods_59 : decode cX3_floods 59 = .ok (.iconst 0, 1) := dk_3 (dk_at dksX3_floods_2 11 rfl rfl)
theorem dX3_floods_60 : decode cX3_floods 60 = .ok (.istore 5, 2) := dk_54 5 (dk_at dksX3_floods_2 12 rfl rfl)
theorem dX3_floods_62 : decode cX3_floods 62 = .ok (.iload 5, 2) := dk_21 5 (dk_at dksX3_floods_2 14 rfl rfl)
theorem dX3_floods_64 : decode cX3_floods 64 = .ok (.iload 4, 2) := dk_21 4 (dk_at dksX3_floods_2 16 rfl rfl)
theorem dX3_floods_66 : decode cX3_floods 66 = .ok (.if_icmp .ge 103, 3) := dk_162 0 103 (dk_at dksX3_floods_2 18 rfl rfl)
theorem dX3_floods_69 : decode cX3_floods 69 = .ok (.aload_n 0, 1) := dk_42 (dk_at dksX3_floods_2 21 rfl rfl)
theorem dX3_floods_70 : decode cX3_floods 70 = .ok (.getfield 16, 3) := dk_180 0 16 (dk_at dksX3_floods_3 0 rfl rfl)
theorem dX3_floods_73 : decode cX3_floods 73 = .ok (.iload 5, 2) := dk_21 5 (dk_at dksX3_floods_3 3 rfl rfl)
theorem dX3_floods_75 : decode cX3_floods 75 = .ok (.iaload, 1) := dk_46 (dk_at dksX3_floods_3 5 rfl rfl)
theorem dX3_floods_76 : decode cX3_floods 76 = .ok (.istore 6, 2) := dk_54 6 (dk_at dksX3_floods_3 6 rfl rfl)
theorem dX3_floods_78 : decode cX3_floods 78 = .ok (.iconst 0, 1) := dk_3 (dk_at dksX3_floods_3 8 rfl rfl)
theorem dX3_floods_79 : decode cX3_floods 79 = .ok (.istore 7, 2) := dk_54 7 (dk_at dksX3_floods_3 9 rfl rfl)
theorem dX3_floods_81 : decode cX3_floods 81 = .ok (.iload 7, 2) := dk_21 7 (dk_at dksX3_floods_3 11 rfl rfl)
theorem dX3_floods_83 : decode cX3_floods 83 = .ok (.iconst 4, 1) := dk_7 (dk_at dksX3_floods_3 13 rfl rfl)
theorem dX3_floods_84 : decode cX3_floods 84 = .ok (.if_icmp .ge 79, 3) := dk_162 0 79 (dk_at dksX3_floods_3 14 rfl rfl)
theorem dX3_floods_87 : decode cX3_floods 87 = .ok (.iload 6, 2) := dk_21 6 (dk_at dksX3_floods_3 17 rfl rfl)
theorem dX3_floods_89 : decode cX3_floods 89 = .ok (.iload 7, 2) := dk_21 7 (dk_at dksX3_floods_3 19 rfl rfl)
theorem dX3_floods_91 : decode cX3_floods 91 = .ok (.invokestatic 72, 3) := dk_184 0 72 (dk_at dksX3_floods_3 21 rfl rfl)
theorem dX3_floods_94 : decode cX3_floods 94 = .ok (.istore 8, 2) := dk_54 8 (dk_at dksX3_floods_4 0 rfl rfl)
theorem dX3_floods_96 : decode cX3_floods 96 = .ok (.iload 8, 2) := dk_21 8 (dk_at dksX3_floods_4 2 rfl rfl)
theorem dX3_floods_98 : decode cX3_floods 98 = .ok (.ifCond .lt 59, 3) := dk_155 0 59 (dk_at dksX3_floods_4 4 rfl rfl)
theorem dX3_floods_101 : decode cX3_floods 101 = .ok (.aload_n 0, 1) := dk_42 (dk_at dksX3_floods_4 7 rfl rfl)
theorem dX3_floods_102 : decode cX3_floods 102 = .ok (.iload 8, 2) := dk_21 8 (dk_at dksX3_floods_4 8 rfl rfl)
theorem dX3_floods_104 : decode cX3_floods 104 = .ok (.invokevirtual 69, 3) := dk_182 0 69 (dk_at dksX3_floods_4 10 rfl rfl)
theorem dX3_floods_107 : decode cX3_floods 107 = .ok (.ifCond .ne 50, 3) := dk_154 0 50 (dk_at dksX3_floods_4 13 rfl rfl)
theorem dX3_floods_110 : decode cX3_floods 110 = .ok (.aload_n 0, 1) := dk_42 (dk_at dksX3_floods_4 16 rfl rfl)
theorem dX3_floods_111 : decode cX3_floods 111 = .ok (.getfield 13, 3) := dk_180 0 13 (dk_at dksX3_floods_4 17 rfl rfl)
theorem dX3_floods_114 : decode cX3_floods 114 = .ok (.iload_n 3, 1) := dk_29 (dk_at dksX3_floods_4 20 rfl rfl)
theorem dX3_floods_115 : decode cX3_floods 115 = .ok (.iload 8, 2) := dk_21 8 (dk_at dksX3_floods_4 21 rfl rfl)
theorem dX3_floods_117 : decode cX3_floods 117 = .ok (.iadd, 1) := dk_96 (dk_at dksX3_floods_4 23 rfl rfl)
theorem dX3_floods_118 : decode cX3_floods 118 = .ok (.iaload, 1) := dk_46 (dk_at dksX3_floods_5 0 rfl rfl)
theorem dX3_floods_119 : decode cX3_floods 119 = .ok (.ifCond .lt 6, 3) := dk_155 0 6 (dk_at dksX3_floods_5 1 rfl rfl)
theorem dX3_floods_122 : decode cX3_floods 122 = .ok (.goto 35, 3) := dk_167 0 35 (dk_at dksX3_floods_5 4 rfl rfl)
theorem dX3_floods_125 : decode cX3_floods 125 = .ok (.aload_n 0, 1) := dk_42 (dk_at dksX3_floods_5 7 rfl rfl)
theorem dX3_floods_126 : decode cX3_floods 126 = .ok (.getfield 13, 3) := dk_180 0 13 (dk_at dksX3_floods_5 8 rfl rfl)
theorem dX3_floods_129 : decode cX3_floods 129 = .ok (.iload_n 3, 1) := dk_29 (dk_at dksX3_floods_5 11 rfl rfl)
theorem dX3_floods_130 : decode cX3_floods 130 = .ok (.iload 8, 2) := dk_21 8 (dk_at dksX3_floods_5 12 rfl rfl)
theorem dX3_floods_132 : decode cX3_floods 132 = .ok (.iadd, 1) := dk_96 (dk_at dksX3_floods_5 14 rfl rfl)
theorem dX3_floods_133 : decode cX3_floods 133 = .ok (.aload_n 0, 1) := dk_42 (dk_at dksX3_floods_5 15 rfl rfl)
theorem dX3_floods_134 : decode cX3_floods 134 = .ok (.getfield 13, 3) := dk_180 0 13 (dk_at dksX3_floods_5 16 rfl rfl)
theorem dX3_floods_137 : decode cX3_floods 137 = .ok (.iload_n 3, 1) := dk_29 (dk_at dksX3_floods_5 19 rfl rfl)
theorem dX3_floods_138 : decode cX3_floods 138 = .ok (.iload 6, 2) := dk_21 6 (dk_at dksX3_floods_5 20 rfl rfl)
theorem dX3_floods_140 : decode cX3_floods 140 = .ok (.iadd, 1) := dk_96 (dk_at dksX3_floods_5 22 rfl rfl)
theorem dX3_floods_141 : decode cX3_floods 141 = .ok (.iaload, 1) := dk_46 (dk_at dksX3_floods_5 23 rfl rfl)
theorem dX3_floods_142 : decode cX3_floods 142 = .ok (.iconst 1, 1) := dk_4 (dk_at dksX3_floods_6 0 rfl rfl)
theorem dX3_floods_143 : decode cX3_floods 143 = .ok (.iadd, 1) := dk_96 (dk_at dksX3_floods_6 1 rfl rfl)
theorem dX3_floods_144 : decode cX3_floods 144 = .ok (.iastore, 1) := dk_79 (dk_at dksX3_floods_6 2 rfl rfl)
theorem dX3_floods_145 : decode cX3_floods 145 = .ok (.aload_n 0, 1) := dk_42 (dk_at dksX3_floods_6 3 rfl rfl)
theorem dX3_floods_146 : decode cX3_floods 146 = .ok (.getfield 16, 3) := dk_180 0 16 (dk_at dksX3_floods_6 4 rfl rfl)
theorem dX3_floods_149 : decode cX3_floods 149 = .ok (.iload 4, 2) := dk_21 4 (dk_at dksX3_floods_6 7 rfl rfl)
theorem dX3_floods_151 : decode cX3_floods 151 = .ok (.iload 8, 2) := dk_21 8 (dk_at dksX3_floods_6 9 rfl rfl)
theorem dX3_floods_153 : decode cX3_floods 153 = .ok (.iastore, 1) := dk_79 (dk_at dksX3_floods_6 11 rfl rfl)
theorem dX3_floods_154 : decode cX3_floods 154 = .ok (.iinc 4 1, 3) := dk_132 4 1 (dk_at dksX3_floods_6 12 rfl rfl)
theorem dX3_floods_157 : decode cX3_floods 157 = .ok (.iinc 7 1, 3) := dk_132 7 1 (dk_at dksX3_floods_6 15 rfl rfl)
theorem dX3_floods_160 : decode cX3_floods 160 = .ok (.goto (-79), 3) := dk_167 255 177 (dk_at dksX3_floods_6 18 rfl rfl)
theorem dX3_floods_163 : decode cX3_floods 163 = .ok (.iinc 5 1, 3) := dk_132 5 1 (dk_at dksX3_floods_6 21 rfl rfl)
theorem dX3_floods_166 : decode cX3_floods 166 = .ok (.goto (-104), 3) := dk_167 255 152 (dk_at dksX3_floods_7 0 rfl rfl)
theorem dX3_floods_169 : decode cX3_floods 169 = .ok (.return_, 1) := dk_177 (dk_at dksX3_floods_7 3 rfl rfl)
abbrev cX3_isBlocked : ByteArray := prog_11_method_9_code
def yX3_isBlocked : MethodName := ⟨RX3, "isBlocked", "(I)Z"⟩
def dkwX3_isBlocked_0 : List UInt8 := [42, 180, 0, 9, 16, 72, 27, 96, 46, 4, 160, 0, 7, 4, 167, 0, 4, 3, 172]
abbrev dktX3_isBlocked_0 : List UInt8 := dkwX3_isBlocked_0 ++ []
theorem dksX3_isBlocked_0 : cX3_isBlocked.data.toList.drop 0 = dktX3_isBlocked_0 := by decide +kernel
theorem dX3_isBlocked_0 : decode cX3_isBlocked 0 = .ok (.aload_n 0, 1) := dk_42 (dk_at dksX3_isBlocked_0 0 rfl rfl)
theorem dX3_isBlocked_1 : decode cX3_isBlocked 1 = .ok (.getfield 9, 3) := dk_180 0 9 (dk_at dksX3_isBlocked_0 1 rfl rfl)
theorem dX3_isBlocked_4 : decode cX3_isBlocked 4 = .ok (.bipush 72, 2) := dk_16 72 (dk_at dksX3_isBlocked_0 4 rfl rfl)
theorem dX3_isBlocked_6 : decode cX3_isBlocked 6 = .ok (.iload_n 1, 1) := dk_27 (dk_at dksX3_isBlocked_0 6 rfl rfl)
theorem dX3_isBlocked_7 : decode cX3_isBlocked 7 = .ok (.iadd, 1) := dk_96 (dk_at dksX3_isBlocked_0 7 rfl rfl)
theorem dX3_isBlocked_8 : decode cX3_isBlocked 8 = .ok (.iaload, 1) := dk_46 (dk_at dksX3_isBlocked_0 8 rfl rfl)
theorem dX3_isBlocked_9 : decode cX3_isBlocked 9 = .ok (.iconst 1, 1) := dk_4 (dk_at dksX3_isBlocked_0 9 rfl rfl)
theorem dX3_isBlocked_10 : decode cX3_isBlocked 10 = .ok (.if_icmp .ne 7, 3) := dk_160 0 7 (dk_at dksX3_isBlocked_0 10 rfl rfl)
theorem dX3_isBlocked_13 : decode cX3_isBlocked 13 = .ok (.iconst 1, 1) := dk_4 (dk_at dksX3_isBlocked_0 13 rfl rfl)
theorem dX3_isBlocked_14 : decode cX3_isBlocked 14 = .ok (.goto 4, 3) := dk_167 0 4 (dk_at dksX3_isBlocked_0 14 rfl rfl)
theorem dX3_isBlocked_17 : decode cX3_isBlocked 17 = .ok (.iconst 0, 1) := dk_3 (dk_at dksX3_isBlocked_0 17 rfl rfl)
theorem dX3_isBlocked_18 : decode cX3_isBlocked 18 = .ok (.ireturn, 1) := dk_172 (dk_at dksX3_isBlocked_0 18 rfl rfl)
abbrev cX3_beside : ByteArray := prog_11_method_14_code
def yX3_beside : MethodName := ⟨RX3, "beside", "(II)I"⟩
def dkwX3_beside_3 : List UInt8 := [104, 28, 96, 167, 0, 4, 2, 172]
abbrev dktX3_beside_3 : List UInt8 := dkwX3_beside_3 ++ []
def dkwX3_beside_2 : List UInt8 := [62, 28, 3, 16, 11, 184, 0, 57, 153, 0, 22, 29, 3, 16, 9, 184, 0, 57, 153, 0, 12, 16, 12, 29]
abbrev dktX3_beside_2 : List UInt8 := dkwX3_beside_2 ++ dktX3_beside_3
def dkwX3_beside_1 : List UInt8 := [26, 16, 12, 108, 27, 4, 160, 0, 7, 4, 167, 0, 13, 27, 6, 160, 0, 7, 2, 167, 0, 4, 3, 96]
abbrev dktX3_beside_1 : List UInt8 := dkwX3_beside_1 ++ dktX3_beside_2
def dkwX3_beside_0 : List UInt8 := [26, 16, 12, 112, 27, 154, 0, 7, 4, 167, 0, 13, 27, 5, 160, 0, 7, 2, 167, 0, 4, 3, 96, 61]
abbrev dktX3_beside_0 : List UInt8 := dkwX3_beside_0 ++ dktX3_beside_1
theorem dksX3_beside_0 : cX3_beside.data.toList.drop 0 = dktX3_beside_0 := by decide +kernel
theorem dksX3_beside_1 : cX3_beside.data.toList.drop 24 = dktX3_beside_1 := dk_seg dksX3_beside_0 24 rfl rfl
theorem dksX3_beside_2 : cX3_beside.data.toList.drop 48 = dktX3_beside_2 := dk_seg dksX3_beside_1 24 rfl rfl
theorem dksX3_beside_3 : cX3_beside.data.toList.drop 72 = dktX3_beside_3 := dk_seg dksX3_beside_2 24 rfl rfl
theorem dX3_beside_0 : decode cX3_beside 0 = .ok (.iload_n 0, 1) := dk_26 (dk_at dksX3_beside_0 0 rfl rfl)
theorem dX3_beside_1 : decode cX3_beside 1 = .ok (.bipush 12, 2) := dk_16 12 (dk_at dksX3_beside_0 1 rfl rfl)
theorem dX3_beside_3 : decode cX3_beside 3 = .ok (.irem, 1) := dk_112 (dk_at dksX3_beside_0 3 rfl rfl)
theorem dX3_beside_4 : decode cX3_beside 4 = .ok (.iload_n 1, 1) := dk_27 (dk_at dksX3_beside_0 4 rfl rfl)
theorem dX3_beside_5 : decode cX3_beside 5 = .ok (.ifCond .ne 7, 3) := dk_154 0 7 (dk_at dksX3_beside_0 5 rfl rfl)
theorem dX3_beside_8 : decode cX3_beside 8 = .ok (.iconst 1, 1) := dk_4 (dk_at dksX3_beside_0 8 rfl rfl)
theorem dX3_beside_9 : decode cX3_beside 9 = .ok (.goto 13, 3) := dk_167 0 13 (dk_at dksX3_beside_0 9 rfl rfl)
theorem dX3_beside_12 : decode cX3_beside 12 = .ok (.iload_n 1, 1) := dk_27 (dk_at dksX3_beside_0 12 rfl rfl)
theorem dX3_beside_13 : decode cX3_beside 13 = .ok (.iconst 2, 1) := dk_5 (dk_at dksX3_beside_0 13 rfl rfl)
theorem dX3_beside_14 : decode cX3_beside 14 = .ok (.if_icmp .ne 7, 3) := dk_160 0 7 (dk_at dksX3_beside_0 14 rfl rfl)
theorem dX3_beside_17 : decode cX3_beside 17 = .ok (.iconst (-1), 1) := dk_2 (dk_at dksX3_beside_0 17 rfl rfl)
theorem dX3_beside_18 : decode cX3_beside 18 = .ok (.goto 4, 3) := dk_167 0 4 (dk_at dksX3_beside_0 18 rfl rfl)
theorem dX3_beside_21 : decode cX3_beside 21 = .ok (.iconst 0, 1) := dk_3 (dk_at dksX3_beside_0 21 rfl rfl)
theorem dX3_beside_22 : decode cX3_beside 22 = .ok (.iadd, 1) := dk_96 (dk_at dksX3_beside_0 22 rfl rfl)
theorem dX3_beside_23 : decode cX3_beside 23 = .ok (.istore_n 2, 1) := dk_61 (dk_at dksX3_beside_0 23 rfl rfl)
theorem dX3_beside_24 : decode cX3_beside 24 = .ok (.iload_n 0, 1) := dk_26 (dk_at dksX3_beside_1 0 rfl rfl)
theorem dX3_beside_25 : decode cX3_beside 25 = .ok (.bipush 12, 2) := dk_16 12 (dk_at dksX3_beside_1 1 rfl rfl)
theorem dX3_beside_27 : decode cX3_beside 27 = .ok (.idiv, 1) := dk_108 (dk_at dksX3_beside_1 3 rfl rfl)
theorem dX3_beside_28 : decode cX3_beside 28 = .ok (.iload_n 1, 1) := dk_27 (dk_at dksX3_beside_1 4 rfl rfl)
theorem dX3_beside_29 : decode cX3_beside 29 = .ok (.iconst 1, 1) := dk_4 (dk_at dksX3_beside_1 5 rfl rfl)
theorem dX3_beside_30 : decode cX3_beside 30 = .ok (.if_icmp .ne 7, 3) := dk_160 0 7 (dk_at dksX3_beside_1 6 rfl rfl)
theorem dX3_beside_33 : decode cX3_beside 33 = .ok (.iconst 1, 1) := dk_4 (dk_at dksX3_beside_1 9 rfl rfl)
theorem dX3_beside_34 : decode cX3_beside 34 = .ok (.goto 13, 3) := dk_167 0 13 (dk_at dksX3_beside_1 10 rfl rfl)
theorem dX3_beside_37 : decode cX3_beside 37 = .ok (.iload_n 1, 1) := dk_27 (dk_at dksX3_beside_1 13 rfl rfl)
theorem dX3_beside_38 : decode cX3_beside 38 = .ok (.iconst 3, 1) := dk_6 (dk_at dksX3_beside_1 14 rfl rfl)
theorem dX3_beside_39 : decode cX3_beside 39 = .ok (.if_icmp .ne 7, 3) := dk_160 0 7 (dk_at dksX3_beside_1 15 rfl rfl)
theorem dX3_beside_42 : decode cX3_beside 42 = .ok (.iconst (-1), 1) := dk_2 (dk_at dksX3_beside_1 18 rfl rfl)
theorem dX3_beside_43 : decode cX3_beside 43 = .ok (.goto 4, 3) := dk_167 0 4 (dk_at dksX3_beside_1 19 rfl rfl)
theorem dX3_beside_46 : decode cX3_beside 46 = .ok (.iconst 0, 1) := dk_3 (dk_at dksX3_beside_1 22 rfl rfl)
theorem dX3_beside_47 : decode cX3_beside 47 = .ok (.iadd, 1) := dk_96 (dk_at dksX3_beside_1 23 rfl rfl)
theorem dX3_beside_48 : decode cX3_beside 48 = .ok (.istore_n 3, 1) := dk_62 (dk_at dksX3_beside_2 0 rfl rfl)
theorem dX3_beside_49 : decode cX3_beside 49 = .ok (.iload_n 2, 1) := dk_28 (dk_at dksX3_beside_2 1 rfl rfl)
theorem dX3_beside_50 : decode cX3_beside 50 = .ok (.iconst 0, 1) := dk_3 (dk_at dksX3_beside_2 2 rfl rfl)
theorem dX3_beside_51 : decode cX3_beside 51 = .ok (.bipush 11, 2) := dk_16 11 (dk_at dksX3_beside_2 3 rfl rfl)
theorem dX3_beside_53 : decode cX3_beside 53 = .ok (.invokestatic 57, 3) := dk_184 0 57 (dk_at dksX3_beside_2 5 rfl rfl)
theorem dX3_beside_56 : decode cX3_beside 56 = .ok (.ifCond .eq 22, 3) := dk_153 0 22 (dk_at dksX3_beside_2 8 rfl rfl)
theorem dX3_beside_59 : decode cX3_beside 59 = .ok (.iload_n 3, 1) := dk_29 (dk_at dksX3_beside_2 11 rfl rfl)
theorem dX3_beside_60 : decode cX3_beside 60 = .ok (.iconst 0, 1) := dk_3 (dk_at dksX3_beside_2 12 rfl rfl)
theorem dX3_beside_61 : decode cX3_beside 61 = .ok (.bipush 9, 2) := dk_16 9 (dk_at dksX3_beside_2 13 rfl rfl)
theorem dX3_beside_63 : decode cX3_beside 63 = .ok (.invokestatic 57, 3) := dk_184 0 57 (dk_at dksX3_beside_2 15 rfl rfl)
theorem dX3_beside_66 : decode cX3_beside 66 = .ok (.ifCond .eq 12, 3) := dk_153 0 12 (dk_at dksX3_beside_2 18 rfl rfl)
theorem dX3_beside_69 : decode cX3_beside 69 = .ok (.bipush 12, 2) := dk_16 12 (dk_at dksX3_beside_2 21 rfl rfl)
theorem dX3_beside_71 : decode cX3_beside 71 = .ok (.iload_n 3, 1) := dk_29 (dk_at dksX3_beside_2 23 rfl rfl)
theorem dX3_beside_72 : decode cX3_beside 72 = .ok (.imul, 1) := dk_104 (dk_at dksX3_beside_3 0 rfl rfl)
theorem dX3_beside_73 : decode cX3_beside 73 = .ok (.iload_n 2, 1) := dk_28 (dk_at dksX3_beside_3 1 rfl rfl)
theorem dX3_beside_74 : decode cX3_beside 74 = .ok (.iadd, 1) := dk_96 (dk_at dksX3_beside_3 2 rfl rfl)
theorem dX3_beside_75 : decode cX3_beside 75 = .ok (.goto 4, 3) := dk_167 0 4 (dk_at dksX3_beside_3 3 rfl rfl)
theorem dX3_beside_78 : decode cX3_beside 78 = .ok (.iconst (-1), 1) := dk_2 (dk_at dksX3_beside_3 6 rfl rfl)
theorem dX3_beside_79 : decode cX3_beside 79 = .ok (.ireturn, 1) := dk_172 (dk_at dksX3_beside_3 7 rfl rfl)
abbrev cX3_on : ByteArray := prog_11_method_11_code
def yX3_on : MethodName := ⟨RX3, "on", "(I)I"⟩
def dkwX3_on_1 : List UInt8 := [160, 0, 5, 28, 172, 132, 2, 1, 167, 255, 227, 2, 172]
abbrev dktX3_on_1 : List UInt8 := dkwX3_on_1 ++ []
def dkwX3_on_0 : List UInt8 := [3, 61, 28, 16, 10, 162, 0, 29, 42, 28, 182, 0, 65, 153, 0, 15, 42, 28, 3, 182, 0, 61, 27]
abbrev dktX3_on_0 : List UInt8 := dkwX3_on_0 ++ dktX3_on_1
theorem dksX3_on_0 : cX3_on.data.toList.drop 0 = dktX3_on_0 := by decide +kernel
theorem dksX3_on_1 : cX3_on.data.toList.drop 23 = dktX3_on_1 := dk_seg dksX3_on_0 23 rfl rfl
theorem dX3_on_0 : decode cX3_on 0 = .ok (.iconst 0, 1) := dk_3 (dk_at dksX3_on_0 0 rfl rfl)
theorem dX3_on_1 : decode cX3_on 1 = .ok (.istore_n 2, 1) := dk_61 (dk_at dksX3_on_0 1 rfl rfl)
theorem dX3_on_2 : decode cX3_on 2 = .ok (.iload_n 2, 1) := dk_28 (dk_at dksX3_on_0 2 rfl rfl)
theorem dX3_on_3 : decode cX3_on 3 = .ok (.bipush 10, 2) := dk_16 10 (dk_at dksX3_on_0 3 rfl rfl)
theorem dX3_on_5 : decode cX3_on 5 = .ok (.if_icmp .ge 29, 3) := dk_162 0 29 (dk_at dksX3_on_0 5 rfl rfl)
theorem dX3_on_8 : decode cX3_on 8 = .ok (.aload_n 0, 1) := dk_42 (dk_at dksX3_on_0 8 rfl rfl)
theorem dX3_on_9 : decode cX3_on 9 = .ok (.iload_n 2, 1) := dk_28 (dk_at dksX3_on_0 9 rfl rfl)
theorem dX3_on_10 : decode cX3_on 10 = .ok (.invokevirtual 65, 3) := dk_182 0 65 (dk_at dksX3_on_0 10 rfl rfl)
theorem dX3_on_13 : decode cX3_on 13 = .ok (.ifCond .eq 15, 3) := dk_153 0 15 (dk_at dksX3_on_0 13 rfl rfl)
theorem dX3_on_16 : decode cX3_on 16 = .ok (.aload_n 0, 1) := dk_42 (dk_at dksX3_on_0 16 rfl rfl)
theorem dX3_on_17 : decode cX3_on 17 = .ok (.iload_n 2, 1) := dk_28 (dk_at dksX3_on_0 17 rfl rfl)
theorem dX3_on_18 : decode cX3_on 18 = .ok (.iconst 0, 1) := dk_3 (dk_at dksX3_on_0 18 rfl rfl)
theorem dX3_on_19 : decode cX3_on 19 = .ok (.invokevirtual 61, 3) := dk_182 0 61 (dk_at dksX3_on_0 19 rfl rfl)
theorem dX3_on_22 : decode cX3_on 22 = .ok (.iload_n 1, 1) := dk_27 (dk_at dksX3_on_0 22 rfl rfl)
theorem dX3_on_23 : decode cX3_on 23 = .ok (.if_icmp .ne 5, 3) := dk_160 0 5 (dk_at dksX3_on_1 0 rfl rfl)
theorem dX3_on_26 : decode cX3_on 26 = .ok (.iload_n 2, 1) := dk_28 (dk_at dksX3_on_1 3 rfl rfl)
theorem dX3_on_27 : decode cX3_on 27 = .ok (.ireturn, 1) := dk_172 (dk_at dksX3_on_1 4 rfl rfl)
theorem dX3_on_28 : decode cX3_on 28 = .ok (.iinc 2 1, 3) := dk_132 2 1 (dk_at dksX3_on_1 5 rfl rfl)
theorem dX3_on_31 : decode cX3_on 31 = .ok (.goto (-29), 3) := dk_167 255 227 (dk_at dksX3_on_1 8 rfl rfl)
theorem dX3_on_34 : decode cX3_on 34 = .ok (.iconst (-1), 1) := dk_2 (dk_at dksX3_on_1 11 rfl rfl)
theorem dX3_on_35 : decode cX3_on 35 = .ok (.ireturn, 1) := dk_172 (dk_at dksX3_on_1 12 rfl rfl)
abbrev cX3_waits : ByteArray := prog_11_method_27_code
def yX3_waits : MethodName := ⟨RX3, "waits", "(I)V"⟩
def dkwX3_waits_0 : List UInt8 := [42, 27, 6, 42, 27, 6, 182, 0, 61, 4, 96, 182, 0, 114, 42, 5, 4, 182, 0, 118, 177]
abbrev dktX3_waits_0 : List UInt8 := dkwX3_waits_0 ++ []
theorem dksX3_waits_0 : cX3_waits.data.toList.drop 0 = dktX3_waits_0 := by decide +kernel
theorem dX3_waits_0 : decode cX3_waits 0 = .ok (.aload_n 0, 1) := dk_42 (dk_at dksX3_waits_0 0 rfl rfl)
theorem dX3_waits_1 : decode cX3_waits 1 = .ok (.iload_n 1, 1) := dk_27 (dk_at dksX3_waits_0 1 rfl rfl)
theorem dX3_waits_2 : decode cX3_waits 2 = .ok (.iconst 3, 1) := dk_6 (dk_at dksX3_waits_0 2 rfl rfl)
theorem dX3_waits_3 : decode cX3_waits 3 = .ok (.aload_n 0, 1) := dk_42 (dk_at dksX3_waits_0 3 rfl rfl)
theorem dX3_waits_4 : decode cX3_waits 4 = .ok (.iload_n 1, 1) := dk_27 (dk_at dksX3_waits_0 4 rfl rfl)
theorem dX3_waits_5 : decode cX3_waits 5 = .ok (.iconst 3, 1) := dk_6 (dk_at dksX3_waits_0 5 rfl rfl)
theorem dX3_waits_6 : decode cX3_waits 6 = .ok (.invokevirtual 61, 3) := dk_182 0 61 (dk_at dksX3_waits_0 6 rfl rfl)
theorem dX3_waits_9 : decode cX3_waits 9 = .ok (.iconst 1, 1) := dk_4 (dk_at dksX3_waits_0 9 rfl rfl)
theorem dX3_waits_10 : decode cX3_waits 10 = .ok (.iadd, 1) := dk_96 (dk_at dksX3_waits_0 10 rfl rfl)
theorem dX3_waits_11 : decode cX3_waits 11 = .ok (.invokevirtual 114, 3) := dk_182 0 114 (dk_at dksX3_waits_0 11 rfl rfl)
theorem dX3_waits_14 : decode cX3_waits 14 = .ok (.aload_n 0, 1) := dk_42 (dk_at dksX3_waits_0 14 rfl rfl)
theorem dX3_waits_15 : decode cX3_waits 15 = .ok (.iconst 2, 1) := dk_5 (dk_at dksX3_waits_0 15 rfl rfl)
theorem dX3_waits_16 : decode cX3_waits 16 = .ok (.iconst 1, 1) := dk_4 (dk_at dksX3_waits_0 16 rfl rfl)
theorem dX3_waits_17 : decode cX3_waits 17 = .ok (.invokevirtual 118, 3) := dk_182 0 118 (dk_at dksX3_waits_0 17 rfl rfl)
theorem dX3_waits_20 : decode cX3_waits 20 = .ok (.return_, 1) := dk_177 (dk_at dksX3_waits_0 20 rfl rfl)
abbrev cX3_goes : ByteArray := prog_11_method_26_code
def yX3_goes : MethodName := ⟨RX3, "goes", "(II)V"⟩
def dkwX3_goes_1 : List UInt8 := [96, 182, 0, 114, 177]
abbrev dktX3_goes_1 : List UInt8 := dkwX3_goes_1 ++ []
def dkwX3_goes_0 : List UInt8 := [42, 27, 3, 28, 182, 0, 114, 42, 27, 4, 3, 182, 0, 114, 42, 27, 5, 42, 27, 5, 182, 0, 61, 4]
abbrev dktX3_goes_0 : List UInt8 := dkwX3_goes_0 ++ dktX3_goes_1
theorem dksX3_goes_0 : cX3_goes.data.toList.drop 0 = dktX3_goes_0 := by decide +kernel
theorem dksX3_goes_1 : cX3_goes.data.toList.drop 24 = dktX3_goes_1 := dk_seg dksX3_goes_0 24 rfl rfl
theorem dX3_goes_0 : decode cX3_goes 0 = .ok (.aload_n 0, 1) := dk_42 (dk_at dksX3_goes_0 0 rfl rfl)
theorem dX3_goes_1 : decode cX3_goes 1 = .ok (.iload_n 1, 1) := dk_27 (dk_at dksX3_goes_0 1 rfl rfl)
theorem dX3_goes_2 : decode cX3_goes 2 = .ok (.iconst 0, 1) := dk_3 (dk_at dksX3_goes_0 2 rfl rfl)
theorem dX3_goes_3 : decode cX3_goes 3 = .ok (.iload_n 2, 1) := dk_28 (dk_at dksX3_goes_0 3 rfl rfl)
theorem dX3_goes_4 : decode cX3_goes 4 = .ok (.invokevirtual 114, 3) := dk_182 0 114 (dk_at dksX3_goes_0 4 rfl rfl)
theorem dX3_goes_7 : decode cX3_goes 7 = .ok (.aload_n 0, 1) := dk_42 (dk_at dksX3_goes_0 7 rfl rfl)
theorem dX3_goes_8 : decode cX3_goes 8 = .ok (.iload_n 1, 1) := dk_27 (dk_at dksX3_goes_0 8 rfl rfl)
theorem dX3_goes_9 : decode cX3_goes 9 = .ok (.iconst 1, 1) := dk_4 (dk_at dksX3_goes_0 9 rfl rfl)
theorem dX3_goes_10 : decode cX3_goes 10 = .ok (.iconst 0, 1) := dk_3 (dk_at dksX3_goes_0 10 rfl rfl)
theorem dX3_goes_11 : decode cX3_goes 11 = .ok (.invokevirtual 114, 3) := dk_182 0 114 (dk_at dksX3_goes_0 11 rfl rfl)
theorem dX3_goes_14 : decode cX3_goes 14 = .ok (.aload_n 0, 1) := dk_42 (dk_at dksX3_goes_0 14 rfl rfl)
theorem dX3_goes_15 : decode cX3_goes 15 = .ok (.iload_n 1, 1) := dk_27 (dk_at dksX3_goes_0 15 rfl rfl)
theorem dX3_goes_16 : decode cX3_goes 16 = .ok (.iconst 2, 1) := dk_5 (dk_at dksX3_goes_0 16 rfl rfl)
theorem dX3_goes_17 : decode cX3_goes 17 = .ok (.aload_n 0, 1) := dk_42 (dk_at dksX3_goes_0 17 rfl rfl)
theorem dX3_goes_18 : decode cX3_goes 18 = .ok (.iload_n 1, 1) := dk_27 (dk_at dksX3_goes_0 18 rfl rfl)
theorem dX3_goes_19 : decode cX3_goes 19 = .ok (.iconst 2, 1) := dk_5 (dk_at dksX3_goes_0 19 rfl rfl)
theorem dX3_goes_20 : decode cX3_goes 20 = .ok (.invokevirtual 61, 3) := dk_182 0 61 (dk_at dksX3_goes_0 20 rfl rfl)
theorem dX3_goes_23 : decode cX3_goes 23 = .ok (.iconst 1, 1) := dk_4 (dk_at dksX3_goes_0 23 rfl rfl)
theorem dX3_goes_24 : decode cX3_goes 24 = .ok (.iadd, 1) := dk_96 (dk_at dksX3_goes_1 0 rfl rfl)
theorem dX3_goes_25 : decode cX3_goes 25 = .ok (.invokevirtual 114, 3) := dk_182 0 114 (dk_at dksX3_goes_1 1 rfl rfl)
theorem dX3_goes_28 : decode cX3_goes 28 = .ok (.return_, 1) := dk_177 (dk_at dksX3_goes_1 4 rfl rfl)
abbrev cX3_gives : ByteArray := prog_11_method_24_code
def yX3_gives : MethodName := ⟨RX3, "gives", "()V"⟩
def dkwX3_gives_20 : List UInt8 := [167, 255, 132, 132, 4, 1, 167, 255, 101, 177]
abbrev dktX3_gives_20 : List UInt8 := dkwX3_gives_20 ++ []
def dkwX3_gives_19 : List UInt8 := [96, 181, 0, 95, 42, 89, 180, 0, 98, 17, 39, 16, 21, 7, 100, 96, 181, 0, 98, 132, 6, 1]
abbrev dktX3_gives_19 : List UInt8 := dkwX3_gives_19 ++ dktX3_gives_20
def dkwX3_gives_18 : List UInt8 := [42, 180, 0, 25, 21, 4, 21, 6, 79, 29, 4, 21, 6, 120, 2, 130, 126, 62, 42, 89, 180, 0, 95, 4]
abbrev dktX3_gives_18 : List UInt8 := dkwX3_gives_18 ++ dktX3_gives_19
def dkwX3_gives_17 : List UInt8 := [21, 4, 4, 96, 104, 29, 4, 21, 6, 120, 2, 130, 126, 96, 46, 96, 21, 5, 159, 0, 6, 167, 0, 46]
abbrev dktX3_gives_17 : List UInt8 := dkwX3_gives_17 ++ dktX3_gives_18
def dkwX3_gives_16 : List UInt8 := [29, 21, 6, 122, 4, 126, 153, 0, 84, 21, 7, 153, 0, 79, 21, 7, 42, 180, 0, 22, 17, 4, 0]
abbrev dktX3_gives_16 : List UInt8 := dkwX3_gives_16 ++ dktX3_gives_17
def dkwX3_gives_15 : List UInt8 := [180, 0, 25, 21, 4, 46, 156, 0, 114, 42, 180, 0, 28, 16, 10, 21, 4, 104, 21, 6, 96, 46, 54, 7]
abbrev dktX3_gives_15 : List UInt8 := dkwX3_gives_15 ++ dktX3_gives_16
def dkwX3_gives_14 : List UInt8 := [180, 0, 22, 17, 4, 0, 21, 4, 104, 29, 96, 46, 54, 5, 3, 54, 6, 21, 6, 28, 162, 0, 124, 42]
abbrev dktX3_gives_14 : List UInt8 := dkwX3_gives_14 ++ dktX3_gives_15
def dkwX3_gives_13 : List UInt8 := [132, 5, 1, 167, 255, 112, 132, 4, 255, 167, 255, 98, 3, 54, 4, 21, 4, 16, 10, 162, 0, 154, 42]
abbrev dktX3_gives_13 : List UInt8 := dkwX3_gives_13 ++ dktX3_gives_14
def dkwX3_gives_12 : List UInt8 := [54, 6, 132, 7, 1, 167, 255, 163, 42, 180, 0, 22, 17, 4, 0, 21, 4, 104, 21, 5, 96, 21, 6, 79]
abbrev dktX3_gives_12 : List UInt8 := dkwX3_gives_12 ++ dktX3_gives_13
def dkwX3_gives_11 : List UInt8 := [120, 2, 130, 126, 96, 46, 96, 54, 8, 21, 8, 21, 6, 164, 0, 8, 21, 8, 167, 0, 5, 21, 6]
abbrev dktX3_gives_11 : List UInt8 := dkwX3_gives_11 ++ dktX3_gives_12
def dkwX3_gives_10 : List UInt8 := [21, 4, 104, 21, 7, 96, 46, 42, 180, 0, 22, 17, 4, 0, 21, 4, 4, 96, 104, 21, 5, 4, 21, 7]
abbrev dktX3_gives_10 : List UInt8 := dkwX3_gives_10 ++ dktX3_gives_11
def dkwX3_gives_9 : List UInt8 := [180, 0, 28, 16, 10, 21, 4, 104, 21, 7, 96, 46, 154, 0, 6, 167, 0, 58, 42, 180, 0, 28, 16, 10]
abbrev dktX3_gives_9 : List UInt8 := dkwX3_gives_9 ++ dktX3_gives_10
def dkwX3_gives_8 : List UInt8 := [96, 46, 54, 6, 3, 54, 7, 21, 7, 28, 162, 0, 93, 21, 5, 21, 7, 122, 4, 126, 153, 0, 77, 42]
abbrev dktX3_gives_8 : List UInt8 := dkwX3_gives_8 ++ dktX3_gives_9
def dkwX3_gives_7 : List UInt8 := [54, 5, 21, 5, 4, 28, 120, 162, 0, 142, 42, 180, 0, 22, 17, 4, 0, 21, 4, 4, 96, 104, 21, 5]
abbrev dktX3_gives_7 : List UInt8 := dkwX3_gives_7 ++ dktX3_gives_8
def dkwX3_gives_6 : List UInt8 := [17, 40, 0, 21, 4, 96, 3, 79, 132, 4, 1, 167, 255, 233, 16, 9, 54, 4, 21, 4, 155, 0, 159, 3]
abbrev dktX3_gives_6 : List UInt8 := dkwX3_gives_6 ++ dktX3_gives_7
def dkwX3_gives_5 : List UInt8 := [167, 255, 187, 42, 28, 182, 0, 107, 3, 54, 4, 21, 4, 4, 28, 120, 162, 0, 21, 42, 180, 0, 22]
abbrev dktX3_gives_5 : List UInt8 := dkwX3_gives_5 ++ dktX3_gives_6
def dkwX3_gives_4 : List UInt8 := [29, 4, 21, 4, 120, 128, 62, 42, 21, 4, 42, 180, 0, 19, 21, 4, 46, 182, 0, 75, 132, 4, 1]
abbrev dktX3_gives_4 : List UInt8 := dkwX3_gives_4 ++ dktX3_gives_5
def dkwX3_gives_3 : List UInt8 := [2, 167, 0, 9, 42, 21, 4, 182, 0, 104, 79, 42, 180, 0, 19, 21, 4, 46, 156, 0, 6, 167, 0, 23]
abbrev dktX3_gives_3 : List UInt8 := dkwX3_gives_3 ++ dktX3_gives_4
def dkwX3_gives_2 : List UInt8 := [54, 4, 21, 4, 28, 162, 0, 69, 42, 180, 0, 19, 21, 4, 21, 4, 42, 27, 182, 0, 82, 160, 0, 7]
abbrev dktX3_gives_2 : List UInt8 := dkwX3_gives_2 ++ dktX3_gives_3
def dkwX3_gives_1 : List UInt8 := [79, 132, 1, 1, 167, 255, 240, 42, 180, 0, 9, 6, 46, 60, 42, 27, 182, 0, 101, 61, 3, 62, 3]
abbrev dktX3_gives_1 : List UInt8 := dkwX3_gives_1 ++ dktX3_gives_2
def dkwX3_gives_0 : List UInt8 := [42, 3, 181, 0, 95, 42, 3, 181, 0, 98, 3, 60, 27, 16, 10, 162, 0, 16, 42, 180, 0, 25, 27, 2]
abbrev dktX3_gives_0 : List UInt8 := dkwX3_gives_0 ++ dktX3_gives_1
theorem dksX3_gives_0 : cX3_gives.data.toList.drop 0 = dktX3_gives_0 := by decide +kernel
theorem dksX3_gives_1 : cX3_gives.data.toList.drop 24 = dktX3_gives_1 := dk_seg dksX3_gives_0 24 rfl rfl
theorem dksX3_gives_2 : cX3_gives.data.toList.drop 47 = dktX3_gives_2 := dk_seg dksX3_gives_1 23 rfl rfl
theorem dksX3_gives_3 : cX3_gives.data.toList.drop 71 = dktX3_gives_3 := dk_seg dksX3_gives_2 24 rfl rfl
theorem dksX3_gives_4 : cX3_gives.data.toList.drop 95 = dktX3_gives_4 := dk_seg dksX3_gives_3 24 rfl rfl
theorem dksX3_gives_5 : cX3_gives.data.toList.drop 118 = dktX3_gives_5 := dk_seg dksX3_gives_4 23 rfl rfl
theorem dksX3_gives_6 : cX3_gives.data.toList.drop 141 = dktX3_gives_6 := dk_seg dksX3_gives_5 23 rfl rfl
theorem dksX3_gives_7 : cX3_gives.data.toList.drop 165 = dktX3_gives_7 := dk_seg dksX3_gives_6 24 rfl rfl
theorem dksX3_gives_8 : cX3_gives.data.toList.drop 189 = dktX3_gives_8 := dk_seg dksX3_gives_7 24 rfl rfl
theorem dksX3_gives_9 : cX3_gives.data.toList.drop 213 = dktX3_gives_9 := dk_seg dksX3_gives_8 24 rfl rfl
theorem dksX3_gives_10 : cX3_gives.data.toList.drop 237 = dktX3_gives_10 := dk_seg dksX3_gives_9 24 rfl rfl
theorem dksX3_gives_11 : cX3_gives.data.toList.drop 261 = dktX3_gives_11 := dk_seg dksX3_gives_10 24 rfl rfl
theorem dksX3_gives_12 : cX3_gives.data.toList.drop 284 = dktX3_gives_12 := dk_seg dksX3_gives_11 23 rfl rfl
theorem dksX3_gives_13 : cX3_gives.data.toList.drop 308 = dktX3_gives_13 := dk_seg dksX3_gives_12 24 rfl rfl
theorem dksX3_gives_14 : cX3_gives.data.toList.drop 331 = dktX3_gives_14 := dk_seg dksX3_gives_13 23 rfl rfl
theorem dksX3_gives_15 : cX3_gives.data.toList.drop 355 = dktX3_gives_15 := dk_seg dksX3_gives_14 24 rfl rfl
theorem dksX3_gives_16 : cX3_gives.data.toList.drop 379 = dktX3_gives_16 := dk_seg dksX3_gives_15 24 rfl rfl
theorem dksX3_gives_17 : cX3_gives.data.toList.drop 402 = dktX3_gives_17 := dk_seg dksX3_gives_16 23 rfl rfl
theorem dksX3_gives_18 : cX3_gives.data.toList.drop 426 = dktX3_gives_18 := dk_seg dksX3_gives_17 24 rfl rfl
theorem dksX3_gives_19 : cX3_gives.data.toList.drop 450 = dktX3_gives_19 := dk_seg dksX3_gives_18 24 rfl rfl
theorem dksX3_gives_20 : cX3_gives.data.toList.drop 472 = dktX3_gives_20 := dk_seg dksX3_gives_19 22 rfl rfl
theorem dX3_gives_0 : decode cX3_gives 0 = .ok (.aload_n 0, 1) := dk_42 (dk_at dksX3_gives_0 0 rfl rfl)
theorem dX3_gives_1 : decode cX3_gives 1 = .ok (.iconst 0, 1) := dk_3 (dk_at dksX3_gives_0 1 rfl rfl)
theorem dX3_gives_2 : decode cX3_gives 2 = .ok (.putfield 95, 3) := dk_181 0 95 (dk_at dksX3_gives_0 2 rfl rfl)
theorem dX3_gives_5 : decode cX3_gives 5 = .ok (.aload_n 0, 1) := dk_42 (dk_at dksX3_gives_0 5 rfl rfl)
theorem dX3_gives_6 : decode cX3_gives 6 = .ok (.iconst 0, 1) := dk_3 (dk_at dksX3_gives_0 6 rfl rfl)
theorem dX3_gives_7 : decode cX3_gives 7 = .ok (.putfield 98, 3) := dk_181 0 98 (dk_at dksX3_gives_0 7 rfl rfl)
theorem dX3_gives_10 : decode cX3_gives 10 = .ok (.iconst 0, 1) := dk_3 (dk_at dksX3_gives_0 10 rfl rfl)
theorem dX3_gives_11 : decode cX3_gives 11 = .ok (.istore_n 1, 1) := dk_60 (dk_at dksX3_gives_0 11 rfl rfl)
theorem dX3_gives_12 : decode cX3_gives 12 = .ok (.iload_n 1, 1) := dk_27 (dk_at dksX3_gives_0 12 rfl rfl)
theorem dX3_gives_13 : decode cX3_gives 13 = .ok (.bipush 10, 2) := dk_16 10 (dk_at dksX3_gives_0 13 rfl rfl)
theorem dX3_gives_15 : decode cX3_gives 15 = .ok (.if_icmp .ge 16, 3) := dk_162 0 16 (dk_at dksX3_gives_0 15 rfl rfl)
theorem dX3_gives_18 : decode cX3_gives 18 = .ok (.aload_n 0, 1) := dk_42 (dk_at dksX3_gives_0 18 rfl rfl)
theorem dX3_gives_19 : decode cX3_gives 19 = .ok (.getfield 25, 3) := dk_180 0 25 (dk_at dksX3_gives_0 19 rfl rfl)
theorem dX3_gives_22 : decode cX3_gives 22 = .ok (.iload_n 1, 1) := dk_27 (dk_at dksX3_gives_0 22 rfl rfl)
theorem dX3_gives_23 : decode cX3_gives 23 = .ok (.iconst (-1), 1) := dk_2 (dk_at dksX3_gives_0 23 rfl rfl)
theorem dX3_gives_24 : decode cX3_gives 24 = .ok (.iastore, 1) := dk_79 (dk_at dksX3_gives_1 0 rfl rfl)
theorem dX3_gives_25 : decode cX3_gives 25 = .ok (.iinc 1 1, 3) := dk_132 1 1 (dk_at dksX3_gives_1 1 rfl rfl)
theorem dX3_gives_28 : decode cX3_gives 28 = .ok (.goto (-16), 3) := dk_167 255 240 (dk_at dksX3_gives_1 4 rfl rfl)
theorem dX3_gives_31 : decode cX3_gives 31 = .ok (.aload_n 0, 1) := dk_42 (dk_at dksX3_gives_1 7 rfl rfl)
theorem dX3_gives_32 : decode cX3_gives 32 = .ok (.getfield 9, 3) := dk_180 0 9 (dk_at dksX3_gives_1 8 rfl rfl)
theorem dX3_gives_35 : decode cX3_gives 35 = .ok (.iconst 3, 1) := dk_6 (dk_at dksX3_gives_1 11 rfl rfl)
theorem dX3_gives_36 : decode cX3_gives 36 = .ok (.iaload, 1) := dk_46 (dk_at dksX3_gives_1 12 rfl rfl)
theorem dX3_gives_37 : decode cX3_gives 37 = .ok (.istore_n 1, 1) := dk_60 (dk_at dksX3_gives_1 13 rfl rfl)
theorem dX3_gives_38 : decode cX3_gives 38 = .ok (.aload_n 0, 1) := dk_42 (dk_at dksX3_gives_1 14 rfl rfl)
theorem dX3_gives_39 : decode cX3_gives 39 = .ok (.iload_n 1, 1) := dk_27 (dk_at dksX3_gives_1 15 rfl rfl)
theorem dX3_gives_40 : decode cX3_gives 40 = .ok (.invokevirtual 101, 3) := dk_182 0 101 (dk_at dksX3_gives_1 16 rfl rfl)
theorem dX3_gives_43 : decode cX3_gives 43 = .ok (.istore_n 2, 1) := dk_61 (dk_at dksX3_gives_1 19 rfl rfl)
theorem dX3_gives_44 : decode cX3_gives 44 = .ok (.iconst 0, 1) := dk_3 (dk_at dksX3_gives_1 20 rfl rfl)
theorem dX3_gives_45 : decode cX3_gives 45 = .ok (.istore_n 3, 1) := dk_62 (dk_at dksX3_gives_1 21 rfl rfl)
theorem dX3_gives_46 : decode cX3_gives 46 = .ok (.iconst 0, 1) := dk_3 (dk_at dksX3_gives_1 22 rfl rfl)
theorem dX3_gives_47 : decode cX3_gives 47 = .ok (.istore 4, 2) := dk_54 4 (dk_at dksX3_gives_2 0 rfl rfl)
theorem dX3_gives_49 : decode cX3_gives 49 = .ok (.iload 4, 2) := dk_21 4 (dk_at dksX3_gives_2 2 rfl rfl)
theorem dX3_gives_51 : decode cX3_gives 51 = .ok (.iload_n 2, 1) := dk_28 (dk_at dksX3_gives_2 4 rfl rfl)
theorem dX3_gives_52 : decode cX3_gives 52 = .ok (.if_icmp .ge 69, 3) := dk_162 0 69 (dk_at dksX3_gives_2 5 rfl rfl)
theorem dX3_gives_55 : decode cX3_gives 55 = .ok (.aload_n 0, 1) := dk_42 (dk_at dksX3_gives_2 8 rfl rfl)
theorem dX3_gives_56 : decode cX3_gives 56 = .ok (.getfield 19, 3) := dk_180 0 19 (dk_at dksX3_gives_2 9 rfl rfl)
theorem dX3_gives_59 : decode cX3_gives 59 = .ok (.iload 4, 2) := dk_21 4 (dk_at dksX3_gives_2 12 rfl rfl)
theorem dX3_gives_61 : decode cX3_gives 61 = .ok (.iload 4, 2) := dk_21 4 (dk_at dksX3_gives_2 14 rfl rfl)
theorem dX3_gives_63 : decode cX3_gives 63 = .ok (.aload_n 0, 1) := dk_42 (dk_at dksX3_gives_2 16 rfl rfl)
theorem dX3_gives_64 : decode cX3_gives 64 = .ok (.iload_n 1, 1) := dk_27 (dk_at dksX3_gives_2 17 rfl rfl)
theorem dX3_gives_65 : decode cX3_gives 65 = .ok (.invokevirtual 82, 3) := dk_182 0 82 (dk_at dksX3_gives_2 18 rfl rfl)
theorem dX3_gives_68 : decode cX3_gives 68 = .ok (.if_icmp .ne 7, 3) := dk_160 0 7 (dk_at dksX3_gives_2 21 rfl rfl)
theorem dX3_gives_71 : decode cX3_gives 71 = .ok (.iconst (-1), 1) := dk_2 (dk_at dksX3_gives_3 0 rfl rfl)
theorem dX3_gives_72 : decode cX3_gives 72 = .ok (.goto 9, 3) := dk_167 0 9 (dk_at dksX3_gives_3 1 rfl rfl)
theorem dX3_gives_75 : decode cX3_gives 75 = .ok (.aload_n 0, 1) := dk_42 (dk_at dksX3_gives_3 4 rfl rfl)
theorem dX3_gives_76 : decode cX3_gives 76 = .ok (.iload 4, 2) := dk_21 4 (dk_at dksX3_gives_3 5 rfl rfl)
theorem dX3_gives_78 : decode cX3_gives 78 = .ok (.invokevirtual 104, 3) := dk_182 0 104 (dk_at dksX3_gives_3 7 rfl rfl)
theorem dX3_gives_81 : decode cX3_gives 81 = .ok (.iastore, 1) := dk_79 (dk_at dksX3_gives_3 10 rfl rfl)
theorem dX3_gives_82 : decode cX3_gives 82 = .ok (.aload_n 0, 1) := dk_42 (dk_at dksX3_gives_3 11 rfl rfl)
theorem dX3_gives_83 : decode cX3_gives 83 = .ok (.getfield 19, 3) := dk_180 0 19 (dk_at dksX3_gives_3 12 rfl rfl)
theorem dX3_gives_86 : decode cX3_gives 86 = .ok (.iload 4, 2) := dk_21 4 (dk_at dksX3_gives_3 15 rfl rfl)
theorem dX3_gives_88 : decode cX3_gives 88 = .ok (.iaload, 1) := dk_46 (dk_at dksX3_gives_3 17 rfl rfl)
theorem dX3_gives_89 : decode cX3_gives 89 = .ok (.ifCond .ge 6, 3) := dk_156 0 6 (dk_at dksX3_gives_3 18 rfl rfl)
theorem dX3_gives_92 : decode cX3_gives 92 = .ok (.goto 23, 3) := dk_167 0 23 (dk_at dksX3_gives_3 21 rfl rfl)
theorem dX3_gives_95 : decode cX3_gives 95 = .ok (.iload_n 3, 1) := dk_29 (dk_at dksX3_gives_4 0 rfl rfl)
theorem dX3_gives_96 : decode cX3_gives 96 = .ok (.iconst 1, 1) := dk_4 (dk_at dksX3_gives_4 1 rfl rfl)
theorem dX3_gives_97 : decode cX3_gives 97 = .ok (.iload 4, 2) := dk_21 4 (dk_at dksX3_gives_4 2 rfl rfl)
theorem dX3_gives_99 : decode cX3_gives 99 = .ok (.ishl, 1) := dk_120 (dk_at dksX3_gives_4 4 rfl rfl)
theorem dX3_gives_100 : decode cX3_gives 100 = .ok (.ior, 1) := dk_128 (dk_at dksX3_gives_4 5 rfl rfl)
theorem dX3_gives_101 : decode cX3_gives 101 = .ok (.istore_n 3, 1) := dk_62 (dk_at dksX3_gives_4 6 rfl rfl)
theorem dX3_gives_102 : decode cX3_gives 102 = .ok (.aload_n 0, 1) := dk_42 (dk_at dksX3_gives_4 7 rfl rfl)
theorem dX3_gives_103 : decode cX3_gives 103 = .ok (.iload 4, 2) := dk_21 4 (dk_at dksX3_gives_4 8 rfl rfl)
theorem dX3_gives_105 : decode cX3_gives 105 = .ok (.aload_n 0, 1) := dk_42 (dk_at dksX3_gives_4 10 rfl rfl)
theorem dX3_gives_106 : decode cX3_gives 106 = .ok (.getfield 19, 3) := dk_180 0 19 (dk_at dksX3_gives_4 11 rfl rfl)
theorem dX3_gives_109 : decode cX3_gives 109 = .ok (.iload 4, 2) := dk_21 4 (dk_at dksX3_gives_4 14 rfl rfl)
theorem dX3_gives_111 : decode cX3_gives 111 = .ok (.iaload, 1) := dk_46 (dk_at dksX3_gives_4 16 rfl rfl)
theorem dX3_gives_112 : decode cX3_gives 112 = .ok (.invokevirtual 75, 3) := dk_182 0 75 (dk_at dksX3_gives_4 17 rfl rfl)
theorem dX3_gives_115 : decode cX3_gives 115 = .ok (.iinc 4 1, 3) := dk_132 4 1 (dk_at dksX3_gives_4 20 rfl rfl)
theorem dX3_gives_118 : decode cX3_gives 118 = .ok (.goto (-69), 3) := dk_167 255 187 (dk_at dksX3_gives_5 0 rfl rfl)
theorem dX3_gives_121 : decode cX3_gives 121 = .ok (.aload_n 0, 1) := dk_42 (dk_at dksX3_gives_5 3 rfl rfl)
theorem dX3_gives_122 : decode cX3_gives 122 = .ok (.iload_n 2, 1) := dk_28 (dk_at dksX3_gives_5 4 rfl rfl)
theorem dX3_gives_123 : decode cX3_gives 123 = .ok (.invokevirtual 107, 3) := dk_182 0 107 (dk_at dksX3_gives_5 5 rfl rfl)
theorem dX3_gives_126 : decode cX3_gives 126 = .ok (.iconst 0, 1) := dk_3 (dk_at dksX3_gives_5 8 rfl rfl)
theorem dX3_gives_127 : decode cX3_gives 127 = .ok (.istore 4, 2) := dk_54 4 (dk_at dksX3_gives_5 9 rfl rfl)
theorem dX3_gives_129 : decode cX3_gives 129 = .ok (.iload 4, 2) := dk_21 4 (dk_at dksX3_gives_5 11 rfl rfl)
theorem dX3_gives_131 : decode cX3_gives 131 = .ok (.iconst 1, 1) := dk_4 (dk_at dksX3_gives_5 13 rfl rfl)
theorem dX3_gives_132 : decode cX3_gives 132 = .ok (.iload_n 2, 1) := dk_28 (dk_at dksX3_gives_5 14 rfl rfl)
theorem dX3_gives_133 : decode cX3_gives 133 = .ok (.ishl, 1) := dk_120 (dk_at dksX3_gives_5 15 rfl rfl)
theorem dX3_gives_134 : decode cX3_gives 134 = .ok (.if_icmp .ge 21, 3) := dk_162 0 21 (dk_at dksX3_gives_5 16 rfl rfl)
theorem dX3_gives_137 : decode cX3_gives 137 = .ok (.aload_n 0, 1) := dk_42 (dk_at dksX3_gives_5 19 rfl rfl)
theorem dX3_gives_138 : decode cX3_gives 138 = .ok (.getfield 22, 3) := dk_180 0 22 (dk_at dksX3_gives_5 20 rfl rfl)
theorem dX3_gives_141 : decode cX3_gives 141 = .ok (.sipush 10240, 3) := dk_17 40 0 (dk_at dksX3_gives_6 0 rfl rfl)
theorem dX3_gives_144 : decode cX3_gives 144 = .ok (.iload 4, 2) := dk_21 4 (dk_at dksX3_gives_6 3 rfl rfl)
theorem dX3_gives_146 : decode cX3_gives 146 = .ok (.iadd, 1) := dk_96 (dk_at dksX3_gives_6 5 rfl rfl)
theorem dX3_gives_147 : decode cX3_gives 147 = .ok (.iconst 0, 1) := dk_3 (dk_at dksX3_gives_6 6 rfl rfl)
theorem dX3_gives_148 : decode cX3_gives 148 = .ok (.iastore, 1) := dk_79 (dk_at dksX3_gives_6 7 rfl rfl)
theorem dX3_gives_149 : decode cX3_gives 149 = .ok (.iinc 4 1, 3) := dk_132 4 1 (dk_at dksX3_gives_6 8 rfl rfl)
theorem dX3_gives_152 : decode cX3_gives 152 = .ok (.goto (-23), 3) := dk_167 255 233 (dk_at dksX3_gives_6 11 rfl rfl)
theorem dX3_gives_155 : decode cX3_gives 155 = .ok (.bipush 9, 2) := dk_16 9 (dk_at dksX3_gives_6 14 rfl rfl)
theorem dX3_gives_157 : decode cX3_gives 157 = .ok (.istore 4, 2) := dk_54 4 (dk_at dksX3_gives_6 16 rfl rfl)
theorem dX3_gives_159 : decode cX3_gives 159 = .ok (.iload 4, 2) := dk_21 4 (dk_at dksX3_gives_6 18 rfl rfl)
theorem dX3_gives_161 : decode cX3_gives 161 = .ok (.ifCond .lt 159, 3) := dk_155 0 159 (dk_at dksX3_gives_6 20 rfl rfl)
theorem dX3_gives_164 : decode cX3_gives 164 = .ok (.iconst 0, 1) := dk_3 (dk_at dksX3_gives_6 23 rfl rfl)
theorem dX3_gives_165 : decode cX3_gives 165 = .ok (.istore 5, 2) := dk_54 5 (dk_at dksX3_gives_7 0 rfl rfl)
theorem dX3_gives_167 : decode cX3_gives 167 = .ok (.iload 5, 2) := dk_21 5 (dk_at dksX3_gives_7 2 rfl rfl)
theorem dX3_gives_169 : decode cX3_gives 169 = .ok (.iconst 1, 1) := dk_4 (dk_at dksX3_gives_7 4 rfl rfl)
theorem dX3_gives_170 : decode cX3_gives 170 = .ok (.iload_n 2, 1) := dk_28 (dk_at dksX3_gives_7 5 rfl rfl)
theorem dX3_gives_171 : decode cX3_gives 171 = .ok (.ishl, 1) := dk_120 (dk_at dksX3_gives_7 6 rfl rfl)
theorem dX3_gives_172 : decode cX3_gives 172 = .ok (.if_icmp .ge 142, 3) := dk_162 0 142 (dk_at dksX3_gives_7 7 rfl rfl)
theorem dX3_gives_175 : decode cX3_gives 175 = .ok (.aload_n 0, 1) := dk_42 (dk_at dksX3_gives_7 10 rfl rfl)
theorem dX3_gives_176 : decode cX3_gives 176 = .ok (.getfield 22, 3) := dk_180 0 22 (dk_at dksX3_gives_7 11 rfl rfl)
theorem dX3_gives_179 : decode cX3_gives 179 = .ok (.sipush 1024, 3) := dk_17 4 0 (dk_at dksX3_gives_7 14 rfl rfl)
theorem dX3_gives_182 : decode cX3_gives 182 = .ok (.iload 4, 2) := dk_21 4 (dk_at dksX3_gives_7 17 rfl rfl)
theorem dX3_gives_184 : decode cX3_gives 184 = .ok (.iconst 1, 1) := dk_4 (dk_at dksX3_gives_7 19 rfl rfl)
theorem dX3_gives_185 : decode cX3_gives 185 = .ok (.iadd, 1) := dk_96 (dk_at dksX3_gives_7 20 rfl rfl)
theorem dX3_gives_186 : decode cX3_gives 186 = .ok (.imul, 1) := dk_104 (dk_at dksX3_gives_7 21 rfl rfl)
theorem dX3_gives_187 : decode cX3_gives 187 = .ok (.iload 5, 2) := dk_21 5 (dk_at dksX3_gives_7 22 rfl rfl)
theorem dX3_gives_189 : decode cX3_gives 189 = .ok (.iadd, 1) := dk_96 (dk_at dksX3_gives_8 0 rfl rfl)
theorem dX3_gives_190 : decode cX3_gives 190 = .ok (.iaload, 1) := dk_46 (dk_at dksX3_gives_8 1 rfl rfl)
theorem dX3_gives_191 : decode cX3_gives 191 = .ok (.istore 6, 2) := dk_54 6 (dk_at dksX3_gives_8 2 rfl rfl)
theorem dX3_gives_193 : decode cX3_gives 193 = .ok (.iconst 0, 1) := dk_3 (dk_at dksX3_gives_8 4 rfl rfl)
theorem dX3_gives_194 : decode cX3_gives 194 = .ok (.istore 7, 2) := dk_54 7 (dk_at dksX3_gives_8 5 rfl rfl)
theorem dX3_gives_196 : decode cX3_gives 196 = .ok (.iload 7, 2) := dk_21 7 (dk_at dksX3_gives_8 7 rfl rfl)
theorem dX3_gives_198 : decode cX3_gives 198 = .ok (.iload_n 2, 1) := dk_28 (dk_at dksX3_gives_8 9 rfl rfl)
theorem dX3_gives_199 : decode cX3_gives 199 = .ok (.if_icmp .ge 93, 3) := dk_162 0 93 (dk_at dksX3_gives_8 10 rfl rfl)
theorem dX3_gives_202 : decode cX3_gives 202 = .ok (.iload 5, 2) := dk_21 5 (dk_at dksX3_gives_8 13 rfl rfl)
theorem dX3_gives_204 : decode cX3_gives 204 = .ok (.iload 7, 2) := dk_21 7 (dk_at dksX3_gives_8 15 rfl rfl)
theorem dX3_gives_206 : decode cX3_gives 206 = .ok (.ishr, 1) := dk_122 (dk_at dksX3_gives_8 17 rfl rfl)
theorem dX3_gives_207 : decode cX3_gives 207 = .ok (.iconst 1, 1) := dk_4 (dk_at dksX3_gives_8 18 rfl rfl)
theorem dX3_gives_208 : decode cX3_gives 208 = .ok (.iand, 1) := dk_126 (dk_at dksX3_gives_8 19 rfl rfl)
theorem dX3_gives_209 : decode cX3_gives 209 = .ok (.ifCond .eq 77, 3) := dk_153 0 77 (dk_at dksX3_gives_8 20 rfl rfl)
theorem dX3_gives_212 : decode cX3_gives 212 = .ok (.aload_n 0, 1) := dk_42 (dk_at dksX3_gives_8 23 rfl rfl)
theorem dX3_gives_213 : decode cX3_gives 213 = .ok (.getfield 28, 3) := dk_180 0 28 (dk_at dksX3_gives_9 0 rfl rfl)
theorem dX3_gives_216 : decode cX3_gives 216 = .ok (.bipush 10, 2) := dk_16 10 (dk_at dksX3_gives_9 3 rfl rfl)
theorem dX3_gives_218 : decode cX3_gives 218 = .ok (.iload 4, 2) := dk_21 4 (dk_at dksX3_gives_9 5 rfl rfl)
theorem dX3_gives_220 : decode cX3_gives 220 = .ok (.imul, 1) := dk_104 (dk_at dksX3_gives_9 7 rfl rfl)
theorem dX3_gives_221 : decode cX3_gives 221 = .ok (.iload 7, 2) := dk_21 7 (dk_at dksX3_gives_9 8 rfl rfl)
theorem dX3_gives_223 : decode cX3_gives 223 = .ok (.iadd, 1) := dk_96 (dk_at dksX3_gives_9 10 rfl rfl)
theorem dX3_gives_224 : decode cX3_gives 224 = .ok (.iaload, 1) := dk_46 (dk_at dksX3_gives_9 11 rfl rfl)
theorem dX3_gives_225 : decode cX3_gives 225 = .ok (.ifCond .ne 6, 3) := dk_154 0 6 (dk_at dksX3_gives_9 12 rfl rfl)
theorem dX3_gives_228 : decode cX3_gives 228 = .ok (.goto 58, 3) := dk_167 0 58 (dk_at dksX3_gives_9 15 rfl rfl)
theorem dX3_gives_231 : decode cX3_gives 231 = .ok (.aload_n 0, 1) := dk_42 (dk_at dksX3_gives_9 18 rfl rfl)
theorem dX3_gives_232 : decode cX3_gives 232 = .ok (.getfield 28, 3) := dk_180 0 28 (dk_at dksX3_gives_9 19 rfl rfl)
theorem dX3_gives_235 : decode cX3_gives 235 = .ok (.bipush 10, 2) := dk_16 10 (dk_at dksX3_gives_9 22 rfl rfl)
theorem dX3_gives_237 : decode cX3_gives 237 = .ok (.iload 4, 2) := dk_21 4 (dk_at dksX3_gives_10 0 rfl rfl)
theorem dX3_gives_239 : decode cX3_gives 239 = .ok (.imul, 1) := dk_104 (dk_at dksX3_gives_10 2 rfl rfl)
theorem dX3_gives_240 : decode cX3_gives 240 = .ok (.iload 7, 2) := dk_21 7 (dk_at dksX3_gives_10 3 rfl rfl)
theorem dX3_gives_242 : decode cX3_gives 242 = .ok (.iadd, 1) := dk_96 (dk_at dksX3_gives_10 5 rfl rfl)
theorem dX3_gives_243 : decode cX3_gives 243 = .ok (.iaload, 1) := dk_46 (dk_at dksX3_gives_10 6 rfl rfl)
theorem dX3_gives_244 : decode cX3_gives 244 = .ok (.aload_n 0, 1) := dk_42 (dk_at dksX3_gives_10 7 rfl rfl)
theorem dX3_gives_245 : decode cX3_gives 245 = .ok (.getfield 22, 3) := dk_180 0 22 (dk_at dksX3_gives_10 8 rfl rfl)
theorem dX3_gives_248 : decode cX3_gives 248 = .ok (.sipush 1024, 3) := dk_17 4 0 (dk_at dksX3_gives_10 11 rfl rfl)
theorem dX3_gives_251 : decode cX3_gives 251 = .ok (.iload 4, 2) := dk_21 4 (dk_at dksX3_gives_10 14 rfl rfl)
theorem dX3_gives_253 : decode cX3_gives 253 = .ok (.iconst 1, 1) := dk_4 (dk_at dksX3_gives_10 16 rfl rfl)
theorem dX3_gives_254 : decode cX3_gives 254 = .ok (.iadd, 1) := dk_96 (dk_at dksX3_gives_10 17 rfl rfl)
theorem dX3_gives_255 : decode cX3_gives 255 = .ok (.imul, 1) := dk_104 (dk_at dksX3_gives_10 18 rfl rfl)
theorem dX3_gives_256 : decode cX3_gives 256 = .ok (.iload 5, 2) := dk_21 5 (dk_at dksX3_gives_10 19 rfl rfl)
theorem dX3_gives_258 : decode cX3_gives 258 = .ok (.iconst 1, 1) := dk_4 (dk_at dksX3_gives_10 21 rfl rfl)
theorem dX3_gives_259 : decode cX3_gives 259 = .ok (.iload 7, 2) := dk_21 7 (dk_at dksX3_gives_10 22 rfl rfl)
theorem dX3_gives_261 : decode cX3_gives 261 = .ok (.ishl, 1) := dk_120 (dk_at dksX3_gives_11 0 rfl rfl)
theorem dX3_gives_262 : decode cX3_gives 262 = .ok (.iconst (-1), 1) := dk_2 (dk_at dksX3_gives_11 1 rfl rfl)
theorem dX3_gives_263 : decode cX3_gives 263 = .ok (.ixor, 1) := dk_130 (dk_at dksX3_gives_11 2 rfl rfl)
theorem dX3_gives_264 : decode cX3_gives 264 = .ok (.iand, 1) := dk_126 (dk_at dksX3_gives_11 3 rfl rfl)
theorem dX3_gives_265 : decode cX3_gives 265 = .ok (.iadd, 1) := dk_96 (dk_at dksX3_gives_11 4 rfl rfl)
theorem dX3_gives_266 : decode cX3_gives 266 = .ok (.iaload, 1) := dk_46 (dk_at dksX3_gives_11 5 rfl rfl)
theorem dX3_gives_267 : decode cX3_gives 267 = .ok (.iadd, 1) := dk_96 (dk_at dksX3_gives_11 6 rfl rfl)
theorem dX3_gives_268 : decode cX3_gives 268 = .ok (.istore 8, 2) := dk_54 8 (dk_at dksX3_gives_11 7 rfl rfl)
theorem dX3_gives_270 : decode cX3_gives 270 = .ok (.iload 8, 2) := dk_21 8 (dk_at dksX3_gives_11 9 rfl rfl)
theorem dX3_gives_272 : decode cX3_gives 272 = .ok (.iload 6, 2) := dk_21 6 (dk_at dksX3_gives_11 11 rfl rfl)
theorem dX3_gives_274 : decode cX3_gives 274 = .ok (.if_icmp .le 8, 3) := dk_164 0 8 (dk_at dksX3_gives_11 13 rfl rfl)
theorem dX3_gives_277 : decode cX3_gives 277 = .ok (.iload 8, 2) := dk_21 8 (dk_at dksX3_gives_11 16 rfl rfl)
theorem dX3_gives_279 : decode cX3_gives 279 = .ok (.goto 5, 3) := dk_167 0 5 (dk_at dksX3_gives_11 18 rfl rfl)
theorem dX3_gives_282 : decode cX3_gives 282 = .ok (.iload 6, 2) := dk_21 6 (dk_at dksX3_gives_11 21 rfl rfl)
theorem dX3_gives_284 : decode cX3_gives 284 = .ok (.istore 6, 2) := dk_54 6 (dk_at dksX3_gives_12 0 rfl rfl)
theorem dX3_gives_286 : decode cX3_gives 286 = .ok (.iinc 7 1, 3) := dk_132 7 1 (dk_at dksX3_gives_12 2 rfl rfl)
theorem dX3_gives_289 : decode cX3_gives 289 = .ok (.goto (-93), 3) := dk_167 255 163 (dk_at dksX3_gives_12 5 rfl rfl)
theorem dX3_gives_292 : decode cX3_gives 292 = .ok (.aload_n 0, 1) := dk_42 (dk_at dksX3_gives_12 8 rfl rfl)
theorem dX3_gives_293 : decode cX3_gives 293 = .ok (.getfield 22, 3) := dk_180 0 22 (dk_at dksX3_gives_12 9 rfl rfl)
theorem dX3_gives_296 : decode cX3_gives 296 = .ok (.sipush 1024, 3) := dk_17 4 0 (dk_at dksX3_gives_12 12 rfl rfl)
theorem dX3_gives_299 : decode cX3_gives 299 = .ok (.iload 4, 2) := dk_21 4 (dk_at dksX3_gives_12 15 rfl rfl)
theorem dX3_gives_301 : decode cX3_gives 301 = .ok (.imul, 1) := dk_104 (dk_at dksX3_gives_12 17 rfl rfl)
theorem dX3_gives_302 : decode cX3_gives 302 = .ok (.iload 5, 2) := dk_21 5 (dk_at dksX3_gives_12 18 rfl rfl)
theorem dX3_gives_304 : decode cX3_gives 304 = .ok (.iadd, 1) := dk_96 (dk_at dksX3_gives_12 20 rfl rfl)
theorem dX3_gives_305 : decode cX3_gives 305 = .ok (.iload 6, 2) := dk_21 6 (dk_at dksX3_gives_12 21 rfl rfl)
theorem dX3_gives_307 : decode cX3_gives 307 = .ok (.iastore, 1) := dk_79 (dk_at dksX3_gives_12 23 rfl rfl)
theorem dX3_gives_308 : decode cX3_gives 308 = .ok (.iinc 5 1, 3) := dk_132 5 1 (dk_at dksX3_gives_13 0 rfl rfl)
theorem dX3_gives_311 : decode cX3_gives 311 = .ok (.goto (-144), 3) := dk_167 255 112 (dk_at dksX3_gives_13 3 rfl rfl)
theorem dX3_gives_314 : decode cX3_gives 314 = .ok (.iinc 4 (-1), 3) := dk_132 4 255 (dk_at dksX3_gives_13 6 rfl rfl)
theorem dX3_gives_317 : decode cX3_gives 317 = .ok (.goto (-158), 3) := dk_167 255 98 (dk_at dksX3_gives_13 9 rfl rfl)
theorem dX3_gives_320 : decode cX3_gives 320 = .ok (.iconst 0, 1) := dk_3 (dk_at dksX3_gives_13 12 rfl rfl)
theorem dX3_gives_321 : decode cX3_gives 321 = .ok (.istore 4, 2) := dk_54 4 (dk_at dksX3_gives_13 13 rfl rfl)
theorem dX3_gives_323 : decode cX3_gives 323 = .ok (.iload 4, 2) := dk_21 4 (dk_at dksX3_gives_13 15 rfl rfl)
theorem dX3_gives_325 : decode cX3_gives 325 = .ok (.bipush 10, 2) := dk_16 10 (dk_at dksX3_gives_13 17 rfl rfl)
theorem dX3_gives_327 : decode cX3_gives 327 = .ok (.if_icmp .ge 154, 3) := dk_162 0 154 (dk_at dksX3_gives_13 19 rfl rfl)
theorem dX3_gives_330 : decode cX3_gives 330 = .ok (.aload_n 0, 1) := dk_42 (dk_at dksX3_gives_13 22 rfl rfl)
theorem dX3_gives_331 : decode cX3_gives 331 = .ok (.getfield 22, 3) := dk_180 0 22 (dk_at dksX3_gives_14 0 rfl rfl)
theorem dX3_gives_334 : decode cX3_gives 334 = .ok (.sipush 1024, 3) := dk_17 4 0 (dk_at dksX3_gives_14 3 rfl rfl)
theorem dX3_gives_337 : decode cX3_gives 337 = .ok (.iload 4, 2) := dk_21 4 (dk_at dksX3_gives_14 6 rfl rfl)
theorem dX3_gives_339 : decode cX3_gives 339 = .ok (.imul, 1) := dk_104 (dk_at dksX3_gives_14 8 rfl rfl)
theorem dX3_gives_340 : decode cX3_gives 340 = .ok (.iload_n 3, 1) := dk_29 (dk_at dksX3_gives_14 9 rfl rfl)
theorem dX3_gives_341 : decode cX3_gives 341 = .ok (.iadd, 1) := dk_96 (dk_at dksX3_gives_14 10 rfl rfl)
theorem dX3_gives_342 : decode cX3_gives 342 = .ok (.iaload, 1) := dk_46 (dk_at dksX3_gives_14 11 rfl rfl)
theorem dX3_gives_343 : decode cX3_gives 343 = .ok (.istore 5, 2) := dk_54 5 (dk_at dksX3_gives_14 12 rfl rfl)
theorem dX3_gives_345 : decode cX3_gives 345 = .ok (.iconst 0, 1) := dk_3 (dk_at dksX3_gives_14 14 rfl rfl)
theorem dX3_gives_346 : decode cX3_gives 346 = .ok (.istore 6, 2) := dk_54 6 (dk_at dksX3_gives_14 15 rfl rfl)
theorem dX3_gives_348 : decode cX3_gives 348 = .ok (.iload 6, 2) := dk_21 6 (dk_at dksX3_gives_14 17 rfl rfl)
theorem dX3_gives_350 : decode cX3_gives 350 = .ok (.iload_n 2, 1) := dk_28 (dk_at dksX3_gives_14 19 rfl rfl)
theorem dX3_gives_351 : decode cX3_gives 351 = .ok (.if_icmp .ge 124, 3) := dk_162 0 124 (dk_at dksX3_gives_14 20 rfl rfl)
theorem dX3_gives_354 : decode cX3_gives 354 = .ok (.aload_n 0, 1) := dk_42 (dk_at dksX3_gives_14 23 rfl rfl)
theorem dX3_gives_355 : decode cX3_gives 355 = .ok (.getfield 25, 3) := dk_180 0 25 (dk_at dksX3_gives_15 0 rfl rfl)
theorem dX3_gives_358 : decode cX3_gives 358 = .ok (.iload 4, 2) := dk_21 4 (dk_at dksX3_gives_15 3 rfl rfl)
theorem dX3_gives_360 : decode cX3_gives 360 = .ok (.iaload, 1) := dk_46 (dk_at dksX3_gives_15 5 rfl rfl)
theorem dX3_gives_361 : decode cX3_gives 361 = .ok (.ifCond .ge 114, 3) := dk_156 0 114 (dk_at dksX3_gives_15 6 rfl rfl)
theorem dX3_gives_364 : decode cX3_gives 364 = .ok (.aload_n 0, 1) := dk_42 (dk_at dksX3_gives_15 9 rfl rfl)
theorem dX3_gives_365 : decode cX3_gives 365 = .ok (.getfield 28, 3) := dk_180 0 28 (dk_at dksX3_gives_15 10 rfl rfl)
theorem dX3_gives_368 : decode cX3_gives 368 = .ok (.bipush 10, 2) := dk_16 10 (dk_at dksX3_gives_15 13 rfl rfl)
theorem dX3_gives_370 : decode cX3_gives 370 = .ok (.iload 4, 2) := dk_21 4 (dk_at dksX3_gives_15 15 rfl rfl)
theorem dX3_gives_372 : decode cX3_gives 372 = .ok (.imul, 1) := dk_104 (dk_at dksX3_gives_15 17 rfl rfl)
theorem dX3_gives_373 : decode cX3_gives 373 = .ok (.iload 6, 2) := dk_21 6 (dk_at dksX3_gives_15 18 rfl rfl)
theorem dX3_gives_375 : decode cX3_gives 375 = .ok (.iadd, 1) := dk_96 (dk_at dksX3_gives_15 20 rfl rfl)
theorem dX3_gives_376 : decode cX3_gives 376 = .ok (.iaload, 1) := dk_46 (dk_at dksX3_gives_15 21 rfl rfl)
theorem dX3_gives_377 : decode cX3_gives 377 = .ok (.istore 7, 2) := dk_54 7 (dk_at dksX3_gives_15 22 rfl rfl)
theorem dX3_gives_379 : decode cX3_gives 379 = .ok (.iload_n 3, 1) := dk_29 (dk_at dksX3_gives_16 0 rfl rfl)
theorem dX3_gives_380 : decode cX3_gives 380 = .ok (.iload 6, 2) := dk_21 6 (dk_at dksX3_gives_16 1 rfl rfl)
theorem dX3_gives_382 : decode cX3_gives 382 = .ok (.ishr, 1) := dk_122 (dk_at dksX3_gives_16 3 rfl rfl)
theorem dX3_gives_383 : decode cX3_gives 383 = .ok (.iconst 1, 1) := dk_4 (dk_at dksX3_gives_16 4 rfl rfl)
theorem dX3_gives_384 : decode cX3_gives 384 = .ok (.iand, 1) := dk_126 (dk_at dksX3_gives_16 5 rfl rfl)
theorem dX3_gives_385 : decode cX3_gives 385 = .ok (.ifCond .eq 84, 3) := dk_153 0 84 (dk_at dksX3_gives_16 6 rfl rfl)
theorem dX3_gives_388 : decode cX3_gives 388 = .ok (.iload 7, 2) := dk_21 7 (dk_at dksX3_gives_16 9 rfl rfl)
theorem dX3_gives_390 : decode cX3_gives 390 = .ok (.ifCond .eq 79, 3) := dk_153 0 79 (dk_at dksX3_gives_16 11 rfl rfl)
theorem dX3_gives_393 : decode cX3_gives 393 = .ok (.iload 7, 2) := dk_21 7 (dk_at dksX3_gives_16 14 rfl rfl)
theorem dX3_gives_395 : decode cX3_gives 395 = .ok (.aload_n 0, 1) := dk_42 (dk_at dksX3_gives_16 16 rfl rfl)
theorem dX3_gives_396 : decode cX3_gives 396 = .ok (.getfield 22, 3) := dk_180 0 22 (dk_at dksX3_gives_16 17 rfl rfl)
theorem dX3_gives_399 : decode cX3_gives 399 = .ok (.sipush 1024, 3) := dk_17 4 0 (dk_at dksX3_gives_16 20 rfl rfl)
theorem dX3_gives_402 : decode cX3_gives 402 = .ok (.iload 4, 2) := dk_21 4 (dk_at dksX3_gives_17 0 rfl rfl)
theorem dX3_gives_404 : decode cX3_gives 404 = .ok (.iconst 1, 1) := dk_4 (dk_at dksX3_gives_17 2 rfl rfl)
theorem dX3_gives_405 : decode cX3_gives 405 = .ok (.iadd, 1) := dk_96 (dk_at dksX3_gives_17 3 rfl rfl)
theorem dX3_gives_406 : decode cX3_gives 406 = .ok (.imul, 1) := dk_104 (dk_at dksX3_gives_17 4 rfl rfl)
theorem dX3_gives_407 : decode cX3_gives 407 = .ok (.iload_n 3, 1) := dk_29 (dk_at dksX3_gives_17 5 rfl rfl)
theorem dX3_gives_408 : decode cX3_gives 408 = .ok (.iconst 1, 1) := dk_4 (dk_at dksX3_gives_17 6 rfl rfl)
theorem dX3_gives_409 : decode cX3_gives 409 = .ok (.iload 6, 2) := dk_21 6 (dk_at dksX3_gives_17 7 rfl rfl)
theorem dX3_gives_411 : decode cX3_gives 411 = .ok (.ishl, 1) := dk_120 (dk_at dksX3_gives_17 9 rfl rfl)
theorem dX3_gives_412 : decode cX3_gives 412 = .ok (.iconst (-1), 1) := dk_2 (dk_at dksX3_gives_17 10 rfl rfl)
theorem dX3_gives_413 : decode cX3_gives 413 = .ok (.ixor, 1) := dk_130 (dk_at dksX3_gives_17 11 rfl rfl)
theorem dX3_gives_414 : decode cX3_gives 414 = .ok (.iand, 1) := dk_126 (dk_at dksX3_gives_17 12 rfl rfl)
theorem dX3_gives_415 : decode cX3_gives 415 = .ok (.iadd, 1) := dk_96 (dk_at dksX3_gives_17 13 rfl rfl)
theorem dX3_gives_416 : decode cX3_gives 416 = .ok (.iaload, 1) := dk_46 (dk_at dksX3_gives_17 14 rfl rfl)
theorem dX3_gives_417 : decode cX3_gives 417 = .ok (.iadd, 1) := dk_96 (dk_at dksX3_gives_17 15 rfl rfl)
theorem dX3_gives_418 : decode cX3_gives 418 = .ok (.iload 5, 2) := dk_21 5 (dk_at dksX3_gives_17 16 rfl rfl)
theorem dX3_gives_420 : decode cX3_gives 420 = .ok (.if_icmp .eq 6, 3) := dk_159 0 6 (dk_at dksX3_gives_17 18 rfl rfl)
theorem dX3_gives_423 : decode cX3_gives 423 = .ok (.goto 46, 3) := dk_167 0 46 (dk_at dksX3_gives_17 21 rfl rfl)
theorem dX3_gives_426 : decode cX3_gives 426 = .ok (.aload_n 0, 1) := dk_42 (dk_at dksX3_gives_18 0 rfl rfl)
theorem dX3_gives_427 : decode cX3_gives 427 = .ok (.getfield 25, 3) := dk_180 0 25 (dk_at dksX3_gives_18 1 rfl rfl)
theorem dX3_gives_430 : decode cX3_gives 430 = .ok (.iload 4, 2) := dk_21 4 (dk_at dksX3_gives_18 4 rfl rfl)
theorem dX3_gives_432 : decode cX3_gives 432 = .ok (.iload 6, 2) := dk_21 6 (dk_at dksX3_gives_18 6 rfl rfl)
theorem dX3_gives_434 : decode cX3_gives 434 = .ok (.iastore, 1) := dk_79 (dk_at dksX3_gives_18 8 rfl rfl)
theorem dX3_gives_435 : decode cX3_gives 435 = .ok (.iload_n 3, 1) := dk_29 (dk_at dksX3_gives_18 9 rfl rfl)
theorem dX3_gives_436 : decode cX3_gives 436 = .ok (.iconst 1, 1) := dk_4 (dk_at dksX3_gives_18 10 rfl rfl)
theorem dX3_gives_437 : decode cX3_gives 437 = .ok (.iload 6, 2) := dk_21 6 (dk_at dksX3_gives_18 11 rfl rfl)
theorem dX3_gives_439 : decode cX3_gives 439 = .ok (.ishl, 1) := dk_120 (dk_at dksX3_gives_18 13 rfl rfl)
theorem dX3_gives_440 : decode cX3_gives 440 = .ok (.iconst (-1), 1) := dk_2 (dk_at dksX3_gives_18 14 rfl rfl)
theorem dX3_gives_441 : decode cX3_gives 441 = .ok (.ixor, 1) := dk_130 (dk_at dksX3_gives_18 15 rfl rfl)
theorem dX3_gives_442 : decode cX3_gives 442 = .ok (.iand, 1) := dk_126 (dk_at dksX3_gives_18 16 rfl rfl)
theorem dX3_gives_443 : decode cX3_gives 443 = .ok (.istore_n 3, 1) := dk_62 (dk_at dksX3_gives_18 17 rfl rfl)
theorem dX3_gives_444 : decode cX3_gives 444 = .ok (.aload_n 0, 1) := dk_42 (dk_at dksX3_gives_18 18 rfl rfl)
theorem dX3_gives_445 : decode cX3_gives 445 = .ok (.dup, 1) := dk_89 (dk_at dksX3_gives_18 19 rfl rfl)
theorem dX3_gives_446 : decode cX3_gives 446 = .ok (.getfield 95, 3) := dk_180 0 95 (dk_at dksX3_gives_18 20 rfl rfl)
theorem dX3_gives_449 : decode cX3_gives 449 = .ok (.iconst 1, 1) := dk_4 (dk_at dksX3_gives_18 23 rfl rfl)
theorem dX3_gives_450 : decode cX3_gives 450 = .ok (.iadd, 1) := dk_96 (dk_at dksX3_gives_19 0 rfl rfl)
theorem dX3_gives_451 : decode cX3_gives 451 = .ok (.putfield 95, 3) := dk_181 0 95 (dk_at dksX3_gives_19 1 rfl rfl)
theorem dX3_gives_454 : decode cX3_gives 454 = .ok (.aload_n 0, 1) := dk_42 (dk_at dksX3_gives_19 4 rfl rfl)
theorem dX3_gives_455 : decode cX3_gives 455 = .ok (.dup, 1) := dk_89 (dk_at dksX3_gives_19 5 rfl rfl)
theorem dX3_gives_456 : decode cX3_gives 456 = .ok (.getfield 98, 3) := dk_180 0 98 (dk_at dksX3_gives_19 6 rfl rfl)
theorem dX3_gives_459 : decode cX3_gives 459 = .ok (.sipush 10000, 3) := dk_17 39 16 (dk_at dksX3_gives_19 9 rfl rfl)
theorem dX3_gives_462 : decode cX3_gives 462 = .ok (.iload 7, 2) := dk_21 7 (dk_at dksX3_gives_19 12 rfl rfl)
theorem dX3_gives_464 : decode cX3_gives 464 = .ok (.isub, 1) := dk_100 (dk_at dksX3_gives_19 14 rfl rfl)
theorem dX3_gives_465 : decode cX3_gives 465 = .ok (.iadd, 1) := dk_96 (dk_at dksX3_gives_19 15 rfl rfl)
theorem dX3_gives_466 : decode cX3_gives 466 = .ok (.putfield 98, 3) := dk_181 0 98 (dk_at dksX3_gives_19 16 rfl rfl)
theorem dX3_gives_469 : decode cX3_gives 469 = .ok (.iinc 6 1, 3) := dk_132 6 1 (dk_at dksX3_gives_19 19 rfl rfl)
theorem dX3_gives_472 : decode cX3_gives 472 = .ok (.goto (-124), 3) := dk_167 255 132 (dk_at dksX3_gives_20 0 rfl rfl)
theorem dX3_gives_475 : decode cX3_gives 475 = .ok (.iinc 4 1, 3) := dk_132 4 1 (dk_at dksX3_gives_20 3 rfl rfl)
theorem dX3_gives_478 : decode cX3_gives 478 = .ok (.goto (-155), 3) := dk_167 255 101 (dk_at dksX3_gives_20 6 rfl rfl)
theorem dX3_gives_481 : decode cX3_gives 481 = .ok (.return_, 1) := dk_177 (dk_at dksX3_gives_20 9 rfl rfl)
abbrev cX3_slots : ByteArray := prog_11_method_18_code
def yX3_slots : MethodName := ⟨RX3, "slots", "(I)I"⟩
def dkwX3_slots_0 : List UInt8 := [42, 180, 0, 9, 27, 184, 0, 78, 46, 172]
abbrev dktX3_slots_0 : List UInt8 := dkwX3_slots_0 ++ []
theorem dksX3_slots_0 : cX3_slots.data.toList.drop 0 = dktX3_slots_0 := by decide +kernel
theorem dX3_slots_0 : decode cX3_slots 0 = .ok (.aload_n 0, 1) := dk_42 (dk_at dksX3_slots_0 0 rfl rfl)
theorem dX3_slots_1 : decode cX3_slots 1 = .ok (.getfield 9, 3) := dk_180 0 9 (dk_at dksX3_slots_0 1 rfl rfl)
theorem dX3_slots_4 : decode cX3_slots 4 = .ok (.iload_n 1, 1) := dk_27 (dk_at dksX3_slots_0 4 rfl rfl)
theorem dX3_slots_5 : decode cX3_slots 5 = .ok (.invokestatic 78, 3) := dk_184 0 78 (dk_at dksX3_slots_0 5 rfl rfl)
theorem dX3_slots_8 : decode cX3_slots 8 = .ok (.iaload, 1) := dk_46 (dk_at dksX3_slots_0 8 rfl rfl)
theorem dX3_slots_9 : decode cX3_slots 9 = .ok (.ireturn, 1) := dk_172 (dk_at dksX3_slots_0 9 rfl rfl)
abbrev cX3_shapeAt : ByteArray := prog_11_method_17_code
def yX3_shapeAt : MethodName := ⟨RX3, "shapeAt", "(I)I"⟩
def dkwX3_shapeAt_0 : List UInt8 := [17, 0, 192, 16, 22, 26, 104, 96, 172]
abbrev dktX3_shapeAt_0 : List UInt8 := dkwX3_shapeAt_0 ++ []
theorem dksX3_shapeAt_0 : cX3_shapeAt.data.toList.drop 0 = dktX3_shapeAt_0 := by decide +kernel
theorem dX3_shapeAt_0 : decode cX3_shapeAt 0 = .ok (.sipush 192, 3) := dk_17 0 192 (dk_at dksX3_shapeAt_0 0 rfl rfl)
theorem dX3_shapeAt_3 : decode cX3_shapeAt 3 = .ok (.bipush 22, 2) := dk_16 22 (dk_at dksX3_shapeAt_0 3 rfl rfl)
theorem dX3_shapeAt_5 : decode cX3_shapeAt 5 = .ok (.iload_n 0, 1) := dk_26 (dk_at dksX3_shapeAt_0 5 rfl rfl)
theorem dX3_shapeAt_6 : decode cX3_shapeAt 6 = .ok (.imul, 1) := dk_104 (dk_at dksX3_shapeAt_0 6 rfl rfl)
theorem dX3_shapeAt_7 : decode cX3_shapeAt 7 = .ok (.iadd, 1) := dk_96 (dk_at dksX3_shapeAt_0 7 rfl rfl)
theorem dX3_shapeAt_8 : decode cX3_shapeAt 8 = .ok (.ireturn, 1) := dk_172 (dk_at dksX3_shapeAt_0 8 rfl rfl)
abbrev cX3_anchor : ByteArray := prog_11_method_19_code
def yX3_anchor : MethodName := ⟨RX3, "anchor", "(I)I"⟩
def dkwX3_anchor_0 : List UInt8 := [42, 180, 0, 9, 27, 184, 0, 78, 4, 96, 46, 172]
abbrev dktX3_anchor_0 : List UInt8 := dkwX3_anchor_0 ++ []
theorem dksX3_anchor_0 : cX3_anchor.data.toList.drop 0 = dktX3_anchor_0 := by decide +kernel
theorem dX3_anchor_0 : decode cX3_anchor 0 = .ok (.aload_n 0, 1) := dk_42 (dk_at dksX3_anchor_0 0 rfl rfl)
theorem dX3_anchor_1 : decode cX3_anchor 1 = .ok (.getfield 9, 3) := dk_180 0 9 (dk_at dksX3_anchor_0 1 rfl rfl)
theorem dX3_anchor_4 : decode cX3_anchor 4 = .ok (.iload_n 1, 1) := dk_27 (dk_at dksX3_anchor_0 4 rfl rfl)
theorem dX3_anchor_5 : decode cX3_anchor 5 = .ok (.invokestatic 78, 3) := dk_184 0 78 (dk_at dksX3_anchor_0 5 rfl rfl)
theorem dX3_anchor_8 : decode cX3_anchor 8 = .ok (.iconst 1, 1) := dk_4 (dk_at dksX3_anchor_0 8 rfl rfl)
theorem dX3_anchor_9 : decode cX3_anchor 9 = .ok (.iadd, 1) := dk_96 (dk_at dksX3_anchor_0 9 rfl rfl)
theorem dX3_anchor_10 : decode cX3_anchor 10 = .ok (.iaload, 1) := dk_46 (dk_at dksX3_anchor_0 10 rfl rfl)
theorem dX3_anchor_11 : decode cX3_anchor 11 = .ok (.ireturn, 1) := dk_172 (dk_at dksX3_anchor_0 11 rfl rfl)
abbrev cX3_placeOf : ByteArray := prog_11_method_22_code
def yX3_placeOf : MethodName := ⟨RX3, "placeOf", "(I)I"⟩
def dkwX3_placeOf_4 : List UInt8 := [16, 12, 21, 4, 104, 29, 96, 167, 0, 4, 2, 172]
abbrev dktX3_placeOf_4 : List UInt8 := dkwX3_placeOf_4 ++ []
def dkwX3_placeOf_3 : List UInt8 := [3, 16, 9, 184, 0, 57, 153, 0, 27, 42, 16, 12, 21, 4, 104, 29, 96, 182, 0, 69, 154, 0, 13]
abbrev dktX3_placeOf_3 : List UInt8 := dkwX3_placeOf_3 ++ dktX3_placeOf_4
def dkwX3_placeOf_2 : List UInt8 := [180, 0, 9, 6, 46, 27, 182, 0, 92, 96, 54, 4, 29, 3, 16, 11, 184, 0, 57, 153, 0, 38, 21, 4]
abbrev dktX3_placeOf_2 : List UInt8 := dkwX3_placeOf_2 ++ dktX3_placeOf_3
def dkwX3_placeOf_1 : List UInt8 := [180, 0, 9, 6, 46, 27, 182, 0, 89, 96, 62, 42, 28, 3, 182, 0, 61, 16, 12, 108, 42, 42]
abbrev dktX3_placeOf_1 : List UInt8 := dkwX3_placeOf_1 ++ dktX3_placeOf_2
def dkwX3_placeOf_0 : List UInt8 := [42, 182, 0, 85, 61, 28, 156, 0, 5, 2, 172, 42, 28, 3, 182, 0, 61, 16, 12, 112, 42, 42]
abbrev dktX3_placeOf_0 : List UInt8 := dkwX3_placeOf_0 ++ dktX3_placeOf_1
theorem dksX3_placeOf_0 : cX3_placeOf.data.toList.drop 0 = dktX3_placeOf_0 := by decide +kernel
theorem dksX3_placeOf_1 : cX3_placeOf.data.toList.drop 22 = dktX3_placeOf_1 := dk_seg dksX3_placeOf_0 22 rfl rfl
theorem dksX3_placeOf_2 : cX3_placeOf.data.toList.drop 44 = dktX3_placeOf_2 := dk_seg dksX3_placeOf_1 22 rfl rfl
theorem dksX3_placeOf_3 : cX3_placeOf.data.toList.drop 68 = dktX3_placeOf_3 := dk_seg dksX3_placeOf_2 24 rfl rfl
theorem dksX3_placeOf_4 : cX3_placeOf.data.toList.drop 91 = dktX3_placeOf_4 := dk_seg dksX3_placeOf_3 23 rfl rfl
theorem dX3_placeOf_0 : decode cX3_placeOf 0 = .ok (.aload_n 0, 1) := dk_42 (dk_at dksX3_placeOf_0 0 rfl rfl)
theorem dX3_placeOf_1 : decode cX3_placeOf 1 = .ok (.invokevirtual 85, 3) := dk_182 0 85 (dk_at dksX3_placeOf_0 1 rfl rfl)
theorem dX3_placeOf_4 : decode cX3_placeOf 4 = .ok (.istore_n 2, 1) := dk_61 (dk_at dksX3_placeOf_0 4 rfl rfl)
theorem dX3_placeOf_5 : decode cX3_placeOf 5 = .ok (.iload_n 2, 1) := dk_28 (dk_at dksX3_placeOf_0 5 rfl rfl)
theorem dX3_placeOf_6 : decode cX3_placeOf 6 = .ok (.ifCond .ge 5, 3) := dk_156 0 5 (dk_at dksX3_placeOf_0 6 rfl rfl)
theorem dX3_placeOf_9 : decode cX3_placeOf 9 = .ok (.iconst (-1), 1) := dk_2 (dk_at dksX3_placeOf_0 9 rfl rfl)
theorem dX3_placeOf_10 : decode cX3_placeOf 10 = .ok (.ireturn, 1) := dk_172 (dk_at dksX3_placeOf_0 10 rfl rfl)
theorem dX3_placeOf_11 : decode cX3_placeOf 11 = .ok (.aload_n 0, 1) := dk_42 (dk_at dksX3_placeOf_0 11 rfl rfl)
theorem dX3_placeOf_12 : decode cX3_placeOf 12 = .ok (.iload_n 2, 1) := dk_28 (dk_at dksX3_placeOf_0 12 rfl rfl)
theorem dX3_placeOf_13 : decode cX3_placeOf 13 = .ok (.iconst 0, 1) := dk_3 (dk_at dksX3_placeOf_0 13 rfl rfl)
theorem dX3_placeOf_14 : decode cX3_placeOf 14 = .ok (.invokevirtual 61, 3) := dk_182 0 61 (dk_at dksX3_placeOf_0 14 rfl rfl)
theorem dX3_placeOf_17 : decode cX3_placeOf 17 = .ok (.bipush 12, 2) := dk_16 12 (dk_at dksX3_placeOf_0 17 rfl rfl)
theorem dX3_placeOf_19 : decode cX3_placeOf 19 = .ok (.irem, 1) := dk_112 (dk_at dksX3_placeOf_0 19 rfl rfl)
theorem dX3_placeOf_20 : decode cX3_placeOf 20 = .ok (.aload_n 0, 1) := dk_42 (dk_at dksX3_placeOf_0 20 rfl rfl)
theorem dX3_placeOf_21 : decode cX3_placeOf 21 = .ok (.aload_n 0, 1) := dk_42 (dk_at dksX3_placeOf_0 21 rfl rfl)
theorem dX3_placeOf_22 : decode cX3_placeOf 22 = .ok (.getfield 9, 3) := dk_180 0 9 (dk_at dksX3_placeOf_1 0 rfl rfl)
theorem dX3_placeOf_25 : decode cX3_placeOf 25 = .ok (.iconst 3, 1) := dk_6 (dk_at dksX3_placeOf_1 3 rfl rfl)
theorem dX3_placeOf_26 : decode cX3_placeOf 26 = .ok (.iaload, 1) := dk_46 (dk_at dksX3_placeOf_1 4 rfl rfl)
theorem dX3_placeOf_27 : decode cX3_placeOf 27 = .ok (.iload_n 1, 1) := dk_27 (dk_at dksX3_placeOf_1 5 rfl rfl)
theorem dX3_placeOf_28 : decode cX3_placeOf 28 = .ok (.invokevirtual 89, 3) := dk_182 0 89 (dk_at dksX3_placeOf_1 6 rfl rfl)
theorem dX3_placeOf_31 : decode cX3_placeOf 31 = .ok (.iadd, 1) := dk_96 (dk_at dksX3_placeOf_1 9 rfl rfl)
theorem dX3_placeOf_32 : decode cX3_placeOf 32 = .ok (.istore_n 3, 1) := dk_62 (dk_at dksX3_placeOf_1 10 rfl rfl)
theorem dX3_placeOf_33 : decode cX3_placeOf 33 = .ok (.aload_n 0, 1) := dk_42 (dk_at dksX3_placeOf_1 11 rfl rfl)
theorem dX3_placeOf_34 : decode cX3_placeOf 34 = .ok (.iload_n 2, 1) := dk_28 (dk_at dksX3_placeOf_1 12 rfl rfl)
theorem dX3_placeOf_35 : decode cX3_placeOf 35 = .ok (.iconst 0, 1) := dk_3 (dk_at dksX3_placeOf_1 13 rfl rfl)
theorem dX3_placeOf_36 : decode cX3_placeOf 36 = .ok (.invokevirtual 61, 3) := dk_182 0 61 (dk_at dksX3_placeOf_1 14 rfl rfl)
theorem dX3_placeOf_39 : decode cX3_placeOf 39 = .ok (.bipush 12, 2) := dk_16 12 (dk_at dksX3_placeOf_1 17 rfl rfl)
theorem dX3_placeOf_41 : decode cX3_placeOf 41 = .ok (.idiv, 1) := dk_108 (dk_at dksX3_placeOf_1 19 rfl rfl)
theorem dX3_placeOf_42 : decode cX3_placeOf 42 = .ok (.aload_n 0, 1) := dk_42 (dk_at dksX3_placeOf_1 20 rfl rfl)
theorem dX3_placeOf_43 : decode cX3_placeOf 43 = .ok (.aload_n 0, 1) := dk_42 (dk_at dksX3_placeOf_1 21 rfl rfl)
theorem dX3_placeOf_44 : decode cX3_placeOf 44 = .ok (.getfield 9, 3) := dk_180 0 9 (dk_at dksX3_placeOf_2 0 rfl rfl)
theorem dX3_placeOf_47 : decode cX3_placeOf 47 = .ok (.iconst 3, 1) := dk_6 (dk_at dksX3_placeOf_2 3 rfl rfl)
theorem dX3_placeOf_48 : decode cX3_placeOf 48 = .ok (.iaload, 1) := dk_46 (dk_at dksX3_placeOf_2 4 rfl rfl)
theorem dX3_placeOf_49 : decode cX3_placeOf 49 = .ok (.iload_n 1, 1) := dk_27 (dk_at dksX3_placeOf_2 5 rfl rfl)
theorem dX3_placeOf_50 : decode cX3_placeOf 50 = .ok (.invokevirtual 92, 3) := dk_182 0 92 (dk_at dksX3_placeOf_2 6 rfl rfl)
theorem dX3_placeOf_53 : decode cX3_placeOf 53 = .ok (.iadd, 1) := dk_96 (dk_at dksX3_placeOf_2 9 rfl rfl)
theorem dX3_placeOf_54 : decode cX3_placeOf 54 = .ok (.istore 4, 2) := dk_54 4 (dk_at dksX3_placeOf_2 10 rfl rfl)
theorem dX3_placeOf_56 : decode cX3_placeOf 56 = .ok (.iload_n 3, 1) := dk_29 (dk_at dksX3_placeOf_2 12 rfl rfl)
theorem dX3_placeOf_57 : decode cX3_placeOf 57 = .ok (.iconst 0, 1) := dk_3 (dk_at dksX3_placeOf_2 13 rfl rfl)
theorem dX3_placeOf_58 : decode cX3_placeOf 58 = .ok (.bipush 11, 2) := dk_16 11 (dk_at dksX3_placeOf_2 14 rfl rfl)
theorem dX3_placeOf_60 : decode cX3_placeOf 60 = .ok (.invokestatic 57, 3) := dk_184 0 57 (dk_at dksX3_placeOf_2 16 rfl rfl)
theorem dX3_placeOf_63 : decode cX3_placeOf 63 = .ok (.ifCond .eq 38, 3) := dk_153 0 38 (dk_at dksX3_placeOf_2 19 rfl rfl)
theorem dX3_placeOf_66 : decode cX3_placeOf 66 = .ok (.iload 4, 2) := dk_21 4 (dk_at dksX3_placeOf_2 22 rfl rfl)
theorem dX3_placeOf_68 : decode cX3_placeOf 68 = .ok (.iconst 0, 1) := dk_3 (dk_at dksX3_placeOf_3 0 rfl rfl)
theorem dX3_placeOf_69 : decode cX3_placeOf 69 = .ok (.bipush 9, 2) := dk_16 9 (dk_at dksX3_placeOf_3 1 rfl rfl)
theorem dX3_placeOf_71 : decode cX3_placeOf 71 = .ok (.invokestatic 57, 3) := dk_184 0 57 (dk_at dksX3_placeOf_3 3 rfl rfl)
theorem dX3_placeOf_74 : decode cX3_placeOf 74 = .ok (.ifCond .eq 27, 3) := dk_153 0 27 (dk_at dksX3_placeOf_3 6 rfl rfl)
theorem dX3_placeOf_77 : decode cX3_placeOf 77 = .ok (.aload_n 0, 1) := dk_42 (dk_at dksX3_placeOf_3 9 rfl rfl)
theorem dX3_placeOf_78 : decode cX3_placeOf 78 = .ok (.bipush 12, 2) := dk_16 12 (dk_at dksX3_placeOf_3 10 rfl rfl)
theorem dX3_placeOf_80 : decode cX3_placeOf 80 = .ok (.iload 4, 2) := dk_21 4 (dk_at dksX3_placeOf_3 12 rfl rfl)
theorem dX3_placeOf_82 : decode cX3_placeOf 82 = .ok (.imul, 1) := dk_104 (dk_at dksX3_placeOf_3 14 rfl rfl)
theorem dX3_placeOf_83 : decode cX3_placeOf 83 = .ok (.iload_n 3, 1) := dk_29 (dk_at dksX3_placeOf_3 15 rfl rfl)
theorem dX3_placeOf_84 : decode cX3_placeOf 84 = .ok (.iadd, 1) := dk_96 (dk_at dksX3_placeOf_3 16 rfl rfl)
theorem dX3_placeOf_85 : decode cX3_placeOf 85 = .ok (.invokevirtual 69, 3) := dk_182 0 69 (dk_at dksX3_placeOf_3 17 rfl rfl)
theorem dX3_placeOf_88 : decode cX3_placeOf 88 = .ok (.ifCond .ne 13, 3) := dk_154 0 13 (dk_at dksX3_placeOf_3 20 rfl rfl)
theorem dX3_placeOf_91 : decode cX3_placeOf 91 = .ok (.bipush 12, 2) := dk_16 12 (dk_at dksX3_placeOf_4 0 rfl rfl)
theorem dX3_placeOf_93 : decode cX3_placeOf 93 = .ok (.iload 4, 2) := dk_21 4 (dk_at dksX3_placeOf_4 2 rfl rfl)
theorem dX3_placeOf_95 : decode cX3_placeOf 95 = .ok (.imul, 1) := dk_104 (dk_at dksX3_placeOf_4 4 rfl rfl)
theorem dX3_placeOf_96 : decode cX3_placeOf 96 = .ok (.iload_n 3, 1) := dk_29 (dk_at dksX3_placeOf_4 5 rfl rfl)
theorem dX3_placeOf_97 : decode cX3_placeOf 97 = .ok (.iadd, 1) := dk_96 (dk_at dksX3_placeOf_4 6 rfl rfl)
theorem dX3_placeOf_98 : decode cX3_placeOf 98 = .ok (.goto 4, 3) := dk_167 0 4 (dk_at dksX3_placeOf_4 7 rfl rfl)
theorem dX3_placeOf_101 : decode cX3_placeOf 101 = .ok (.iconst (-1), 1) := dk_2 (dk_at dksX3_placeOf_4 10 rfl rfl)
theorem dX3_placeOf_102 : decode cX3_placeOf 102 = .ok (.ireturn, 1) := dk_172 (dk_at dksX3_placeOf_4 11 rfl rfl)
abbrev cX3_column : ByteArray := prog_11_method_20_code
def yX3_column : MethodName := ⟨RX3, "column", "(II)I"⟩
def dkwX3_column_1 : List UInt8 := [96, 5, 42, 27, 182, 0, 82, 104, 96, 46, 100, 172]
abbrev dktX3_column_1 : List UInt8 := dkwX3_column_1 ++ []
def dkwX3_column_0 : List UInt8 := [42, 180, 0, 9, 27, 184, 0, 78, 5, 96, 5, 28, 104, 96, 46, 42, 180, 0, 9, 27, 184, 0, 78, 5]
abbrev dktX3_column_0 : List UInt8 := dkwX3_column_0 ++ dktX3_column_1
theorem dksX3_column_0 : cX3_column.data.toList.drop 0 = dktX3_column_0 := by decide +kernel
theorem dksX3_column_1 : cX3_column.data.toList.drop 24 = dktX3_column_1 := dk_seg dksX3_column_0 24 rfl rfl
theorem dX3_column_0 : decode cX3_column 0 = .ok (.aload_n 0, 1) := dk_42 (dk_at dksX3_column_0 0 rfl rfl)
theorem dX3_column_1 : decode cX3_column 1 = .ok (.getfield 9, 3) := dk_180 0 9 (dk_at dksX3_column_0 1 rfl rfl)
theorem dX3_column_4 : decode cX3_column 4 = .ok (.iload_n 1, 1) := dk_27 (dk_at dksX3_column_0 4 rfl rfl)
theorem dX3_column_5 : decode cX3_column 5 = .ok (.invokestatic 78, 3) := dk_184 0 78 (dk_at dksX3_column_0 5 rfl rfl)
theorem dX3_column_8 : decode cX3_column 8 = .ok (.iconst 2, 1) := dk_5 (dk_at dksX3_column_0 8 rfl rfl)
theorem dX3_column_9 : decode cX3_column 9 = .ok (.iadd, 1) := dk_96 (dk_at dksX3_column_0 9 rfl rfl)
theorem dX3_column_10 : decode cX3_column 10 = .ok (.iconst 2, 1) := dk_5 (dk_at dksX3_column_0 10 rfl rfl)
theorem dX3_column_11 : decode cX3_column 11 = .ok (.iload_n 2, 1) := dk_28 (dk_at dksX3_column_0 11 rfl rfl)
theorem dX3_column_12 : decode cX3_column 12 = .ok (.imul, 1) := dk_104 (dk_at dksX3_column_0 12 rfl rfl)
theorem dX3_column_13 : decode cX3_column 13 = .ok (.iadd, 1) := dk_96 (dk_at dksX3_column_0 13 rfl rfl)
theorem dX3_column_14 : decode cX3_column 14 = .ok (.iaload, 1) := dk_46 (dk_at dksX3_column_0 14 rfl rfl)
theorem dX3_column_15 : decode cX3_column 15 = .ok (.aload_n 0, 1) := dk_42 (dk_at dksX3_column_0 15 rfl rfl)
theorem dX3_column_16 : decode cX3_column 16 = .ok (.getfield 9, 3) := dk_180 0 9 (dk_at dksX3_column_0 16 rfl rfl)
theorem dX3_column_19 : decode cX3_column 19 = .ok (.iload_n 1, 1) := dk_27 (dk_at dksX3_column_0 19 rfl rfl)
theorem dX3_column_20 : decode cX3_column 20 = .ok (.invokestatic 78, 3) := dk_184 0 78 (dk_at dksX3_column_0 20 rfl rfl)
theorem dX3_column_23 : decode cX3_column 23 = .ok (.iconst 2, 1) := dk_5 (dk_at dksX3_column_0 23 rfl rfl)
theorem dX3_column_24 : decode cX3_column 24 = .ok (.iadd, 1) := dk_96 (dk_at dksX3_column_1 0 rfl rfl)
theorem dX3_column_25 : decode cX3_column 25 = .ok (.iconst 2, 1) := dk_5 (dk_at dksX3_column_1 1 rfl rfl)
theorem dX3_column_26 : decode cX3_column 26 = .ok (.aload_n 0, 1) := dk_42 (dk_at dksX3_column_1 2 rfl rfl)
theorem dX3_column_27 : decode cX3_column 27 = .ok (.iload_n 1, 1) := dk_27 (dk_at dksX3_column_1 3 rfl rfl)
theorem dX3_column_28 : decode cX3_column 28 = .ok (.invokevirtual 82, 3) := dk_182 0 82 (dk_at dksX3_column_1 4 rfl rfl)
theorem dX3_column_31 : decode cX3_column 31 = .ok (.imul, 1) := dk_104 (dk_at dksX3_column_1 7 rfl rfl)
theorem dX3_column_32 : decode cX3_column 32 = .ok (.iadd, 1) := dk_96 (dk_at dksX3_column_1 8 rfl rfl)
theorem dX3_column_33 : decode cX3_column 33 = .ok (.iaload, 1) := dk_46 (dk_at dksX3_column_1 9 rfl rfl)
theorem dX3_column_34 : decode cX3_column 34 = .ok (.isub, 1) := dk_100 (dk_at dksX3_column_1 10 rfl rfl)
theorem dX3_column_35 : decode cX3_column 35 = .ok (.ireturn, 1) := dk_172 (dk_at dksX3_column_1 11 rfl rfl)
abbrev cX3_rowOf : ByteArray := prog_11_method_21_code
def yX3_rowOf : MethodName := ⟨RX3, "rowOf", "(II)I"⟩
def dkwX3_rowOf_1 : List UInt8 := [96, 5, 42, 27, 182, 0, 82, 104, 96, 46, 100, 172]
abbrev dktX3_rowOf_1 : List UInt8 := dkwX3_rowOf_1 ++ []
def dkwX3_rowOf_0 : List UInt8 := [42, 180, 0, 9, 27, 184, 0, 78, 6, 96, 5, 28, 104, 96, 46, 42, 180, 0, 9, 27, 184, 0, 78, 6]
abbrev dktX3_rowOf_0 : List UInt8 := dkwX3_rowOf_0 ++ dktX3_rowOf_1
theorem dksX3_rowOf_0 : cX3_rowOf.data.toList.drop 0 = dktX3_rowOf_0 := by decide +kernel
theorem dksX3_rowOf_1 : cX3_rowOf.data.toList.drop 24 = dktX3_rowOf_1 := dk_seg dksX3_rowOf_0 24 rfl rfl
theorem dX3_rowOf_0 : decode cX3_rowOf 0 = .ok (.aload_n 0, 1) := dk_42 (dk_at dksX3_rowOf_0 0 rfl rfl)
theorem dX3_rowOf_1 : decode cX3_rowOf 1 = .ok (.getfield 9, 3) := dk_180 0 9 (dk_at dksX3_rowOf_0 1 rfl rfl)
theorem dX3_rowOf_4 : decode cX3_rowOf 4 = .ok (.iload_n 1, 1) := dk_27 (dk_at dksX3_rowOf_0 4 rfl rfl)
theorem dX3_rowOf_5 : decode cX3_rowOf 5 = .ok (.invokestatic 78, 3) := dk_184 0 78 (dk_at dksX3_rowOf_0 5 rfl rfl)
theorem dX3_rowOf_8 : decode cX3_rowOf 8 = .ok (.iconst 3, 1) := dk_6 (dk_at dksX3_rowOf_0 8 rfl rfl)
theorem dX3_rowOf_9 : decode cX3_rowOf 9 = .ok (.iadd, 1) := dk_96 (dk_at dksX3_rowOf_0 9 rfl rfl)
theorem dX3_rowOf_10 : decode cX3_rowOf 10 = .ok (.iconst 2, 1) := dk_5 (dk_at dksX3_rowOf_0 10 rfl rfl)
theorem dX3_rowOf_11 : decode cX3_rowOf 11 = .ok (.iload_n 2, 1) := dk_28 (dk_at dksX3_rowOf_0 11 rfl rfl)
theorem dX3_rowOf_12 : decode cX3_rowOf 12 = .ok (.imul, 1) := dk_104 (dk_at dksX3_rowOf_0 12 rfl rfl)
theorem dX3_rowOf_13 : decode cX3_rowOf 13 = .ok (.iadd, 1) := dk_96 (dk_at dksX3_rowOf_0 13 rfl rfl)
theorem dX3_rowOf_14 : decode cX3_rowOf 14 = .ok (.iaload, 1) := dk_46 (dk_at dksX3_rowOf_0 14 rfl rfl)
theorem dX3_rowOf_15 : decode cX3_rowOf 15 = .ok (.aload_n 0, 1) := dk_42 (dk_at dksX3_rowOf_0 15 rfl rfl)
theorem dX3_rowOf_16 : decode cX3_rowOf 16 = .ok (.getfield 9, 3) := dk_180 0 9 (dk_at dksX3_rowOf_0 16 rfl rfl)
theorem dX3_rowOf_19 : decode cX3_rowOf 19 = .ok (.iload_n 1, 1) := dk_27 (dk_at dksX3_rowOf_0 19 rfl rfl)
theorem dX3_rowOf_20 : decode cX3_rowOf 20 = .ok (.invokestatic 78, 3) := dk_184 0 78 (dk_at dksX3_rowOf_0 20 rfl rfl)
theorem dX3_rowOf_23 : decode cX3_rowOf 23 = .ok (.iconst 3, 1) := dk_6 (dk_at dksX3_rowOf_0 23 rfl rfl)
theorem dX3_rowOf_24 : decode cX3_rowOf 24 = .ok (.iadd, 1) := dk_96 (dk_at dksX3_rowOf_1 0 rfl rfl)
theorem dX3_rowOf_25 : decode cX3_rowOf 25 = .ok (.iconst 2, 1) := dk_5 (dk_at dksX3_rowOf_1 1 rfl rfl)
theorem dX3_rowOf_26 : decode cX3_rowOf 26 = .ok (.aload_n 0, 1) := dk_42 (dk_at dksX3_rowOf_1 2 rfl rfl)
theorem dX3_rowOf_27 : decode cX3_rowOf 27 = .ok (.iload_n 1, 1) := dk_27 (dk_at dksX3_rowOf_1 3 rfl rfl)
theorem dX3_rowOf_28 : decode cX3_rowOf 28 = .ok (.invokevirtual 82, 3) := dk_182 0 82 (dk_at dksX3_rowOf_1 4 rfl rfl)
theorem dX3_rowOf_31 : decode cX3_rowOf 31 = .ok (.imul, 1) := dk_104 (dk_at dksX3_rowOf_1 7 rfl rfl)
theorem dX3_rowOf_32 : decode cX3_rowOf 32 = .ok (.iadd, 1) := dk_96 (dk_at dksX3_rowOf_1 8 rfl rfl)
theorem dX3_rowOf_33 : decode cX3_rowOf 33 = .ok (.iaload, 1) := dk_46 (dk_at dksX3_rowOf_1 9 rfl rfl)
theorem dX3_rowOf_34 : decode cX3_rowOf 34 = .ok (.isub, 1) := dk_100 (dk_at dksX3_rowOf_1 10 rfl rfl)
theorem dX3_rowOf_35 : decode cX3_rowOf 35 = .ok (.ireturn, 1) := dk_172 (dk_at dksX3_rowOf_1 11 rfl rfl)
abbrev cX3_reckons : ByteArray := prog_11_method_23_code
def yX3_reckons : MethodName := ⟨RX3, "reckons", "(I)V"⟩
def dkwX3_reckons_4 : List UInt8 := [100, 79, 132, 4, 1, 167, 255, 174, 132, 3, 1, 167, 255, 159, 177]
abbrev dktX3_reckons_4 : List UInt8 := dkwX3_reckons_4 ++ []
def dkwX3_reckons_3 : List UInt8 := [180, 0, 28, 16, 10, 29, 104, 21, 4, 96, 21, 5, 156, 0, 7, 3, 167, 0, 9, 17, 39, 16, 21, 5]
abbrev dktX3_reckons_3 : List UInt8 := dkwX3_reckons_3 ++ dktX3_reckons_4
def dkwX3_reckons_2 : List UInt8 := [180, 0, 13, 16, 120, 21, 4, 104, 42, 29, 3, 182, 0, 61, 96, 46, 167, 0, 4, 2, 54, 5, 42]
abbrev dktX3_reckons_2 : List UInt8 := dkwX3_reckons_2 ++ dktX3_reckons_3
def dkwX3_reckons_1 : List UInt8 := [182, 0, 65, 153, 0, 38, 29, 28, 159, 0, 33, 42, 180, 0, 19, 21, 4, 46, 155, 0, 23, 42]
abbrev dktX3_reckons_1 : List UInt8 := dkwX3_reckons_1 ++ dktX3_reckons_2
def dkwX3_reckons_0 : List UInt8 := [42, 182, 0, 85, 61, 3, 62, 29, 16, 10, 162, 0, 97, 3, 54, 4, 21, 4, 27, 162, 0, 82, 42, 29]
abbrev dktX3_reckons_0 : List UInt8 := dkwX3_reckons_0 ++ dktX3_reckons_1
theorem dksX3_reckons_0 : cX3_reckons.data.toList.drop 0 = dktX3_reckons_0 := by decide +kernel
theorem dksX3_reckons_1 : cX3_reckons.data.toList.drop 24 = dktX3_reckons_1 := dk_seg dksX3_reckons_0 24 rfl rfl
theorem dksX3_reckons_2 : cX3_reckons.data.toList.drop 46 = dktX3_reckons_2 := dk_seg dksX3_reckons_1 22 rfl rfl
theorem dksX3_reckons_3 : cX3_reckons.data.toList.drop 69 = dktX3_reckons_3 := dk_seg dksX3_reckons_2 23 rfl rfl
theorem dksX3_reckons_4 : cX3_reckons.data.toList.drop 93 = dktX3_reckons_4 := dk_seg dksX3_reckons_3 24 rfl rfl
theorem dX3_reckons_0 : decode cX3_reckons 0 = .ok (.aload_n 0, 1) := dk_42 (dk_at dksX3_reckons_0 0 rfl rfl)
theorem dX3_reckons_1 : decode cX3_reckons 1 = .ok (.invokevirtual 85, 3) := dk_182 0 85 (dk_at dksX3_reckons_0 1 rfl rfl)
theorem dX3_reckons_4 : decode cX3_reckons 4 = .ok (.istore_n 2, 1) := dk_61 (dk_at dksX3_reckons_0 4 rfl rfl)
theorem dX3_reckons_5 : decode cX3_reckons 5 = .ok (.iconst 0, 1) := dk_3 (dk_at dksX3_reckons_0 5 rfl rfl)
theorem dX3_reckons_6 : decode cX3_reckons 6 = .ok (.istore_n 3, 1) := dk_62 (dk_at dksX3_reckons_0 6 rfl rfl)
theorem dX3_reckons_7 : decode cX3_reckons 7 = .ok (.iload_n 3, 1) := dk_29 (dk_at dksX3_reckons_0 7 rfl rfl)
theorem dX3_reckons_8 : decode cX3_reckons 8 = .ok (.bipush 10, 2) := dk_16 10 (dk_at dksX3_reckons_0 8 rfl rfl)
theorem dX3_reckons_10 : decode cX3_reckons 10 = .ok (.if_icmp .ge 97, 3) := dk_162 0 97 (dk_at dksX3_reckons_0 10 rfl rfl)
theorem dX3_reckons_13 : decode cX3_reckons 13 = .ok (.iconst 0, 1) := dk_3 (dk_at dksX3_reckons_0 13 rfl rfl)
theorem dX3_reckons_14 : decode cX3_reckons 14 = .ok (.istore 4, 2) := dk_54 4 (dk_at dksX3_reckons_0 14 rfl rfl)
theorem dX3_reckons_16 : decode cX3_reckons 16 = .ok (.iload 4, 2) := dk_21 4 (dk_at dksX3_reckons_0 16 rfl rfl)
theorem dX3_reckons_18 : decode cX3_reckons 18 = .ok (.iload_n 1, 1) := dk_27 (dk_at dksX3_reckons_0 18 rfl rfl)
theorem dX3_reckons_19 : decode cX3_reckons 19 = .ok (.if_icmp .ge 82, 3) := dk_162 0 82 (dk_at dksX3_reckons_0 19 rfl rfl)
theorem dX3_reckons_22 : decode cX3_reckons 22 = .ok (.aload_n 0, 1) := dk_42 (dk_at dksX3_reckons_0 22 rfl rfl)
theorem dX3_reckons_23 : decode cX3_reckons 23 = .ok (.iload_n 3, 1) := dk_29 (dk_at dksX3_reckons_0 23 rfl rfl)
theorem dX3_reckons_24 : decode cX3_reckons 24 = .ok (.invokevirtual 65, 3) := dk_182 0 65 (dk_at dksX3_reckons_1 0 rfl rfl)
theorem dX3_reckons_27 : decode cX3_reckons 27 = .ok (.ifCond .eq 38, 3) := dk_153 0 38 (dk_at dksX3_reckons_1 3 rfl rfl)
theorem dX3_reckons_30 : decode cX3_reckons 30 = .ok (.iload_n 3, 1) := dk_29 (dk_at dksX3_reckons_1 6 rfl rfl)
theorem dX3_reckons_31 : decode cX3_reckons 31 = .ok (.iload_n 2, 1) := dk_28 (dk_at dksX3_reckons_1 7 rfl rfl)
theorem dX3_reckons_32 : decode cX3_reckons 32 = .ok (.if_icmp .eq 33, 3) := dk_159 0 33 (dk_at dksX3_reckons_1 8 rfl rfl)
theorem dX3_reckons_35 : decode cX3_reckons 35 = .ok (.aload_n 0, 1) := dk_42 (dk_at dksX3_reckons_1 11 rfl rfl)
theorem dX3_reckons_36 : decode cX3_reckons 36 = .ok (.getfield 19, 3) := dk_180 0 19 (dk_at dksX3_reckons_1 12 rfl rfl)
theorem dX3_reckons_39 : decode cX3_reckons 39 = .ok (.iload 4, 2) := dk_21 4 (dk_at dksX3_reckons_1 15 rfl rfl)
theorem dX3_reckons_41 : decode cX3_reckons 41 = .ok (.iaload, 1) := dk_46 (dk_at dksX3_reckons_1 17 rfl rfl)
theorem dX3_reckons_42 : decode cX3_reckons 42 = .ok (.ifCond .lt 23, 3) := dk_155 0 23 (dk_at dksX3_reckons_1 18 rfl rfl)
theorem dX3_reckons_45 : decode cX3_reckons 45 = .ok (.aload_n 0, 1) := dk_42 (dk_at dksX3_reckons_1 21 rfl rfl)
theorem dX3_reckons_46 : decode cX3_reckons 46 = .ok (.getfield 13, 3) := dk_180 0 13 (dk_at dksX3_reckons_2 0 rfl rfl)
theorem dX3_reckons_49 : decode cX3_reckons 49 = .ok (.bipush 120, 2) := dk_16 120 (dk_at dksX3_reckons_2 3 rfl rfl)
theorem dX3_reckons_51 : decode cX3_reckons 51 = .ok (.iload 4, 2) := dk_21 4 (dk_at dksX3_reckons_2 5 rfl rfl)
theorem dX3_reckons_53 : decode cX3_reckons 53 = .ok (.imul, 1) := dk_104 (dk_at dksX3_reckons_2 7 rfl rfl)
theorem dX3_reckons_54 : decode cX3_reckons 54 = .ok (.aload_n 0, 1) := dk_42 (dk_at dksX3_reckons_2 8 rfl rfl)
theorem dX3_reckons_55 : decode cX3_reckons 55 = .ok (.iload_n 3, 1) := dk_29 (dk_at dksX3_reckons_2 9 rfl rfl)
theorem dX3_reckons_56 : decode cX3_reckons 56 = .ok (.iconst 0, 1) := dk_3 (dk_at dksX3_reckons_2 10 rfl rfl)
theorem dX3_reckons_57 : decode cX3_reckons 57 = .ok (.invokevirtual 61, 3) := dk_182 0 61 (dk_at dksX3_reckons_2 11 rfl rfl)
theorem dX3_reckons_60 : decode cX3_reckons 60 = .ok (.iadd, 1) := dk_96 (dk_at dksX3_reckons_2 14 rfl rfl)
theorem dX3_reckons_61 : decode cX3_reckons 61 = .ok (.iaload, 1) := dk_46 (dk_at dksX3_reckons_2 15 rfl rfl)
theorem dX3_reckons_62 : decode cX3_reckons 62 = .ok (.goto 4, 3) := dk_167 0 4 (dk_at dksX3_reckons_2 16 rfl rfl)
theorem dX3_reckons_65 : decode cX3_reckons 65 = .ok (.iconst (-1), 1) := dk_2 (dk_at dksX3_reckons_2 19 rfl rfl)
theorem dX3_reckons_66 : decode cX3_reckons 66 = .ok (.istore 5, 2) := dk_54 5 (dk_at dksX3_reckons_2 20 rfl rfl)
theorem dX3_reckons_68 : decode cX3_reckons 68 = .ok (.aload_n 0, 1) := dk_42 (dk_at dksX3_reckons_2 22 rfl rfl)
theorem dX3_reckons_69 : decode cX3_reckons 69 = .ok (.getfield 28, 3) := dk_180 0 28 (dk_at dksX3_reckons_3 0 rfl rfl)
theorem dX3_reckons_72 : decode cX3_reckons 72 = .ok (.bipush 10, 2) := dk_16 10 (dk_at dksX3_reckons_3 3 rfl rfl)
theorem dX3_reckons_74 : decode cX3_reckons 74 = .ok (.iload_n 3, 1) := dk_29 (dk_at dksX3_reckons_3 5 rfl rfl)
theorem dX3_reckons_75 : decode cX3_reckons 75 = .ok (.imul, 1) := dk_104 (dk_at dksX3_reckons_3 6 rfl rfl)
theorem dX3_reckons_76 : decode cX3_reckons 76 = .ok (.iload 4, 2) := dk_21 4 (dk_at dksX3_reckons_3 7 rfl rfl)
theorem dX3_reckons_78 : decode cX3_reckons 78 = .ok (.iadd, 1) := dk_96 (dk_at dksX3_reckons_3 9 rfl rfl)
theorem dX3_reckons_79 : decode cX3_reckons 79 = .ok (.iload 5, 2) := dk_21 5 (dk_at dksX3_reckons_3 10 rfl rfl)
theorem dX3_reckons_81 : decode cX3_reckons 81 = .ok (.ifCond .ge 7, 3) := dk_156 0 7 (dk_at dksX3_reckons_3 12 rfl rfl)
theorem dX3_reckons_84 : decode cX3_reckons 84 = .ok (.iconst 0, 1) := dk_3 (dk_at dksX3_reckons_3 15 rfl rfl)
theorem dX3_reckons_85 : decode cX3_reckons 85 = .ok (.goto 9, 3) := dk_167 0 9 (dk_at dksX3_reckons_3 16 rfl rfl)
theorem dX3_reckons_88 : decode cX3_reckons 88 = .ok (.sipush 10000, 3) := dk_17 39 16 (dk_at dksX3_reckons_3 19 rfl rfl)
theorem dX3_reckons_91 : decode cX3_reckons 91 = .ok (.iload 5, 2) := dk_21 5 (dk_at dksX3_reckons_3 22 rfl rfl)
theorem dX3_reckons_93 : decode cX3_reckons 93 = .ok (.isub, 1) := dk_100 (dk_at dksX3_reckons_4 0 rfl rfl)
theorem dX3_reckons_94 : decode cX3_reckons 94 = .ok (.iastore, 1) := dk_79 (dk_at dksX3_reckons_4 1 rfl rfl)
theorem dX3_reckons_95 : decode cX3_reckons 95 = .ok (.iinc 4 1, 3) := dk_132 4 1 (dk_at dksX3_reckons_4 2 rfl rfl)
theorem dX3_reckons_98 : decode cX3_reckons 98 = .ok (.goto (-82), 3) := dk_167 255 174 (dk_at dksX3_reckons_4 5 rfl rfl)
theorem dX3_reckons_101 : decode cX3_reckons 101 = .ok (.iinc 3 1, 3) := dk_132 3 1 (dk_at dksX3_reckons_4 8 rfl rfl)
theorem dX3_reckons_104 : decode cX3_reckons 104 = .ok (.goto (-97), 3) := dk_167 255 159 (dk_at dksX3_reckons_4 11 rfl rfl)
theorem dX3_reckons_107 : decode cX3_reckons 107 = .ok (.return_, 1) := dk_177 (dk_at dksX3_reckons_4 14 rfl rfl)
abbrev cX3_acts : ByteArray := prog_11_method_33_code
def yX3_acts : MethodName := ⟨RX3, "acts", "(I)V"⟩
def dkwX3_acts_3 : List UInt8 := [27, 4, 182, 0, 61, 4, 96, 182, 0, 114, 42, 27, 182, 0, 124, 42, 27, 8, 6, 182, 0, 114, 177]
abbrev dktX3_acts_3 : List UInt8 := dkwX3_acts_3 ++ []
def dkwX3_acts_2 : List UInt8 := [177, 42, 27, 4, 182, 0, 61, 5, 161, 0, 12, 42, 27, 182, 0, 139, 153, 0, 4, 177, 42, 27, 4, 42]
abbrev dktX3_acts_2 : List UInt8 := dkwX3_acts_2 ++ dktX3_acts_3
def dkwX3_acts_1 : List UInt8 := [29, 153, 0, 23, 42, 27, 28, 29, 182, 0, 133, 154, 0, 13, 42, 27, 28, 29, 182, 0, 136, 153, 0, 4]
abbrev dktX3_acts_1 : List UInt8 := dkwX3_acts_1 ++ dktX3_acts_2
def dkwX3_acts_0 : List UInt8 := [16, 120, 42, 180, 0, 25, 27, 46, 104, 61, 42, 180, 0, 13, 28, 42, 27, 3, 182, 0, 61, 96, 46, 62]
abbrev dktX3_acts_0 : List UInt8 := dkwX3_acts_0 ++ dktX3_acts_1
theorem dksX3_acts_0 : cX3_acts.data.toList.drop 0 = dktX3_acts_0 := by decide +kernel
theorem dksX3_acts_1 : cX3_acts.data.toList.drop 24 = dktX3_acts_1 := dk_seg dksX3_acts_0 24 rfl rfl
theorem dksX3_acts_2 : cX3_acts.data.toList.drop 48 = dktX3_acts_2 := dk_seg dksX3_acts_1 24 rfl rfl
theorem dksX3_acts_3 : cX3_acts.data.toList.drop 72 = dktX3_acts_3 := dk_seg dksX3_acts_2 24 rfl rfl
theorem dX3_acts_0 : decode cX3_acts 0 = .ok (.bipush 120, 2) := dk_16 120 (dk_at dksX3_acts_0 0 rfl rfl)
theorem dX3_acts_2 : decode cX3_acts 2 = .ok (.aload_n 0, 1) := dk_42 (dk_at dksX3_acts_0 2 rfl rfl)
theorem dX3_acts_3 : decode cX3_acts 3 = .ok (.getfield 25, 3) := dk_180 0 25 (dk_at dksX3_acts_0 3 rfl rfl)
theorem dX3_acts_6 : decode cX3_acts 6 = .ok (.iload_n 1, 1) := dk_27 (dk_at dksX3_acts_0 6 rfl rfl)
theorem dX3_acts_7 : decode cX3_acts 7 = .ok (.iaload, 1) := dk_46 (dk_at dksX3_acts_0 7 rfl rfl)
theorem dX3_acts_8 : decode cX3_acts 8 = .ok (.imul, 1) := dk_104 (dk_at dksX3_acts_0 8 rfl rfl)
theorem dX3_acts_9 : decode cX3_acts 9 = .ok (.istore_n 2, 1) := dk_61 (dk_at dksX3_acts_0 9 rfl rfl)
theorem dX3_acts_10 : decode cX3_acts 10 = .ok (.aload_n 0, 1) := dk_42 (dk_at dksX3_acts_0 10 rfl rfl)
theorem dX3_acts_11 : decode cX3_acts 11 = .ok (.getfield 13, 3) := dk_180 0 13 (dk_at dksX3_acts_0 11 rfl rfl)
theorem dX3_acts_14 : decode cX3_acts 14 = .ok (.iload_n 2, 1) := dk_28 (dk_at dksX3_acts_0 14 rfl rfl)
theorem dX3_acts_15 : decode cX3_acts 15 = .ok (.aload_n 0, 1) := dk_42 (dk_at dksX3_acts_0 15 rfl rfl)
theorem dX3_acts_16 : decode cX3_acts 16 = .ok (.iload_n 1, 1) := dk_27 (dk_at dksX3_acts_0 16 rfl rfl)
theorem dX3_acts_17 : decode cX3_acts 17 = .ok (.iconst 0, 1) := dk_3 (dk_at dksX3_acts_0 17 rfl rfl)
theorem dX3_acts_18 : decode cX3_acts 18 = .ok (.invokevirtual 61, 3) := dk_182 0 61 (dk_at dksX3_acts_0 18 rfl rfl)
theorem dX3_acts_21 : decode cX3_acts 21 = .ok (.iadd, 1) := dk_96 (dk_at dksX3_acts_0 21 rfl rfl)
theorem dX3_acts_22 : decode cX3_acts 22 = .ok (.iaload, 1) := dk_46 (dk_at dksX3_acts_0 22 rfl rfl)
theorem dX3_acts_23 : decode cX3_acts 23 = .ok (.istore_n 3, 1) := dk_62 (dk_at dksX3_acts_0 23 rfl rfl)
theorem dX3_acts_24 : decode cX3_acts 24 = .ok (.iload_n 3, 1) := dk_29 (dk_at dksX3_acts_1 0 rfl rfl)
theorem dX3_acts_25 : decode cX3_acts 25 = .ok (.ifCond .eq 23, 3) := dk_153 0 23 (dk_at dksX3_acts_1 1 rfl rfl)
theorem dX3_acts_28 : decode cX3_acts 28 = .ok (.aload_n 0, 1) := dk_42 (dk_at dksX3_acts_1 4 rfl rfl)
theorem dX3_acts_29 : decode cX3_acts 29 = .ok (.iload_n 1, 1) := dk_27 (dk_at dksX3_acts_1 5 rfl rfl)
theorem dX3_acts_30 : decode cX3_acts 30 = .ok (.iload_n 2, 1) := dk_28 (dk_at dksX3_acts_1 6 rfl rfl)
theorem dX3_acts_31 : decode cX3_acts 31 = .ok (.iload_n 3, 1) := dk_29 (dk_at dksX3_acts_1 7 rfl rfl)
theorem dX3_acts_32 : decode cX3_acts 32 = .ok (.invokevirtual 133, 3) := dk_182 0 133 (dk_at dksX3_acts_1 8 rfl rfl)
theorem dX3_acts_35 : decode cX3_acts 35 = .ok (.ifCond .ne 13, 3) := dk_154 0 13 (dk_at dksX3_acts_1 11 rfl rfl)
theorem dX3_acts_38 : decode cX3_acts 38 = .ok (.aload_n 0, 1) := dk_42 (dk_at dksX3_acts_1 14 rfl rfl)
theorem dX3_acts_39 : decode cX3_acts 39 = .ok (.iload_n 1, 1) := dk_27 (dk_at dksX3_acts_1 15 rfl rfl)
theorem dX3_acts_40 : decode cX3_acts 40 = .ok (.iload_n 2, 1) := dk_28 (dk_at dksX3_acts_1 16 rfl rfl)
theorem dX3_acts_41 : decode cX3_acts 41 = .ok (.iload_n 3, 1) := dk_29 (dk_at dksX3_acts_1 17 rfl rfl)
theorem dX3_acts_42 : decode cX3_acts 42 = .ok (.invokevirtual 136, 3) := dk_182 0 136 (dk_at dksX3_acts_1 18 rfl rfl)
theorem dX3_acts_45 : decode cX3_acts 45 = .ok (.ifCond .eq 4, 3) := dk_153 0 4 (dk_at dksX3_acts_1 21 rfl rfl)
theorem dX3_acts_48 : decode cX3_acts 48 = .ok (.return_, 1) := dk_177 (dk_at dksX3_acts_2 0 rfl rfl)
theorem dX3_acts_49 : decode cX3_acts 49 = .ok (.aload_n 0, 1) := dk_42 (dk_at dksX3_acts_2 1 rfl rfl)
theorem dX3_acts_50 : decode cX3_acts 50 = .ok (.iload_n 1, 1) := dk_27 (dk_at dksX3_acts_2 2 rfl rfl)
theorem dX3_acts_51 : decode cX3_acts 51 = .ok (.iconst 1, 1) := dk_4 (dk_at dksX3_acts_2 3 rfl rfl)
theorem dX3_acts_52 : decode cX3_acts 52 = .ok (.invokevirtual 61, 3) := dk_182 0 61 (dk_at dksX3_acts_2 4 rfl rfl)
theorem dX3_acts_55 : decode cX3_acts 55 = .ok (.iconst 2, 1) := dk_5 (dk_at dksX3_acts_2 7 rfl rfl)
theorem dX3_acts_56 : decode cX3_acts 56 = .ok (.if_icmp .lt 12, 3) := dk_161 0 12 (dk_at dksX3_acts_2 8 rfl rfl)
theorem dX3_acts_59 : decode cX3_acts 59 = .ok (.aload_n 0, 1) := dk_42 (dk_at dksX3_acts_2 11 rfl rfl)
theorem dX3_acts_60 : decode cX3_acts 60 = .ok (.iload_n 1, 1) := dk_27 (dk_at dksX3_acts_2 12 rfl rfl)
theorem dX3_acts_61 : decode cX3_acts 61 = .ok (.invokevirtual 139, 3) := dk_182 0 139 (dk_at dksX3_acts_2 13 rfl rfl)
theorem dX3_acts_64 : decode cX3_acts 64 = .ok (.ifCond .eq 4, 3) := dk_153 0 4 (dk_at dksX3_acts_2 16 rfl rfl)
theorem dX3_acts_67 : decode cX3_acts 67 = .ok (.return_, 1) := dk_177 (dk_at dksX3_acts_2 19 rfl rfl)
theorem dX3_acts_68 : decode cX3_acts 68 = .ok (.aload_n 0, 1) := dk_42 (dk_at dksX3_acts_2 20 rfl rfl)
theorem dX3_acts_69 : decode cX3_acts 69 = .ok (.iload_n 1, 1) := dk_27 (dk_at dksX3_acts_2 21 rfl rfl)
theorem dX3_acts_70 : decode cX3_acts 70 = .ok (.iconst 1, 1) := dk_4 (dk_at dksX3_acts_2 22 rfl rfl)
theorem dX3_acts_71 : decode cX3_acts 71 = .ok (.aload_n 0, 1) := dk_42 (dk_at dksX3_acts_2 23 rfl rfl)
theorem dX3_acts_72 : decode cX3_acts 72 = .ok (.iload_n 1, 1) := dk_27 (dk_at dksX3_acts_3 0 rfl rfl)
theorem dX3_acts_73 : decode cX3_acts 73 = .ok (.iconst 1, 1) := dk_4 (dk_at dksX3_acts_3 1 rfl rfl)
theorem dX3_acts_74 : decode cX3_acts 74 = .ok (.invokevirtual 61, 3) := dk_182 0 61 (dk_at dksX3_acts_3 2 rfl rfl)
theorem dX3_acts_77 : decode cX3_acts 77 = .ok (.iconst 1, 1) := dk_4 (dk_at dksX3_acts_3 5 rfl rfl)
theorem dX3_acts_78 : decode cX3_acts 78 = .ok (.iadd, 1) := dk_96 (dk_at dksX3_acts_3 6 rfl rfl)
theorem dX3_acts_79 : decode cX3_acts 79 = .ok (.invokevirtual 114, 3) := dk_182 0 114 (dk_at dksX3_acts_3 7 rfl rfl)
theorem dX3_acts_82 : decode cX3_acts 82 = .ok (.aload_n 0, 1) := dk_42 (dk_at dksX3_acts_3 10 rfl rfl)
theorem dX3_acts_83 : decode cX3_acts 83 = .ok (.iload_n 1, 1) := dk_27 (dk_at dksX3_acts_3 11 rfl rfl)
theorem dX3_acts_84 : decode cX3_acts 84 = .ok (.invokevirtual 124, 3) := dk_182 0 124 (dk_at dksX3_acts_3 12 rfl rfl)
theorem dX3_acts_87 : decode cX3_acts 87 = .ok (.aload_n 0, 1) := dk_42 (dk_at dksX3_acts_3 15 rfl rfl)
theorem dX3_acts_88 : decode cX3_acts 88 = .ok (.iload_n 1, 1) := dk_27 (dk_at dksX3_acts_3 16 rfl rfl)
theorem dX3_acts_89 : decode cX3_acts 89 = .ok (.iconst 5, 1) := dk_8 (dk_at dksX3_acts_3 17 rfl rfl)
theorem dX3_acts_90 : decode cX3_acts 90 = .ok (.iconst 3, 1) := dk_6 (dk_at dksX3_acts_3 18 rfl rfl)
theorem dX3_acts_91 : decode cX3_acts 91 = .ok (.invokevirtual 114, 3) := dk_182 0 114 (dk_at dksX3_acts_3 19 rfl rfl)
theorem dX3_acts_94 : decode cX3_acts 94 = .ok (.return_, 1) := dk_177 (dk_at dksX3_acts_3 22 rfl rfl)
abbrev cX3_steps : ByteArray := prog_11_method_30_code
def yX3_steps : MethodName := ⟨RX3, "steps", "(III)Z"⟩
def dkwX3_steps_3 : List UInt8 := [182, 0, 114, 4, 172, 132, 4, 1, 167, 255, 180, 3, 172]
abbrev dktX3_steps_3 : List UInt8 := dkwX3_steps_3 ++ []
def dkwX3_steps_2 : List UInt8 := [155, 0, 6, 167, 0, 25, 42, 27, 21, 5, 182, 0, 127, 42, 4, 4, 182, 0, 118, 42, 27, 8, 3]
abbrev dktX3_steps_2 : List UInt8 := dkwX3_steps_2 ++ dktX3_steps_3
def dkwX3_steps_1 : List UInt8 := [155, 0, 52, 42, 180, 0, 13, 28, 21, 5, 96, 46, 29, 4, 100, 160, 0, 37, 42, 21, 5, 182, 0, 121]
abbrev dktX3_steps_1 : List UInt8 := dkwX3_steps_1 ++ dktX3_steps_2
def dkwX3_steps_0 : List UInt8 := [3, 54, 4, 21, 4, 7, 162, 0, 76, 42, 27, 3, 182, 0, 61, 21, 4, 184, 0, 72, 54, 5, 21, 5]
abbrev dktX3_steps_0 : List UInt8 := dkwX3_steps_0 ++ dktX3_steps_1
theorem dksX3_steps_0 : cX3_steps.data.toList.drop 0 = dktX3_steps_0 := by decide +kernel
theorem dksX3_steps_1 : cX3_steps.data.toList.drop 24 = dktX3_steps_1 := dk_seg dksX3_steps_0 24 rfl rfl
theorem dksX3_steps_2 : cX3_steps.data.toList.drop 48 = dktX3_steps_2 := dk_seg dksX3_steps_1 24 rfl rfl
theorem dksX3_steps_3 : cX3_steps.data.toList.drop 71 = dktX3_steps_3 := dk_seg dksX3_steps_2 23 rfl rfl
theorem dX3_steps_0 : decode cX3_steps 0 = .ok (.iconst 0, 1) := dk_3 (dk_at dksX3_steps_0 0 rfl rfl)
theorem dX3_steps_1 : decode cX3_steps 1 = .ok (.istore 4, 2) := dk_54 4 (dk_at dksX3_steps_0 1 rfl rfl)
theorem dX3_steps_3 : decode cX3_steps 3 = .ok (.iload 4, 2) := dk_21 4 (dk_at dksX3_steps_0 3 rfl rfl)
theorem dX3_steps_5 : decode cX3_steps 5 = .ok (.iconst 4, 1) := dk_7 (dk_at dksX3_steps_0 5 rfl rfl)
theorem dX3_steps_6 : decode cX3_steps 6 = .ok (.if_icmp .ge 76, 3) := dk_162 0 76 (dk_at dksX3_steps_0 6 rfl rfl)
theorem dX3_steps_9 : decode cX3_steps 9 = .ok (.aload_n 0, 1) := dk_42 (dk_at dksX3_steps_0 9 rfl rfl)
theorem dX3_steps_10 : decode cX3_steps 10 = .ok (.iload_n 1, 1) := dk_27 (dk_at dksX3_steps_0 10 rfl rfl)
theorem dX3_steps_11 : decode cX3_steps 11 = .ok (.iconst 0, 1) := dk_3 (dk_at dksX3_steps_0 11 rfl rfl)
theorem dX3_steps_12 : decode cX3_steps 12 = .ok (.invokevirtual 61, 3) := dk_182 0 61 (dk_at dksX3_steps_0 12 rfl rfl)
theorem dX3_steps_15 : decode cX3_steps 15 = .ok (.iload 4, 2) := dk_21 4 (dk_at dksX3_steps_0 15 rfl rfl)
theorem dX3_steps_17 : decode cX3_steps 17 = .ok (.invokestatic 72, 3) := dk_184 0 72 (dk_at dksX3_steps_0 17 rfl rfl)
theorem dX3_steps_20 : decode cX3_steps 20 = .ok (.istore 5, 2) := dk_54 5 (dk_at dksX3_steps_0 20 rfl rfl)
theorem dX3_steps_22 : decode cX3_steps 22 = .ok (.iload 5, 2) := dk_21 5 (dk_at dksX3_steps_0 22 rfl rfl)
theorem dX3_steps_24 : decode cX3_steps 24 = .ok (.ifCond .lt 52, 3) := dk_155 0 52 (dk_at dksX3_steps_1 0 rfl rfl)
theorem dX3_steps_27 : decode cX3_steps 27 = .ok (.aload_n 0, 1) := dk_42 (dk_at dksX3_steps_1 3 rfl rfl)
theorem dX3_steps_28 : decode cX3_steps 28 = .ok (.getfield 13, 3) := dk_180 0 13 (dk_at dksX3_steps_1 4 rfl rfl)
theorem dX3_steps_31 : decode cX3_steps 31 = .ok (.iload_n 2, 1) := dk_28 (dk_at dksX3_steps_1 7 rfl rfl)
theorem dX3_steps_32 : decode cX3_steps 32 = .ok (.iload 5, 2) := dk_21 5 (dk_at dksX3_steps_1 8 rfl rfl)
theorem dX3_steps_34 : decode cX3_steps 34 = .ok (.iadd, 1) := dk_96 (dk_at dksX3_steps_1 10 rfl rfl)
theorem dX3_steps_35 : decode cX3_steps 35 = .ok (.iaload, 1) := dk_46 (dk_at dksX3_steps_1 11 rfl rfl)
theorem dX3_steps_36 : decode cX3_steps 36 = .ok (.iload_n 3, 1) := dk_29 (dk_at dksX3_steps_1 12 rfl rfl)
theorem dX3_steps_37 : decode cX3_steps 37 = .ok (.iconst 1, 1) := dk_4 (dk_at dksX3_steps_1 13 rfl rfl)
theorem dX3_steps_38 : decode cX3_steps 38 = .ok (.isub, 1) := dk_100 (dk_at dksX3_steps_1 14 rfl rfl)
theorem dX3_steps_39 : decode cX3_steps 39 = .ok (.if_icmp .ne 37, 3) := dk_160 0 37 (dk_at dksX3_steps_1 15 rfl rfl)
theorem dX3_steps_42 : decode cX3_steps 42 = .ok (.aload_n 0, 1) := dk_42 (dk_at dksX3_steps_1 18 rfl rfl)
theorem dX3_steps_43 : decode cX3_steps 43 = .ok (.iload 5, 2) := dk_21 5 (dk_at dksX3_steps_1 19 rfl rfl)
theorem dX3_steps_45 : decode cX3_steps 45 = .ok (.invokevirtual 121, 3) := dk_182 0 121 (dk_at dksX3_steps_1 21 rfl rfl)
theorem dX3_steps_48 : decode cX3_steps 48 = .ok (.ifCond .lt 6, 3) := dk_155 0 6 (dk_at dksX3_steps_2 0 rfl rfl)
theorem dX3_steps_51 : decode cX3_steps 51 = .ok (.goto 25, 3) := dk_167 0 25 (dk_at dksX3_steps_2 3 rfl rfl)
theorem dX3_steps_54 : decode cX3_steps 54 = .ok (.aload_n 0, 1) := dk_42 (dk_at dksX3_steps_2 6 rfl rfl)
theorem dX3_steps_55 : decode cX3_steps 55 = .ok (.iload_n 1, 1) := dk_27 (dk_at dksX3_steps_2 7 rfl rfl)
theorem dX3_steps_56 : decode cX3_steps 56 = .ok (.iload 5, 2) := dk_21 5 (dk_at dksX3_steps_2 8 rfl rfl)
theorem dX3_steps_58 : decode cX3_steps 58 = .ok (.invokevirtual 127, 3) := dk_182 0 127 (dk_at dksX3_steps_2 10 rfl rfl)
theorem dX3_steps_61 : decode cX3_steps 61 = .ok (.aload_n 0, 1) := dk_42 (dk_at dksX3_steps_2 13 rfl rfl)
theorem dX3_steps_62 : decode cX3_steps 62 = .ok (.iconst 1, 1) := dk_4 (dk_at dksX3_steps_2 14 rfl rfl)
theorem dX3_steps_63 : decode cX3_steps 63 = .ok (.iconst 1, 1) := dk_4 (dk_at dksX3_steps_2 15 rfl rfl)
theorem dX3_steps_64 : decode cX3_steps 64 = .ok (.invokevirtual 118, 3) := dk_182 0 118 (dk_at dksX3_steps_2 16 rfl rfl)
theorem dX3_steps_67 : decode cX3_steps 67 = .ok (.aload_n 0, 1) := dk_42 (dk_at dksX3_steps_2 19 rfl rfl)
theorem dX3_steps_68 : decode cX3_steps 68 = .ok (.iload_n 1, 1) := dk_27 (dk_at dksX3_steps_2 20 rfl rfl)
theorem dX3_steps_69 : decode cX3_steps 69 = .ok (.iconst 5, 1) := dk_8 (dk_at dksX3_steps_2 21 rfl rfl)
theorem dX3_steps_70 : decode cX3_steps 70 = .ok (.iconst 0, 1) := dk_3 (dk_at dksX3_steps_2 22 rfl rfl)
theorem dX3_steps_71 : decode cX3_steps 71 = .ok (.invokevirtual 114, 3) := dk_182 0 114 (dk_at dksX3_steps_3 0 rfl rfl)
theorem dX3_steps_74 : decode cX3_steps 74 = .ok (.iconst 1, 1) := dk_4 (dk_at dksX3_steps_3 3 rfl rfl)
theorem dX3_steps_75 : decode cX3_steps 75 = .ok (.ireturn, 1) := dk_172 (dk_at dksX3_steps_3 4 rfl rfl)
theorem dX3_steps_76 : decode cX3_steps 76 = .ok (.iinc 4 1, 3) := dk_132 4 1 (dk_at dksX3_steps_3 5 rfl rfl)
theorem dX3_steps_79 : decode cX3_steps 79 = .ok (.goto (-76), 3) := dk_167 255 180 (dk_at dksX3_steps_3 8 rfl rfl)
theorem dX3_steps_82 : decode cX3_steps 82 = .ok (.iconst 0, 1) := dk_3 (dk_at dksX3_steps_3 11 rfl rfl)
theorem dX3_steps_83 : decode cX3_steps 83 = .ok (.ireturn, 1) := dk_172 (dk_at dksX3_steps_3 12 rfl rfl)
abbrev cX3_exchanges : ByteArray := prog_11_method_31_code
def yX3_exchanges : MethodName := ⟨RX3, "exchanges", "(III)Z"⟩
def dkwX3_exchanges_5 : List UInt8 := [132, 5, 1, 167, 255, 148, 3, 172]
abbrev dktX3_exchanges_5 : List UInt8 := dkwX3_exchanges_5 ++ []
def dkwX3_exchanges_4 : List UInt8 := [42, 6, 4, 182, 0, 118, 42, 27, 8, 7, 182, 0, 114, 42, 21, 7, 8, 7, 182, 0, 114, 4, 172]
abbrev dktX3_exchanges_4 : List UInt8 := dkwX3_exchanges_4 ++ dktX3_exchanges_5
def dkwX3_exchanges_3 : List UInt8 := [182, 0, 130, 154, 0, 6, 167, 0, 41, 42, 27, 21, 6, 182, 0, 127, 42, 21, 7, 21, 4, 182, 0, 127]
abbrev dktX3_exchanges_3 : List UInt8 := dkwX3_exchanges_3 ++ dktX3_exchanges_4
def dkwX3_exchanges_2 : List UInt8 := [167, 0, 70, 42, 21, 6, 182, 0, 121, 54, 7, 21, 7, 155, 0, 57, 42, 21, 7, 21, 6, 21, 4]
abbrev dktX3_exchanges_2 : List UInt8 := dkwX3_exchanges_2 ++ dktX3_exchanges_3
def dkwX3_exchanges_1 : List UInt8 := [54, 6, 21, 6, 155, 0, 88, 42, 180, 0, 13, 28, 21, 6, 96, 46, 29, 4, 100, 159, 0, 6]
abbrev dktX3_exchanges_1 : List UInt8 := dkwX3_exchanges_1 ++ dktX3_exchanges_2
def dkwX3_exchanges_0 : List UInt8 := [42, 27, 3, 182, 0, 61, 54, 4, 3, 54, 5, 21, 5, 7, 162, 0, 108, 21, 4, 21, 5, 184, 0, 72]
abbrev dktX3_exchanges_0 : List UInt8 := dkwX3_exchanges_0 ++ dktX3_exchanges_1
theorem dksX3_exchanges_0 : cX3_exchanges.data.toList.drop 0 = dktX3_exchanges_0 := by decide +kernel
theorem dksX3_exchanges_1 : cX3_exchanges.data.toList.drop 24 = dktX3_exchanges_1 := dk_seg dksX3_exchanges_0 24 rfl rfl
theorem dksX3_exchanges_2 : cX3_exchanges.data.toList.drop 46 = dktX3_exchanges_2 := dk_seg dksX3_exchanges_1 22 rfl rfl
theorem dksX3_exchanges_3 : cX3_exchanges.data.toList.drop 69 = dktX3_exchanges_3 := dk_seg dksX3_exchanges_2 23 rfl rfl
theorem dksX3_exchanges_4 : cX3_exchanges.data.toList.drop 93 = dktX3_exchanges_4 := dk_seg dksX3_exchanges_3 24 rfl rfl
theorem dksX3_exchanges_5 : cX3_exchanges.data.toList.drop 116 = dktX3_exchanges_5 := dk_seg dksX3_exchanges_4 23 rfl rfl
theorem dX3_exchanges_0 : decode cX3_exchanges 0 = .ok (.aload_n 0, 1) := dk_42 (dk_at dksX3_exchanges_0 0 rfl rfl)
theorem dX3_exchanges_1 : decode cX3_exchanges 1 = .ok (.iload_n 1, 1) := dk_27 (dk_at dksX3_exchanges_0 1 rfl rfl)
theorem dX3_exchanges_2 : decode cX3_exchanges 2 = .ok (.iconst 0, 1) := dk_3 (dk_at dksX3_exchanges_0 2 rfl rfl)
theorem dX3_exchanges_3 : decode cX3_exchanges 3 = .ok (.invokevirtual 61, 3) := dk_182 0 61 (dk_at dksX3_exchanges_0 3 rfl rfl)
theorem dX3_exchanges_6 : decode cX3_exchanges 6 = .ok (.istore 4, 2) := dk_54 4 (dk_at dksX3_exchanges_0 6 rfl rfl)
theorem dX3_exchanges_8 : decode cX3_exchanges 8 = .ok (.iconst 0, 1) := dk_3 (dk_at dksX3_exchanges_0 8 rfl rfl)
theorem dX3_exchanges_9 : decode cX3_exchanges 9 = .ok (.istore 5, 2) := dk_54 5 (dk_at dksX3_exchanges_0 9 rfl rfl)
theorem dX3_exchanges_11 : decode cX3_exchanges 11 = .ok (.iload 5, 2) := dk_21 5 (dk_at dksX3_exchanges_0 11 rfl rfl)
theorem dX3_exchanges_13 : decode cX3_exchanges 13 = .ok (.iconst 4, 1) := dk_7 (dk_at dksX3_exchanges_0 13 rfl rfl)
theorem dX3_exchanges_14 : decode cX3_exchanges 14 = .ok (.if_icmp .ge 108, 3) := dk_162 0 108 (dk_at dksX3_exchanges_0 14 rfl rfl)
theorem dX3_exchanges_17 : decode cX3_exchanges 17 = .ok (.iload 4, 2) := dk_21 4 (dk_at dksX3_exchanges_0 17 rfl rfl)
theorem dX3_exchanges_19 : decode cX3_exchanges 19 = .ok (.iload 5, 2) := dk_21 5 (dk_at dksX3_exchanges_0 19 rfl rfl)
theorem dX3_exchanges_21 : decode cX3_exchanges 21 = .ok (.invokestatic 72, 3) := dk_184 0 72 (dk_at dksX3_exchanges_0 21 rfl rfl)
theorem dX3_exchanges_24 : decode cX3_exchanges 24 = .ok (.istore 6, 2) := dk_54 6 (dk_at dksX3_exchanges_1 0 rfl rfl)
theorem dX3_exchanges_26 : decode cX3_exchanges 26 = .ok (.iload 6, 2) := dk_21 6 (dk_at dksX3_exchanges_1 2 rfl rfl)
theorem dX3_exchanges_28 : decode cX3_exchanges 28 = .ok (.ifCond .lt 88, 3) := dk_155 0 88 (dk_at dksX3_exchanges_1 4 rfl rfl)
theorem dX3_exchanges_31 : decode cX3_exchanges 31 = .ok (.aload_n 0, 1) := dk_42 (dk_at dksX3_exchanges_1 7 rfl rfl)
theorem dX3_exchanges_32 : decode cX3_exchanges 32 = .ok (.getfield 13, 3) := dk_180 0 13 (dk_at dksX3_exchanges_1 8 rfl rfl)
theorem dX3_exchanges_35 : decode cX3_exchanges 35 = .ok (.iload_n 2, 1) := dk_28 (dk_at dksX3_exchanges_1 11 rfl rfl)
theorem dX3_exchanges_36 : decode cX3_exchanges 36 = .ok (.iload 6, 2) := dk_21 6 (dk_at dksX3_exchanges_1 12 rfl rfl)
theorem dX3_exchanges_38 : decode cX3_exchanges 38 = .ok (.iadd, 1) := dk_96 (dk_at dksX3_exchanges_1 14 rfl rfl)
theorem dX3_exchanges_39 : decode cX3_exchanges 39 = .ok (.iaload, 1) := dk_46 (dk_at dksX3_exchanges_1 15 rfl rfl)
theorem dX3_exchanges_40 : decode cX3_exchanges 40 = .ok (.iload_n 3, 1) := dk_29 (dk_at dksX3_exchanges_1 16 rfl rfl)
theorem dX3_exchanges_41 : decode cX3_exchanges 41 = .ok (.iconst 1, 1) := dk_4 (dk_at dksX3_exchanges_1 17 rfl rfl)
theorem dX3_exchanges_42 : decode cX3_exchanges 42 = .ok (.isub, 1) := dk_100 (dk_at dksX3_exchanges_1 18 rfl rfl)
theorem dX3_exchanges_43 : decode cX3_exchanges 43 = .ok (.if_icmp .eq 6, 3) := dk_159 0 6 (dk_at dksX3_exchanges_1 19 rfl rfl)
theorem dX3_exchanges_46 : decode cX3_exchanges 46 = .ok (.goto 70, 3) := dk_167 0 70 (dk_at dksX3_exchanges_2 0 rfl rfl)
theorem dX3_exchanges_49 : decode cX3_exchanges 49 = .ok (.aload_n 0, 1) := dk_42 (dk_at dksX3_exchanges_2 3 rfl rfl)
theorem dX3_exchanges_50 : decode cX3_exchanges 50 = .ok (.iload 6, 2) := dk_21 6 (dk_at dksX3_exchanges_2 4 rfl rfl)
theorem dX3_exchanges_52 : decode cX3_exchanges 52 = .ok (.invokevirtual 121, 3) := dk_182 0 121 (dk_at dksX3_exchanges_2 6 rfl rfl)
theorem dX3_exchanges_55 : decode cX3_exchanges 55 = .ok (.istore 7, 2) := dk_54 7 (dk_at dksX3_exchanges_2 9 rfl rfl)
theorem dX3_exchanges_57 : decode cX3_exchanges 57 = .ok (.iload 7, 2) := dk_21 7 (dk_at dksX3_exchanges_2 11 rfl rfl)
theorem dX3_exchanges_59 : decode cX3_exchanges 59 = .ok (.ifCond .lt 57, 3) := dk_155 0 57 (dk_at dksX3_exchanges_2 13 rfl rfl)
theorem dX3_exchanges_62 : decode cX3_exchanges 62 = .ok (.aload_n 0, 1) := dk_42 (dk_at dksX3_exchanges_2 16 rfl rfl)
theorem dX3_exchanges_63 : decode cX3_exchanges 63 = .ok (.iload 7, 2) := dk_21 7 (dk_at dksX3_exchanges_2 17 rfl rfl)
theorem dX3_exchanges_65 : decode cX3_exchanges 65 = .ok (.iload 6, 2) := dk_21 6 (dk_at dksX3_exchanges_2 19 rfl rfl)
theorem dX3_exchanges_67 : decode cX3_exchanges 67 = .ok (.iload 4, 2) := dk_21 4 (dk_at dksX3_exchanges_2 21 rfl rfl)
theorem dX3_exchanges_69 : decode cX3_exchanges 69 = .ok (.invokevirtual 130, 3) := dk_182 0 130 (dk_at dksX3_exchanges_3 0 rfl rfl)
theorem dX3_exchanges_72 : decode cX3_exchanges 72 = .ok (.ifCond .ne 6, 3) := dk_154 0 6 (dk_at dksX3_exchanges_3 3 rfl rfl)
theorem dX3_exchanges_75 : decode cX3_exchanges 75 = .ok (.goto 41, 3) := dk_167 0 41 (dk_at dksX3_exchanges_3 6 rfl rfl)
theorem dX3_exchanges_78 : decode cX3_exchanges 78 = .ok (.aload_n 0, 1) := dk_42 (dk_at dksX3_exchanges_3 9 rfl rfl)
theorem dX3_exchanges_79 : decode cX3_exchanges 79 = .ok (.iload_n 1, 1) := dk_27 (dk_at dksX3_exchanges_3 10 rfl rfl)
theorem dX3_exchanges_80 : decode cX3_exchanges 80 = .ok (.iload 6, 2) := dk_21 6 (dk_at dksX3_exchanges_3 11 rfl rfl)
theorem dX3_exchanges_82 : decode cX3_exchanges 82 = .ok (.invokevirtual 127, 3) := dk_182 0 127 (dk_at dksX3_exchanges_3 13 rfl rfl)
theorem dX3_exchanges_85 : decode cX3_exchanges 85 = .ok (.aload_n 0, 1) := dk_42 (dk_at dksX3_exchanges_3 16 rfl rfl)
theorem dX3_exchanges_86 : decode cX3_exchanges 86 = .ok (.iload 7, 2) := dk_21 7 (dk_at dksX3_exchanges_3 17 rfl rfl)
theorem dX3_exchanges_88 : decode cX3_exchanges 88 = .ok (.iload 4, 2) := dk_21 4 (dk_at dksX3_exchanges_3 19 rfl rfl)
theorem dX3_exchanges_90 : decode cX3_exchanges 90 = .ok (.invokevirtual 127, 3) := dk_182 0 127 (dk_at dksX3_exchanges_3 21 rfl rfl)
theorem dX3_exchanges_93 : decode cX3_exchanges 93 = .ok (.aload_n 0, 1) := dk_42 (dk_at dksX3_exchanges_4 0 rfl rfl)
theorem dX3_exchanges_94 : decode cX3_exchanges 94 = .ok (.iconst 3, 1) := dk_6 (dk_at dksX3_exchanges_4 1 rfl rfl)
theorem dX3_exchanges_95 : decode cX3_exchanges 95 = .ok (.iconst 1, 1) := dk_4 (dk_at dksX3_exchanges_4 2 rfl rfl)
theorem dX3_exchanges_96 : decode cX3_exchanges 96 = .ok (.invokevirtual 118, 3) := dk_182 0 118 (dk_at dksX3_exchanges_4 3 rfl rfl)
theorem dX3_exchanges_99 : decode cX3_exchanges 99 = .ok (.aload_n 0, 1) := dk_42 (dk_at dksX3_exchanges_4 6 rfl rfl)
theorem dX3_exchanges_100 : decode cX3_exchanges 100 = .ok (.iload_n 1, 1) := dk_27 (dk_at dksX3_exchanges_4 7 rfl rfl)
theorem dX3_exchanges_101 : decode cX3_exchanges 101 = .ok (.iconst 5, 1) := dk_8 (dk_at dksX3_exchanges_4 8 rfl rfl)
theorem dX3_exchanges_102 : decode cX3_exchanges 102 = .ok (.iconst 4, 1) := dk_7 (dk_at dksX3_exchanges_4 9 rfl rfl)
theorem dX3_exchanges_103 : decode cX3_exchanges 103 = .ok (.invokevirtual 114, 3) := dk_182 0 114 (dk_at dksX3_exchanges_4 10 rfl rfl)
theorem dX3_exchanges_106 : decode cX3_exchanges 106 = .ok (.aload_n 0, 1) := dk_42 (dk_at dksX3_exchanges_4 13 rfl rfl)
theorem dX3_exchanges_107 : decode cX3_exchanges 107 = .ok (.iload 7, 2) := dk_21 7 (dk_at dksX3_exchanges_4 14 rfl rfl)
theorem dX3_exchanges_109 : decode cX3_exchanges 109 = .ok (.iconst 5, 1) := dk_8 (dk_at dksX3_exchanges_4 16 rfl rfl)
theorem dX3_exchanges_110 : decode cX3_exchanges 110 = .ok (.iconst 4, 1) := dk_7 (dk_at dksX3_exchanges_4 17 rfl rfl)
theorem dX3_exchanges_111 : decode cX3_exchanges 111 = .ok (.invokevirtual 114, 3) := dk_182 0 114 (dk_at dksX3_exchanges_4 18 rfl rfl)
theorem dX3_exchanges_114 : decode cX3_exchanges 114 = .ok (.iconst 1, 1) := dk_4 (dk_at dksX3_exchanges_4 21 rfl rfl)
theorem dX3_exchanges_115 : decode cX3_exchanges 115 = .ok (.ireturn, 1) := dk_172 (dk_at dksX3_exchanges_4 22 rfl rfl)
theorem dX3_exchanges_116 : decode cX3_exchanges 116 = .ok (.iinc 5 1, 3) := dk_132 5 1 (dk_at dksX3_exchanges_5 0 rfl rfl)
theorem dX3_exchanges_119 : decode cX3_exchanges 119 = .ok (.goto (-108), 3) := dk_167 255 148 (dk_at dksX3_exchanges_5 3 rfl rfl)
theorem dX3_exchanges_122 : decode cX3_exchanges 122 = .ok (.iconst 0, 1) := dk_3 (dk_at dksX3_exchanges_5 6 rfl rfl)
theorem dX3_exchanges_123 : decode cX3_exchanges 123 = .ok (.ireturn, 1) := dk_172 (dk_at dksX3_exchanges_5 7 rfl rfl)
abbrev cX3_mayExchange : ByteArray := prog_11_method_29_code
def yX3_mayExchange : MethodName := ⟨RX3, "mayExchange", "(III)Z"⟩
def dkwX3_mayExchange_2 : List UInt8 := [46, 164, 0, 7, 4, 167, 0, 4, 3, 172]
abbrev dktX3_mayExchange_2 : List UInt8 := dkwX3_mayExchange_2 ++ []
def dkwX3_mayExchange_1 : List UInt8 := [180, 0, 25, 27, 46, 104, 28, 96, 46, 42, 180, 0, 13, 16, 120, 42, 180, 0, 25, 27, 46, 104, 29, 96]
abbrev dktX3_mayExchange_1 : List UInt8 := dkwX3_mayExchange_1 ++ dktX3_mayExchange_2
def dkwX3_mayExchange_0 : List UInt8 := [27, 42, 182, 0, 85, 159, 0, 51, 42, 180, 0, 25, 27, 46, 155, 0, 42, 42, 180, 0, 13, 16, 120, 42]
abbrev dktX3_mayExchange_0 : List UInt8 := dkwX3_mayExchange_0 ++ dktX3_mayExchange_1
theorem dksX3_mayExchange_0 : cX3_mayExchange.data.toList.drop 0 = dktX3_mayExchange_0 := by decide +kernel
theorem dksX3_mayExchange_1 : cX3_mayExchange.data.toList.drop 24 = dktX3_mayExchange_1 := dk_seg dksX3_mayExchange_0 24 rfl rfl
theorem dksX3_mayExchange_2 : cX3_mayExchange.data.toList.drop 48 = dktX3_mayExchange_2 := dk_seg dksX3_mayExchange_1 24 rfl rfl
theorem dX3_mayExchange_0 : decode cX3_mayExchange 0 = .ok (.iload_n 1, 1) := dk_27 (dk_at dksX3_mayExchange_0 0 rfl rfl)
theorem dX3_mayExchange_1 : decode cX3_mayExchange 1 = .ok (.aload_n 0, 1) := dk_42 (dk_at dksX3_mayExchange_0 1 rfl rfl)
theorem dX3_mayExchange_2 : decode cX3_mayExchange 2 = .ok (.invokevirtual 85, 3) := dk_182 0 85 (dk_at dksX3_mayExchange_0 2 rfl rfl)
theorem dX3_mayExchange_5 : decode cX3_mayExchange 5 = .ok (.if_icmp .eq 51, 3) := dk_159 0 51 (dk_at dksX3_mayExchange_0 5 rfl rfl)
theorem dX3_mayExchange_8 : decode cX3_mayExchange 8 = .ok (.aload_n 0, 1) := dk_42 (dk_at dksX3_mayExchange_0 8 rfl rfl)
theorem dX3_mayExchange_9 : decode cX3_mayExchange 9 = .ok (.getfield 25, 3) := dk_180 0 25 (dk_at dksX3_mayExchange_0 9 rfl rfl)
theorem dX3_mayExchange_12 : decode cX3_mayExchange 12 = .ok (.iload_n 1, 1) := dk_27 (dk_at dksX3_mayExchange_0 12 rfl rfl)
theorem dX3_mayExchange_13 : decode cX3_mayExchange 13 = .ok (.iaload, 1) := dk_46 (dk_at dksX3_mayExchange_0 13 rfl rfl)
theorem dX3_mayExchange_14 : decode cX3_mayExchange 14 = .ok (.ifCond .lt 42, 3) := dk_155 0 42 (dk_at dksX3_mayExchange_0 14 rfl rfl)
theorem dX3_mayExchange_17 : decode cX3_mayExchange 17 = .ok (.aload_n 0, 1) := dk_42 (dk_at dksX3_mayExchange_0 17 rfl rfl)
theorem dX3_mayExchange_18 : decode cX3_mayExchange 18 = .ok (.getfield 13, 3) := dk_180 0 13 (dk_at dksX3_mayExchange_0 18 rfl rfl)
theorem dX3_mayExchange_21 : decode cX3_mayExchange 21 = .ok (.bipush 120, 2) := dk_16 120 (dk_at dksX3_mayExchange_0 21 rfl rfl)
theorem dX3_mayExchange_23 : decode cX3_mayExchange 23 = .ok (.aload_n 0, 1) := dk_42 (dk_at dksX3_mayExchange_0 23 rfl rfl)
theorem dX3_mayExchange_24 : decode cX3_mayExchange 24 = .ok (.getfield 25, 3) := dk_180 0 25 (dk_at dksX3_mayExchange_1 0 rfl rfl)
theorem dX3_mayExchange_27 : decode cX3_mayExchange 27 = .ok (.iload_n 1, 1) := dk_27 (dk_at dksX3_mayExchange_1 3 rfl rfl)
theorem dX3_mayExchange_28 : decode cX3_mayExchange 28 = .ok (.iaload, 1) := dk_46 (dk_at dksX3_mayExchange_1 4 rfl rfl)
theorem dX3_mayExchange_29 : decode cX3_mayExchange 29 = .ok (.imul, 1) := dk_104 (dk_at dksX3_mayExchange_1 5 rfl rfl)
theorem dX3_mayExchange_30 : decode cX3_mayExchange 30 = .ok (.iload_n 2, 1) := dk_28 (dk_at dksX3_mayExchange_1 6 rfl rfl)
theorem dX3_mayExchange_31 : decode cX3_mayExchange 31 = .ok (.iadd, 1) := dk_96 (dk_at dksX3_mayExchange_1 7 rfl rfl)
theorem dX3_mayExchange_32 : decode cX3_mayExchange 32 = .ok (.iaload, 1) := dk_46 (dk_at dksX3_mayExchange_1 8 rfl rfl)
theorem dX3_mayExchange_33 : decode cX3_mayExchange 33 = .ok (.aload_n 0, 1) := dk_42 (dk_at dksX3_mayExchange_1 9 rfl rfl)
theorem dX3_mayExchange_34 : decode cX3_mayExchange 34 = .ok (.getfield 13, 3) := dk_180 0 13 (dk_at dksX3_mayExchange_1 10 rfl rfl)
theorem dX3_mayExchange_37 : decode cX3_mayExchange 37 = .ok (.bipush 120, 2) := dk_16 120 (dk_at dksX3_mayExchange_1 13 rfl rfl)
theorem dX3_mayExchange_39 : decode cX3_mayExchange 39 = .ok (.aload_n 0, 1) := dk_42 (dk_at dksX3_mayExchange_1 15 rfl rfl)
theorem dX3_mayExchange_40 : decode cX3_mayExchange 40 = .ok (.getfield 25, 3) := dk_180 0 25 (dk_at dksX3_mayExchange_1 16 rfl rfl)
theorem dX3_mayExchange_43 : decode cX3_mayExchange 43 = .ok (.iload_n 1, 1) := dk_27 (dk_at dksX3_mayExchange_1 19 rfl rfl)
theorem dX3_mayExchange_44 : decode cX3_mayExchange 44 = .ok (.iaload, 1) := dk_46 (dk_at dksX3_mayExchange_1 20 rfl rfl)
theorem dX3_mayExchange_45 : decode cX3_mayExchange 45 = .ok (.imul, 1) := dk_104 (dk_at dksX3_mayExchange_1 21 rfl rfl)
theorem dX3_mayExchange_46 : decode cX3_mayExchange 46 = .ok (.iload_n 3, 1) := dk_29 (dk_at dksX3_mayExchange_1 22 rfl rfl)
theorem dX3_mayExchange_47 : decode cX3_mayExchange 47 = .ok (.iadd, 1) := dk_96 (dk_at dksX3_mayExchange_1 23 rfl rfl)
theorem dX3_mayExchange_48 : decode cX3_mayExchange 48 = .ok (.iaload, 1) := dk_46 (dk_at dksX3_mayExchange_2 0 rfl rfl)
theorem dX3_mayExchange_49 : decode cX3_mayExchange 49 = .ok (.if_icmp .le 7, 3) := dk_164 0 7 (dk_at dksX3_mayExchange_2 1 rfl rfl)
theorem dX3_mayExchange_52 : decode cX3_mayExchange 52 = .ok (.iconst 1, 1) := dk_4 (dk_at dksX3_mayExchange_2 4 rfl rfl)
theorem dX3_mayExchange_53 : decode cX3_mayExchange 53 = .ok (.goto 4, 3) := dk_167 0 4 (dk_at dksX3_mayExchange_2 5 rfl rfl)
theorem dX3_mayExchange_56 : decode cX3_mayExchange 56 = .ok (.iconst 0, 1) := dk_3 (dk_at dksX3_mayExchange_2 8 rfl rfl)
theorem dX3_mayExchange_57 : decode cX3_mayExchange 57 = .ok (.ireturn, 1) := dk_172 (dk_at dksX3_mayExchange_2 9 rfl rfl)
abbrev cX3_stepsAside : ByteArray := prog_11_method_32_code
def yX3_stepsAside : MethodName := ⟨RX3, "stepsAside", "(I)Z"⟩
def dkwX3_stepsAside_2 : List UInt8 := [7, 4, 182, 0, 118, 42, 27, 8, 8, 182, 0, 114, 4, 172, 132, 2, 1, 167, 255, 193, 3, 172]
abbrev dktX3_stepsAside_2 : List UInt8 := dkwX3_stepsAside_2 ++ []
def dkwX3_stepsAside_1 : List UInt8 := [182, 0, 69, 154, 0, 35, 42, 29, 182, 0, 121, 155, 0, 6, 167, 0, 24, 42, 27, 29, 182, 0, 127, 42]
abbrev dktX3_stepsAside_1 : List UInt8 := dkwX3_stepsAside_1 ++ dktX3_stepsAside_2
def dkwX3_stepsAside_0 : List UInt8 := [3, 61, 28, 7, 162, 0, 64, 42, 27, 3, 182, 0, 61, 28, 184, 0, 72, 62, 29, 155, 0, 43, 42, 29]
abbrev dktX3_stepsAside_0 : List UInt8 := dkwX3_stepsAside_0 ++ dktX3_stepsAside_1
theorem dksX3_stepsAside_0 : cX3_stepsAside.data.toList.drop 0 = dktX3_stepsAside_0 := by decide +kernel
theorem dksX3_stepsAside_1 : cX3_stepsAside.data.toList.drop 24 = dktX3_stepsAside_1 := dk_seg dksX3_stepsAside_0 24 rfl rfl
theorem dksX3_stepsAside_2 : cX3_stepsAside.data.toList.drop 48 = dktX3_stepsAside_2 := dk_seg dksX3_stepsAside_1 24 rfl rfl
theorem dX3_stepsAside_0 : decode cX3_stepsAside 0 = .ok (.iconst 0, 1) := dk_3 (dk_at dksX3_stepsAside_0 0 rfl rfl)
theorem dX3_stepsAside_1 : decode cX3_stepsAside 1 = .ok (.istore_n 2, 1) := dk_61 (dk_at dksX3_stepsAside_0 1 rfl rfl)
theorem dX3_stepsAside_2 : decode cX3_stepsAside 2 = .ok (.iload_n 2, 1) := dk_28 (dk_at dksX3_stepsAside_0 2 rfl rfl)
theorem dX3_stepsAside_3 : decode cX3_stepsAside 3 = .ok (.iconst 4, 1) := dk_7 (dk_at dksX3_stepsAside_0 3 rfl rfl)
theorem dX3_stepsAside_4 : decode cX3_stepsAside 4 = .ok (.if_icmp .ge 64, 3) := dk_162 0 64 (dk_at dksX3_stepsAside_0 4 rfl rfl)
theorem dX3_stepsAside_7 : decode cX3_stepsAside 7 = .ok (.aload_n 0, 1) := dk_42 (dk_at dksX3_stepsAside_0 7 rfl rfl)
theorem dX3_stepsAside_8 : decode cX3_stepsAside 8 = .ok (.iload_n 1, 1) := dk_27 (dk_at dksX3_stepsAside_0 8 rfl rfl)
theorem dX3_stepsAside_9 : decode cX3_stepsAside 9 = .ok (.iconst 0, 1) := dk_3 (dk_at dksX3_stepsAside_0 9 rfl rfl)
theorem dX3_stepsAside_10 : decode cX3_stepsAside 10 = .ok (.invokevirtual 61, 3) := dk_182 0 61 (dk_at dksX3_stepsAside_0 10 rfl rfl)
theorem dX3_stepsAside_13 : decode cX3_stepsAside 13 = .ok (.iload_n 2, 1) := dk_28 (dk_at dksX3_stepsAside_0 13 rfl rfl)
theorem dX3_stepsAside_14 : decode cX3_stepsAside 14 = .ok (.invokestatic 72, 3) := dk_184 0 72 (dk_at dksX3_stepsAside_0 14 rfl rfl)
theorem dX3_stepsAside_17 : decode cX3_stepsAside 17 = .ok (.istore_n 3, 1) := dk_62 (dk_at dksX3_stepsAside_0 17 rfl rfl)
theorem dX3_stepsAside_18 : decode cX3_stepsAside 18 = .ok (.iload_n 3, 1) := dk_29 (dk_at dksX3_stepsAside_0 18 rfl rfl)
theorem dX3_stepsAside_19 : decode cX3_stepsAside 19 = .ok (.ifCond .lt 43, 3) := dk_155 0 43 (dk_at dksX3_stepsAside_0 19 rfl rfl)
theorem dX3_stepsAside_22 : decode cX3_stepsAside 22 = .ok (.aload_n 0, 1) := dk_42 (dk_at dksX3_stepsAside_0 22 rfl rfl)
theorem dX3_stepsAside_23 : decode cX3_stepsAside 23 = .ok (.iload_n 3, 1) := dk_29 (dk_at dksX3_stepsAside_0 23 rfl rfl)
theorem dX3_stepsAside_24 : decode cX3_stepsAside 24 = .ok (.invokevirtual 69, 3) := dk_182 0 69 (dk_at dksX3_stepsAside_1 0 rfl rfl)
theorem dX3_stepsAside_27 : decode cX3_stepsAside 27 = .ok (.ifCond .ne 35, 3) := dk_154 0 35 (dk_at dksX3_stepsAside_1 3 rfl rfl)
theorem dX3_stepsAside_30 : decode cX3_stepsAside 30 = .ok (.aload_n 0, 1) := dk_42 (dk_at dksX3_stepsAside_1 6 rfl rfl)
theorem dX3_stepsAside_31 : decode cX3_stepsAside 31 = .ok (.iload_n 3, 1) := dk_29 (dk_at dksX3_stepsAside_1 7 rfl rfl)
theorem dX3_stepsAside_32 : decode cX3_stepsAside 32 = .ok (.invokevirtual 121, 3) := dk_182 0 121 (dk_at dksX3_stepsAside_1 8 rfl rfl)
theorem dX3_stepsAside_35 : decode cX3_stepsAside 35 = .ok (.ifCond .lt 6, 3) := dk_155 0 6 (dk_at dksX3_stepsAside_1 11 rfl rfl)
theorem dX3_stepsAside_38 : decode cX3_stepsAside 38 = .ok (.goto 24, 3) := dk_167 0 24 (dk_at dksX3_stepsAside_1 14 rfl rfl)
theorem dX3_stepsAside_41 : decode cX3_stepsAside 41 = .ok (.aload_n 0, 1) := dk_42 (dk_at dksX3_stepsAside_1 17 rfl rfl)
theorem dX3_stepsAside_42 : decode cX3_stepsAside 42 = .ok (.iload_n 1, 1) := dk_27 (dk_at dksX3_stepsAside_1 18 rfl rfl)
theorem dX3_stepsAside_43 : decode cX3_stepsAside 43 = .ok (.iload_n 3, 1) := dk_29 (dk_at dksX3_stepsAside_1 19 rfl rfl)
theorem dX3_stepsAside_44 : decode cX3_stepsAside 44 = .ok (.invokevirtual 127, 3) := dk_182 0 127 (dk_at dksX3_stepsAside_1 20 rfl rfl)
theorem dX3_stepsAside_47 : decode cX3_stepsAside 47 = .ok (.aload_n 0, 1) := dk_42 (dk_at dksX3_stepsAside_1 23 rfl rfl)
theorem dX3_stepsAside_48 : decode cX3_stepsAside 48 = .ok (.iconst 4, 1) := dk_7 (dk_at dksX3_stepsAside_2 0 rfl rfl)
theorem dX3_stepsAside_49 : decode cX3_stepsAside 49 = .ok (.iconst 1, 1) := dk_4 (dk_at dksX3_stepsAside_2 1 rfl rfl)
theorem dX3_stepsAside_50 : decode cX3_stepsAside 50 = .ok (.invokevirtual 118, 3) := dk_182 0 118 (dk_at dksX3_stepsAside_2 2 rfl rfl)
theorem dX3_stepsAside_53 : decode cX3_stepsAside 53 = .ok (.aload_n 0, 1) := dk_42 (dk_at dksX3_stepsAside_2 5 rfl rfl)
theorem dX3_stepsAside_54 : decode cX3_stepsAside 54 = .ok (.iload_n 1, 1) := dk_27 (dk_at dksX3_stepsAside_2 6 rfl rfl)
theorem dX3_stepsAside_55 : decode cX3_stepsAside 55 = .ok (.iconst 5, 1) := dk_8 (dk_at dksX3_stepsAside_2 7 rfl rfl)
theorem dX3_stepsAside_56 : decode cX3_stepsAside 56 = .ok (.iconst 5, 1) := dk_8 (dk_at dksX3_stepsAside_2 8 rfl rfl)
theorem dX3_stepsAside_57 : decode cX3_stepsAside 57 = .ok (.invokevirtual 114, 3) := dk_182 0 114 (dk_at dksX3_stepsAside_2 9 rfl rfl)
theorem dX3_stepsAside_60 : decode cX3_stepsAside 60 = .ok (.iconst 1, 1) := dk_4 (dk_at dksX3_stepsAside_2 12 rfl rfl)
theorem dX3_stepsAside_61 : decode cX3_stepsAside 61 = .ok (.ireturn, 1) := dk_172 (dk_at dksX3_stepsAside_2 13 rfl rfl)
theorem dX3_stepsAside_62 : decode cX3_stepsAside 62 = .ok (.iinc 2 1, 3) := dk_132 2 1 (dk_at dksX3_stepsAside_2 14 rfl rfl)
theorem dX3_stepsAside_65 : decode cX3_stepsAside 65 = .ok (.goto (-63), 3) := dk_167 255 193 (dk_at dksX3_stepsAside_2 17 rfl rfl)
theorem dX3_stepsAside_68 : decode cX3_stepsAside 68 = .ok (.iconst 0, 1) := dk_3 (dk_at dksX3_stepsAside_2 20 rfl rfl)
theorem dX3_stepsAside_69 : decode cX3_stepsAside 69 = .ok (.ireturn, 1) := dk_172 (dk_at dksX3_stepsAside_2 21 rfl rfl)
abbrev cX3_add : ByteArray := prog_11_method_40_code
def yX3_add : MethodName := ⟨RX3, "add", "(II)I"⟩
def dkwX3_add_3 : List UInt8 := [182, 0, 160, 172]
abbrev dktX3_add_3 : List UInt8 := dkwX3_add_3 ++ []
def dkwX3_add_2 : List UInt8 := [16, 253, 172, 42, 180, 0, 9, 3, 46, 16, 10, 160, 0, 6, 16, 252, 172, 42, 182, 0, 151, 42, 29]
abbrev dktX3_add_2 : List UInt8 := dkwX3_add_2 ++ dktX3_add_3
def dkwX3_add_1 : List UInt8 := [16, 12, 28, 104, 27, 96, 62, 42, 29, 182, 0, 69, 154, 0, 11, 42, 29, 182, 0, 121, 155, 0, 6]
abbrev dktX3_add_1 : List UInt8 := dkwX3_add_1 ++ dktX3_add_2
def dkwX3_add_0 : List UInt8 := [27, 3, 16, 11, 184, 0, 57, 153, 0, 13, 28, 3, 16, 9, 184, 0, 57, 154, 0, 6, 16, 254, 172]
abbrev dktX3_add_0 : List UInt8 := dkwX3_add_0 ++ dktX3_add_1
theorem dksX3_add_0 : cX3_add.data.toList.drop 0 = dktX3_add_0 := by decide +kernel
theorem dksX3_add_1 : cX3_add.data.toList.drop 23 = dktX3_add_1 := dk_seg dksX3_add_0 23 rfl rfl
theorem dksX3_add_2 : cX3_add.data.toList.drop 46 = dktX3_add_2 := dk_seg dksX3_add_1 23 rfl rfl
theorem dksX3_add_3 : cX3_add.data.toList.drop 69 = dktX3_add_3 := dk_seg dksX3_add_2 23 rfl rfl
theorem dX3_add_0 : decode cX3_add 0 = .ok (.iload_n 1, 1) := dk_27 (dk_at dksX3_add_0 0 rfl rfl)
theorem dX3_add_1 : decode cX3_add 1 = .ok (.iconst 0, 1) := dk_3 (dk_at dksX3_add_0 1 rfl rfl)
theorem dX3_add_2 : decode cX3_add 2 = .ok (.bipush 11, 2) := dk_16 11 (dk_at dksX3_add_0 2 rfl rfl)
theorem dX3_add_4 : decode cX3_add 4 = .ok (.invokestatic 57, 3) := dk_184 0 57 (dk_at dksX3_add_0 4 rfl rfl)
theorem dX3_add_7 : decode cX3_add 7 = .ok (.ifCond .eq 13, 3) := dk_153 0 13 (dk_at dksX3_add_0 7 rfl rfl)
theorem dX3_add_10 : decode cX3_add 10 = .ok (.iload_n 2, 1) := dk_28 (dk_at dksX3_add_0 10 rfl rfl)
theorem dX3_add_11 : decode cX3_add 11 = .ok (.iconst 0, 1) := dk_3 (dk_at dksX3_add_0 11 rfl rfl)
theorem dX3_add_12 : decode cX3_add 12 = .ok (.bipush 9, 2) := dk_16 9 (dk_at dksX3_add_0 12 rfl rfl)
theorem dX3_add_14 : decode cX3_add 14 = .ok (.invokestatic 57, 3) := dk_184 0 57 (dk_at dksX3_add_0 14 rfl rfl)
theorem dX3_add_17 : decode cX3_add 17 = .ok (.ifCond .ne 6, 3) := dk_154 0 6 (dk_at dksX3_add_0 17 rfl rfl)
theorem dX3_add_20 : decode cX3_add 20 = .ok (.bipush (-2), 2) := dk_16 254 (dk_at dksX3_add_0 20 rfl rfl)
theorem dX3_add_22 : decode cX3_add 22 = .ok (.ireturn, 1) := dk_172 (dk_at dksX3_add_0 22 rfl rfl)
theorem dX3_add_23 : decode cX3_add 23 = .ok (.bipush 12, 2) := dk_16 12 (dk_at dksX3_add_1 0 rfl rfl)
theorem dX3_add_25 : decode cX3_add 25 = .ok (.iload_n 2, 1) := dk_28 (dk_at dksX3_add_1 2 rfl rfl)
theorem dX3_add_26 : decode cX3_add 26 = .ok (.imul, 1) := dk_104 (dk_at dksX3_add_1 3 rfl rfl)
theorem dX3_add_27 : decode cX3_add 27 = .ok (.iload_n 1, 1) := dk_27 (dk_at dksX3_add_1 4 rfl rfl)
theorem dX3_add_28 : decode cX3_add 28 = .ok (.iadd, 1) := dk_96 (dk_at dksX3_add_1 5 rfl rfl)
theorem dX3_add_29 : decode cX3_add 29 = .ok (.istore_n 3, 1) := dk_62 (dk_at dksX3_add_1 6 rfl rfl)
theorem dX3_add_30 : decode cX3_add 30 = .ok (.aload_n 0, 1) := dk_42 (dk_at dksX3_add_1 7 rfl rfl)
theorem dX3_add_31 : decode cX3_add 31 = .ok (.iload_n 3, 1) := dk_29 (dk_at dksX3_add_1 8 rfl rfl)
theorem dX3_add_32 : decode cX3_add 32 = .ok (.invokevirtual 69, 3) := dk_182 0 69 (dk_at dksX3_add_1 9 rfl rfl)
theorem dX3_add_35 : decode cX3_add 35 = .ok (.ifCond .ne 11, 3) := dk_154 0 11 (dk_at dksX3_add_1 12 rfl rfl)
theorem dX3_add_38 : decode cX3_add 38 = .ok (.aload_n 0, 1) := dk_42 (dk_at dksX3_add_1 15 rfl rfl)
theorem dX3_add_39 : decode cX3_add 39 = .ok (.iload_n 3, 1) := dk_29 (dk_at dksX3_add_1 16 rfl rfl)
theorem dX3_add_40 : decode cX3_add 40 = .ok (.invokevirtual 121, 3) := dk_182 0 121 (dk_at dksX3_add_1 17 rfl rfl)
theorem dX3_add_43 : decode cX3_add 43 = .ok (.ifCond .lt 6, 3) := dk_155 0 6 (dk_at dksX3_add_1 20 rfl rfl)
theorem dX3_add_46 : decode cX3_add 46 = .ok (.bipush (-3), 2) := dk_16 253 (dk_at dksX3_add_2 0 rfl rfl)
theorem dX3_add_48 : decode cX3_add 48 = .ok (.ireturn, 1) := dk_172 (dk_at dksX3_add_2 2 rfl rfl)
theorem dX3_add_49 : decode cX3_add 49 = .ok (.aload_n 0, 1) := dk_42 (dk_at dksX3_add_2 3 rfl rfl)
theorem dX3_add_50 : decode cX3_add 50 = .ok (.getfield 9, 3) := dk_180 0 9 (dk_at dksX3_add_2 4 rfl rfl)
theorem dX3_add_53 : decode cX3_add 53 = .ok (.iconst 0, 1) := dk_3 (dk_at dksX3_add_2 7 rfl rfl)
theorem dX3_add_54 : decode cX3_add 54 = .ok (.iaload, 1) := dk_46 (dk_at dksX3_add_2 8 rfl rfl)
theorem dX3_add_55 : decode cX3_add 55 = .ok (.bipush 10, 2) := dk_16 10 (dk_at dksX3_add_2 9 rfl rfl)
theorem dX3_add_57 : decode cX3_add 57 = .ok (.if_icmp .ne 6, 3) := dk_160 0 6 (dk_at dksX3_add_2 11 rfl rfl)
theorem dX3_add_60 : decode cX3_add 60 = .ok (.bipush (-4), 2) := dk_16 252 (dk_at dksX3_add_2 14 rfl rfl)
theorem dX3_add_62 : decode cX3_add 62 = .ok (.ireturn, 1) := dk_172 (dk_at dksX3_add_2 16 rfl rfl)
theorem dX3_add_63 : decode cX3_add 63 = .ok (.aload_n 0, 1) := dk_42 (dk_at dksX3_add_2 17 rfl rfl)
theorem dX3_add_64 : decode cX3_add 64 = .ok (.invokevirtual 151, 3) := dk_182 0 151 (dk_at dksX3_add_2 18 rfl rfl)
theorem dX3_add_67 : decode cX3_add 67 = .ok (.aload_n 0, 1) := dk_42 (dk_at dksX3_add_2 21 rfl rfl)
theorem dX3_add_68 : decode cX3_add 68 = .ok (.iload_n 3, 1) := dk_29 (dk_at dksX3_add_2 22 rfl rfl)
theorem dX3_add_69 : decode cX3_add 69 = .ok (.invokevirtual 160, 3) := dk_182 0 160 (dk_at dksX3_add_3 0 rfl rfl)
theorem dX3_add_72 : decode cX3_add 72 = .ok (.ireturn, 1) := dk_172 (dk_at dksX3_add_3 3 rfl rfl)
abbrev cX3_opens : ByteArray := prog_11_method_37_code
def yX3_opens : MethodName := ⟨RX3, "opens", "(I)I"⟩
def dkwX3_opens_2 : List UInt8 := [28, 8, 16, 251, 182, 0, 114, 42, 16, 7, 4, 182, 0, 118, 28, 172]
abbrev dktX3_opens_2 : List UInt8 := dkwX3_opens_2 ++ []
def dkwX3_opens_1 : List UInt8 := [162, 0, 16, 42, 28, 29, 3, 182, 0, 114, 132, 3, 1, 167, 255, 240, 42, 28, 3, 27, 182, 0, 114, 42]
abbrev dktX3_opens_1 : List UInt8 := dkwX3_opens_1 ++ dktX3_opens_2
def dkwX3_opens_0 : List UInt8 := [42, 180, 0, 9, 3, 46, 61, 42, 180, 0, 9, 3, 92, 46, 4, 96, 79, 3, 62, 29, 16, 6]
abbrev dktX3_opens_0 : List UInt8 := dkwX3_opens_0 ++ dktX3_opens_1
theorem dksX3_opens_0 : cX3_opens.data.toList.drop 0 = dktX3_opens_0 := by decide +kernel
theorem dksX3_opens_1 : cX3_opens.data.toList.drop 22 = dktX3_opens_1 := dk_seg dksX3_opens_0 22 rfl rfl
theorem dksX3_opens_2 : cX3_opens.data.toList.drop 46 = dktX3_opens_2 := dk_seg dksX3_opens_1 24 rfl rfl
theorem dX3_opens_0 : decode cX3_opens 0 = .ok (.aload_n 0, 1) := dk_42 (dk_at dksX3_opens_0 0 rfl rfl)
theorem dX3_opens_1 : decode cX3_opens 1 = .ok (.getfield 9, 3) := dk_180 0 9 (dk_at dksX3_opens_0 1 rfl rfl)
theorem dX3_opens_4 : decode cX3_opens 4 = .ok (.iconst 0, 1) := dk_3 (dk_at dksX3_opens_0 4 rfl rfl)
theorem dX3_opens_5 : decode cX3_opens 5 = .ok (.iaload, 1) := dk_46 (dk_at dksX3_opens_0 5 rfl rfl)
theorem dX3_opens_6 : decode cX3_opens 6 = .ok (.istore_n 2, 1) := dk_61 (dk_at dksX3_opens_0 6 rfl rfl)
theorem dX3_opens_7 : decode cX3_opens 7 = .ok (.aload_n 0, 1) := dk_42 (dk_at dksX3_opens_0 7 rfl rfl)
theorem dX3_opens_8 : decode cX3_opens 8 = .ok (.getfield 9, 3) := dk_180 0 9 (dk_at dksX3_opens_0 8 rfl rfl)
theorem dX3_opens_11 : decode cX3_opens 11 = .ok (.iconst 0, 1) := dk_3 (dk_at dksX3_opens_0 11 rfl rfl)
theorem dX3_opens_12 : decode cX3_opens 12 = .ok (.dup2, 1) := dk_92 (dk_at dksX3_opens_0 12 rfl rfl)
theorem dX3_opens_13 : decode cX3_opens 13 = .ok (.iaload, 1) := dk_46 (dk_at dksX3_opens_0 13 rfl rfl)
theorem dX3_opens_14 : decode cX3_opens 14 = .ok (.iconst 1, 1) := dk_4 (dk_at dksX3_opens_0 14 rfl rfl)
theorem dX3_opens_15 : decode cX3_opens 15 = .ok (.iadd, 1) := dk_96 (dk_at dksX3_opens_0 15 rfl rfl)
theorem dX3_opens_16 : decode cX3_opens 16 = .ok (.iastore, 1) := dk_79 (dk_at dksX3_opens_0 16 rfl rfl)
theorem dX3_opens_17 : decode cX3_opens 17 = .ok (.iconst 0, 1) := dk_3 (dk_at dksX3_opens_0 17 rfl rfl)
theorem dX3_opens_18 : decode cX3_opens 18 = .ok (.istore_n 3, 1) := dk_62 (dk_at dksX3_opens_0 18 rfl rfl)
theorem dX3_opens_19 : decode cX3_opens 19 = .ok (.iload_n 3, 1) := dk_29 (dk_at dksX3_opens_0 19 rfl rfl)
theorem dX3_opens_20 : decode cX3_opens 20 = .ok (.bipush 6, 2) := dk_16 6 (dk_at dksX3_opens_0 20 rfl rfl)
theorem dX3_opens_22 : decode cX3_opens 22 = .ok (.if_icmp .ge 16, 3) := dk_162 0 16 (dk_at dksX3_opens_1 0 rfl rfl)
theorem dX3_opens_25 : decode cX3_opens 25 = .ok (.aload_n 0, 1) := dk_42 (dk_at dksX3_opens_1 3 rfl rfl)
theorem dX3_opens_26 : decode cX3_opens 26 = .ok (.iload_n 2, 1) := dk_28 (dk_at dksX3_opens_1 4 rfl rfl)
theorem dX3_opens_27 : decode cX3_opens 27 = .ok (.iload_n 3, 1) := dk_29 (dk_at dksX3_opens_1 5 rfl rfl)
theorem dX3_opens_28 : decode cX3_opens 28 = .ok (.iconst 0, 1) := dk_3 (dk_at dksX3_opens_1 6 rfl rfl)
theorem dX3_opens_29 : decode cX3_opens 29 = .ok (.invokevirtual 114, 3) := dk_182 0 114 (dk_at dksX3_opens_1 7 rfl rfl)
theorem dX3_opens_32 : decode cX3_opens 32 = .ok (.iinc 3 1, 3) := dk_132 3 1 (dk_at dksX3_opens_1 10 rfl rfl)
theorem dX3_opens_35 : decode cX3_opens 35 = .ok (.goto (-16), 3) := dk_167 255 240 (dk_at dksX3_opens_1 13 rfl rfl)
theorem dX3_opens_38 : decode cX3_opens 38 = .ok (.aload_n 0, 1) := dk_42 (dk_at dksX3_opens_1 16 rfl rfl)
theorem dX3_opens_39 : decode cX3_opens 39 = .ok (.iload_n 2, 1) := dk_28 (dk_at dksX3_opens_1 17 rfl rfl)
theorem dX3_opens_40 : decode cX3_opens 40 = .ok (.iconst 0, 1) := dk_3 (dk_at dksX3_opens_1 18 rfl rfl)
theorem dX3_opens_41 : decode cX3_opens 41 = .ok (.iload_n 1, 1) := dk_27 (dk_at dksX3_opens_1 19 rfl rfl)
theorem dX3_opens_42 : decode cX3_opens 42 = .ok (.invokevirtual 114, 3) := dk_182 0 114 (dk_at dksX3_opens_1 20 rfl rfl)
theorem dX3_opens_45 : decode cX3_opens 45 = .ok (.aload_n 0, 1) := dk_42 (dk_at dksX3_opens_1 23 rfl rfl)
theorem dX3_opens_46 : decode cX3_opens 46 = .ok (.iload_n 2, 1) := dk_28 (dk_at dksX3_opens_2 0 rfl rfl)
theorem dX3_opens_47 : decode cX3_opens 47 = .ok (.iconst 5, 1) := dk_8 (dk_at dksX3_opens_2 1 rfl rfl)
theorem dX3_opens_48 : decode cX3_opens 48 = .ok (.bipush (-5), 2) := dk_16 251 (dk_at dksX3_opens_2 2 rfl rfl)
theorem dX3_opens_50 : decode cX3_opens 50 = .ok (.invokevirtual 114, 3) := dk_182 0 114 (dk_at dksX3_opens_2 4 rfl rfl)
theorem dX3_opens_53 : decode cX3_opens 53 = .ok (.aload_n 0, 1) := dk_42 (dk_at dksX3_opens_2 7 rfl rfl)
theorem dX3_opens_54 : decode cX3_opens 54 = .ok (.bipush 7, 2) := dk_16 7 (dk_at dksX3_opens_2 8 rfl rfl)
theorem dX3_opens_56 : decode cX3_opens 56 = .ok (.iconst 1, 1) := dk_4 (dk_at dksX3_opens_2 10 rfl rfl)
theorem dX3_opens_57 : decode cX3_opens 57 = .ok (.invokevirtual 118, 3) := dk_182 0 118 (dk_at dksX3_opens_2 11 rfl rfl)
theorem dX3_opens_60 : decode cX3_opens 60 = .ok (.iload_n 2, 1) := dk_28 (dk_at dksX3_opens_2 14 rfl rfl)
theorem dX3_opens_61 : decode cX3_opens 61 = .ok (.ireturn, 1) := dk_172 (dk_at dksX3_opens_2 15 rfl rfl)
abbrev cX3_lose : ByteArray := prog_11_method_41_code
def yX3_lose : MethodName := ⟨RX3, "lose", "(I)I"⟩
def dkwX3_lose_0 : List UInt8 := [42, 27, 182, 0, 65, 154, 0, 5, 2, 172, 42, 182, 0, 151, 42, 27, 182, 0, 163, 172]
abbrev dktX3_lose_0 : List UInt8 := dkwX3_lose_0 ++ []
theorem dksX3_lose_0 : cX3_lose.data.toList.drop 0 = dktX3_lose_0 := by decide +kernel
theorem dX3_lose_0 : decode cX3_lose 0 = .ok (.aload_n 0, 1) := dk_42 (dk_at dksX3_lose_0 0 rfl rfl)
theorem dX3_lose_1 : decode cX3_lose 1 = .ok (.iload_n 1, 1) := dk_27 (dk_at dksX3_lose_0 1 rfl rfl)
theorem dX3_lose_2 : decode cX3_lose 2 = .ok (.invokevirtual 65, 3) := dk_182 0 65 (dk_at dksX3_lose_0 2 rfl rfl)
theorem dX3_lose_5 : decode cX3_lose 5 = .ok (.ifCond .ne 5, 3) := dk_154 0 5 (dk_at dksX3_lose_0 5 rfl rfl)
theorem dX3_lose_8 : decode cX3_lose 8 = .ok (.iconst (-1), 1) := dk_2 (dk_at dksX3_lose_0 8 rfl rfl)
theorem dX3_lose_9 : decode cX3_lose 9 = .ok (.ireturn, 1) := dk_172 (dk_at dksX3_lose_0 9 rfl rfl)
theorem dX3_lose_10 : decode cX3_lose 10 = .ok (.aload_n 0, 1) := dk_42 (dk_at dksX3_lose_0 10 rfl rfl)
theorem dX3_lose_11 : decode cX3_lose 11 = .ok (.invokevirtual 151, 3) := dk_182 0 151 (dk_at dksX3_lose_0 11 rfl rfl)
theorem dX3_lose_14 : decode cX3_lose 14 = .ok (.aload_n 0, 1) := dk_42 (dk_at dksX3_lose_0 14 rfl rfl)
theorem dX3_lose_15 : decode cX3_lose 15 = .ok (.iload_n 1, 1) := dk_27 (dk_at dksX3_lose_0 15 rfl rfl)
theorem dX3_lose_16 : decode cX3_lose 16 = .ok (.invokevirtual 163, 3) := dk_182 0 163 (dk_at dksX3_lose_0 16 rfl rfl)
theorem dX3_lose_19 : decode cX3_lose 19 = .ok (.ireturn, 1) := dk_172 (dk_at dksX3_lose_0 19 rfl rfl)
abbrev cX3_goesLost : ByteArray := prog_11_method_38_code
def yX3_goesLost : MethodName := ⟨RX3, "goesLost", "(I)I"⟩
def dkwX3_goesLost_0 : List UInt8 := [42, 27, 3, 2, 182, 0, 114, 42, 8, 4, 182, 0, 118, 42, 182, 0, 157, 172]
abbrev dktX3_goesLost_0 : List UInt8 := dkwX3_goesLost_0 ++ []
theorem dksX3_goesLost_0 : cX3_goesLost.data.toList.drop 0 = dktX3_goesLost_0 := by decide +kernel
theorem dX3_goesLost_0 : decode cX3_goesLost 0 = .ok (.aload_n 0, 1) := dk_42 (dk_at dksX3_goesLost_0 0 rfl rfl)
theorem dX3_goesLost_1 : decode cX3_goesLost 1 = .ok (.iload_n 1, 1) := dk_27 (dk_at dksX3_goesLost_0 1 rfl rfl)
theorem dX3_goesLost_2 : decode cX3_goesLost 2 = .ok (.iconst 0, 1) := dk_3 (dk_at dksX3_goesLost_0 2 rfl rfl)
theorem dX3_goesLost_3 : decode cX3_goesLost 3 = .ok (.iconst (-1), 1) := dk_2 (dk_at dksX3_goesLost_0 3 rfl rfl)
theorem dX3_goesLost_4 : decode cX3_goesLost 4 = .ok (.invokevirtual 114, 3) := dk_182 0 114 (dk_at dksX3_goesLost_0 4 rfl rfl)
theorem dX3_goesLost_7 : decode cX3_goesLost 7 = .ok (.aload_n 0, 1) := dk_42 (dk_at dksX3_goesLost_0 7 rfl rfl)
theorem dX3_goesLost_8 : decode cX3_goesLost 8 = .ok (.iconst 5, 1) := dk_8 (dk_at dksX3_goesLost_0 8 rfl rfl)
theorem dX3_goesLost_9 : decode cX3_goesLost 9 = .ok (.iconst 1, 1) := dk_4 (dk_at dksX3_goesLost_0 9 rfl rfl)
theorem dX3_goesLost_10 : decode cX3_goesLost 10 = .ok (.invokevirtual 118, 3) := dk_182 0 118 (dk_at dksX3_goesLost_0 10 rfl rfl)
theorem dX3_goesLost_13 : decode cX3_goesLost 13 = .ok (.aload_n 0, 1) := dk_42 (dk_at dksX3_goesLost_0 13 rfl rfl)
theorem dX3_goesLost_14 : decode cX3_goesLost 14 = .ok (.invokevirtual 157, 3) := dk_182 0 157 (dk_at dksX3_goesLost_0 14 rfl rfl)
theorem dX3_goesLost_17 : decode cX3_goesLost 17 = .ok (.ireturn, 1) := dk_172 (dk_at dksX3_goesLost_0 17 rfl rfl)
abbrev cX3_members : ByteArray := prog_11_method_10_code
def yX3_members : MethodName := ⟨RX3, "members", "()I"⟩
def dkwX3_members_1 : List UInt8 := [96, 60, 132, 2, 1, 167, 255, 231, 27, 172]
abbrev dktX3_members_1 : List UInt8 := dkwX3_members_1 ++ []
def dkwX3_members_0 : List UInt8 := [3, 60, 3, 61, 28, 16, 10, 162, 0, 25, 27, 42, 28, 182, 0, 65, 153, 0, 7, 4, 167, 0, 4, 3]
abbrev dktX3_members_0 : List UInt8 := dkwX3_members_0 ++ dktX3_members_1
theorem dksX3_members_0 : cX3_members.data.toList.drop 0 = dktX3_members_0 := by decide +kernel
theorem dksX3_members_1 : cX3_members.data.toList.drop 24 = dktX3_members_1 := dk_seg dksX3_members_0 24 rfl rfl
theorem dX3_members_0 : decode cX3_members 0 = .ok (.iconst 0, 1) := dk_3 (dk_at dksX3_members_0 0 rfl rfl)
theorem dX3_members_1 : decode cX3_members 1 = .ok (.istore_n 1, 1) := dk_60 (dk_at dksX3_members_0 1 rfl rfl)
theorem dX3_members_2 : decode cX3_members 2 = .ok (.iconst 0, 1) := dk_3 (dk_at dksX3_members_0 2 rfl rfl)
theorem dX3_members_3 : decode cX3_members 3 = .ok (.istore_n 2, 1) := dk_61 (dk_at dksX3_members_0 3 rfl rfl)
theorem dX3_members_4 : decode cX3_members 4 = .ok (.iload_n 2, 1) := dk_28 (dk_at dksX3_members_0 4 rfl rfl)
theorem dX3_members_5 : decode cX3_members 5 = .ok (.bipush 10, 2) := dk_16 10 (dk_at dksX3_members_0 5 rfl rfl)
theorem dX3_members_7 : decode cX3_members 7 = .ok (.if_icmp .ge 25, 3) := dk_162 0 25 (dk_at dksX3_members_0 7 rfl rfl)
theorem dX3_members_10 : decode cX3_members 10 = .ok (.iload_n 1, 1) := dk_27 (dk_at dksX3_members_0 10 rfl rfl)
theorem dX3_members_11 : decode cX3_members 11 = .ok (.aload_n 0, 1) := dk_42 (dk_at dksX3_members_0 11 rfl rfl)
theorem dX3_members_12 : decode cX3_members 12 = .ok (.iload_n 2, 1) := dk_28 (dk_at dksX3_members_0 12 rfl rfl)
theorem dX3_members_13 : decode cX3_members 13 = .ok (.invokevirtual 65, 3) := dk_182 0 65 (dk_at dksX3_members_0 13 rfl rfl)
theorem dX3_members_16 : decode cX3_members 16 = .ok (.ifCond .eq 7, 3) := dk_153 0 7 (dk_at dksX3_members_0 16 rfl rfl)
theorem dX3_members_19 : decode cX3_members 19 = .ok (.iconst 1, 1) := dk_4 (dk_at dksX3_members_0 19 rfl rfl)
theorem dX3_members_20 : decode cX3_members 20 = .ok (.goto 4, 3) := dk_167 0 4 (dk_at dksX3_members_0 20 rfl rfl)
theorem dX3_members_23 : decode cX3_members 23 = .ok (.iconst 0, 1) := dk_3 (dk_at dksX3_members_0 23 rfl rfl)
theorem dX3_members_24 : decode cX3_members 24 = .ok (.iadd, 1) := dk_96 (dk_at dksX3_members_1 0 rfl rfl)
theorem dX3_members_25 : decode cX3_members 25 = .ok (.istore_n 1, 1) := dk_60 (dk_at dksX3_members_1 1 rfl rfl)
theorem dX3_members_26 : decode cX3_members 26 = .ok (.iinc 2 1, 3) := dk_132 2 1 (dk_at dksX3_members_1 2 rfl rfl)
theorem dX3_members_29 : decode cX3_members 29 = .ok (.goto (-25), 3) := dk_167 255 231 (dk_at dksX3_members_1 5 rfl rfl)
theorem dX3_members_32 : decode cX3_members 32 = .ok (.iload_n 1, 1) := dk_27 (dk_at dksX3_members_1 8 rfl rfl)
theorem dX3_members_33 : decode cX3_members 33 = .ok (.ireturn, 1) := dk_172 (dk_at dksX3_members_1 9 rfl rfl)
abbrev cX3_lead : ByteArray := prog_11_method_42_code
def yX3_lead : MethodName := ⟨RX3, "lead", "(I)I"⟩
def dkwX3_lead_1 : List UInt8 := [27, 79, 28, 172]
abbrev dktX3_lead_1 : List UInt8 := dkwX3_lead_1 ++ []
def dkwX3_lead_0 : List UInt8 := [42, 27, 182, 0, 65, 154, 0, 5, 2, 172, 42, 182, 0, 151, 42, 182, 0, 85, 61, 42, 180, 0, 9, 4]
abbrev dktX3_lead_0 : List UInt8 := dkwX3_lead_0 ++ dktX3_lead_1
theorem dksX3_lead_0 : cX3_lead.data.toList.drop 0 = dktX3_lead_0 := by decide +kernel
theorem dksX3_lead_1 : cX3_lead.data.toList.drop 24 = dktX3_lead_1 := dk_seg dksX3_lead_0 24 rfl rfl
theorem dX3_lead_0 : decode cX3_lead 0 = .ok (.aload_n 0, 1) := dk_42 (dk_at dksX3_lead_0 0 rfl rfl)
theorem dX3_lead_1 : decode cX3_lead 1 = .ok (.iload_n 1, 1) := dk_27 (dk_at dksX3_lead_0 1 rfl rfl)
theorem dX3_lead_2 : decode cX3_lead 2 = .ok (.invokevirtual 65, 3) := dk_182 0 65 (dk_at dksX3_lead_0 2 rfl rfl)
theorem dX3_lead_5 : decode cX3_lead 5 = .ok (.ifCond .ne 5, 3) := dk_154 0 5 (dk_at dksX3_lead_0 5 rfl rfl)
theorem dX3_lead_8 : decode cX3_lead 8 = .ok (.iconst (-1), 1) := dk_2 (dk_at dksX3_lead_0 8 rfl rfl)
theorem dX3_lead_9 : decode cX3_lead 9 = .ok (.ireturn, 1) := dk_172 (dk_at dksX3_lead_0 9 rfl rfl)
theorem dX3_lead_10 : decode cX3_lead 10 = .ok (.aload_n 0, 1) := dk_42 (dk_at dksX3_lead_0 10 rfl rfl)
theorem dX3_lead_11 : decode cX3_lead 11 = .ok (.invokevirtual 151, 3) := dk_182 0 151 (dk_at dksX3_lead_0 11 rfl rfl)
theorem dX3_lead_14 : decode cX3_lead 14 = .ok (.aload_n 0, 1) := dk_42 (dk_at dksX3_lead_0 14 rfl rfl)
theorem dX3_lead_15 : decode cX3_lead 15 = .ok (.invokevirtual 85, 3) := dk_182 0 85 (dk_at dksX3_lead_0 15 rfl rfl)
theorem dX3_lead_18 : decode cX3_lead 18 = .ok (.istore_n 2, 1) := dk_61 (dk_at dksX3_lead_0 18 rfl rfl)
theorem dX3_lead_19 : decode cX3_lead 19 = .ok (.aload_n 0, 1) := dk_42 (dk_at dksX3_lead_0 19 rfl rfl)
theorem dX3_lead_20 : decode cX3_lead 20 = .ok (.getfield 9, 3) := dk_180 0 9 (dk_at dksX3_lead_0 20 rfl rfl)
theorem dX3_lead_23 : decode cX3_lead 23 = .ok (.iconst 1, 1) := dk_4 (dk_at dksX3_lead_0 23 rfl rfl)
theorem dX3_lead_24 : decode cX3_lead 24 = .ok (.iload_n 1, 1) := dk_27 (dk_at dksX3_lead_1 0 rfl rfl)
theorem dX3_lead_25 : decode cX3_lead 25 = .ok (.iastore, 1) := dk_79 (dk_at dksX3_lead_1 1 rfl rfl)
theorem dX3_lead_26 : decode cX3_lead 26 = .ok (.iload_n 2, 1) := dk_28 (dk_at dksX3_lead_1 2 rfl rfl)
theorem dX3_lead_27 : decode cX3_lead 27 = .ok (.ireturn, 1) := dk_172 (dk_at dksX3_lead_1 3 rfl rfl)
abbrev cX3_target : ByteArray := prog_11_method_43_code
def yX3_target : MethodName := ⟨RX3, "target", "(I)I"⟩
def dkwX3_target_1 : List UInt8 := [42, 180, 0, 9, 5, 27, 79, 28, 156, 0, 8, 16, 251, 167, 0, 4, 28, 172]
abbrev dktX3_target_1 : List UInt8 := dkwX3_target_1 ++ []
def dkwX3_target_0 : List UInt8 := [27, 2, 16, 119, 184, 0, 57, 154, 0, 6, 16, 254, 172, 42, 182, 0, 151, 42, 180, 0, 9, 5, 46, 61]
abbrev dktX3_target_0 : List UInt8 := dkwX3_target_0 ++ dktX3_target_1
theorem dksX3_target_0 : cX3_target.data.toList.drop 0 = dktX3_target_0 := by decide +kernel
theorem dksX3_target_1 : cX3_target.data.toList.drop 24 = dktX3_target_1 := dk_seg dksX3_target_0 24 rfl rfl
theorem dX3_target_0 : decode cX3_target 0 = .ok (.iload_n 1, 1) := dk_27 (dk_at dksX3_target_0 0 rfl rfl)
theorem dX3_target_1 : decode cX3_target 1 = .ok (.iconst (-1), 1) := dk_2 (dk_at dksX3_target_0 1 rfl rfl)
theorem dX3_target_2 : decode cX3_target 2 = .ok (.bipush 119, 2) := dk_16 119 (dk_at dksX3_target_0 2 rfl rfl)
theorem dX3_target_4 : decode cX3_target 4 = .ok (.invokestatic 57, 3) := dk_184 0 57 (dk_at dksX3_target_0 4 rfl rfl)
theorem dX3_target_7 : decode cX3_target 7 = .ok (.ifCond .ne 6, 3) := dk_154 0 6 (dk_at dksX3_target_0 7 rfl rfl)
theorem dX3_target_10 : decode cX3_target 10 = .ok (.bipush (-2), 2) := dk_16 254 (dk_at dksX3_target_0 10 rfl rfl)
theorem dX3_target_12 : decode cX3_target 12 = .ok (.ireturn, 1) := dk_172 (dk_at dksX3_target_0 12 rfl rfl)
theorem dX3_target_13 : decode cX3_target 13 = .ok (.aload_n 0, 1) := dk_42 (dk_at dksX3_target_0 13 rfl rfl)
theorem dX3_target_14 : decode cX3_target 14 = .ok (.invokevirtual 151, 3) := dk_182 0 151 (dk_at dksX3_target_0 14 rfl rfl)
theorem dX3_target_17 : decode cX3_target 17 = .ok (.aload_n 0, 1) := dk_42 (dk_at dksX3_target_0 17 rfl rfl)
theorem dX3_target_18 : decode cX3_target 18 = .ok (.getfield 9, 3) := dk_180 0 9 (dk_at dksX3_target_0 18 rfl rfl)
theorem dX3_target_21 : decode cX3_target 21 = .ok (.iconst 2, 1) := dk_5 (dk_at dksX3_target_0 21 rfl rfl)
theorem dX3_target_22 : decode cX3_target 22 = .ok (.iaload, 1) := dk_46 (dk_at dksX3_target_0 22 rfl rfl)
theorem dX3_target_23 : decode cX3_target 23 = .ok (.istore_n 2, 1) := dk_61 (dk_at dksX3_target_0 23 rfl rfl)
theorem dX3_target_24 : decode cX3_target 24 = .ok (.aload_n 0, 1) := dk_42 (dk_at dksX3_target_1 0 rfl rfl)
theorem dX3_target_25 : decode cX3_target 25 = .ok (.getfield 9, 3) := dk_180 0 9 (dk_at dksX3_target_1 1 rfl rfl)
theorem dX3_target_28 : decode cX3_target 28 = .ok (.iconst 2, 1) := dk_5 (dk_at dksX3_target_1 4 rfl rfl)
theorem dX3_target_29 : decode cX3_target 29 = .ok (.iload_n 1, 1) := dk_27 (dk_at dksX3_target_1 5 rfl rfl)
theorem dX3_target_30 : decode cX3_target 30 = .ok (.iastore, 1) := dk_79 (dk_at dksX3_target_1 6 rfl rfl)
theorem dX3_target_31 : decode cX3_target 31 = .ok (.iload_n 2, 1) := dk_28 (dk_at dksX3_target_1 7 rfl rfl)
theorem dX3_target_32 : decode cX3_target 32 = .ok (.ifCond .ge 8, 3) := dk_156 0 8 (dk_at dksX3_target_1 8 rfl rfl)
theorem dX3_target_35 : decode cX3_target 35 = .ok (.bipush (-5), 2) := dk_16 251 (dk_at dksX3_target_1 11 rfl rfl)
theorem dX3_target_37 : decode cX3_target 37 = .ok (.goto 4, 3) := dk_167 0 4 (dk_at dksX3_target_1 13 rfl rfl)
theorem dX3_target_40 : decode cX3_target 40 = .ok (.iload_n 2, 1) := dk_28 (dk_at dksX3_target_1 16 rfl rfl)
theorem dX3_target_41 : decode cX3_target 41 = .ok (.ireturn, 1) := dk_172 (dk_at dksX3_target_1 17 rfl rfl)
abbrev cX3_obstacle : ByteArray := prog_11_method_44_code
def yX3_obstacle : MethodName := ⟨RX3, "obstacle", "(I)I"⟩
def dkwX3_obstacle_1 : List UInt8 := [42, 27, 182, 0, 169, 172]
abbrev dktX3_obstacle_1 : List UInt8 := dkwX3_obstacle_1 ++ []
def dkwX3_obstacle_0 : List UInt8 := [27, 184, 0, 166, 154, 0, 5, 2, 172, 42, 27, 182, 0, 121, 155, 0, 6, 16, 253, 172, 42, 182, 0, 151]
abbrev dktX3_obstacle_0 : List UInt8 := dkwX3_obstacle_0 ++ dktX3_obstacle_1
theorem dksX3_obstacle_0 : cX3_obstacle.data.toList.drop 0 = dktX3_obstacle_0 := by decide +kernel
theorem dksX3_obstacle_1 : cX3_obstacle.data.toList.drop 24 = dktX3_obstacle_1 := dk_seg dksX3_obstacle_0 24 rfl rfl
theorem dX3_obstacle_0 : decode cX3_obstacle 0 = .ok (.iload_n 1, 1) := dk_27 (dk_at dksX3_obstacle_0 0 rfl rfl)
theorem dX3_obstacle_1 : decode cX3_obstacle 1 = .ok (.invokestatic 166, 3) := dk_184 0 166 (dk_at dksX3_obstacle_0 1 rfl rfl)
theorem dX3_obstacle_4 : decode cX3_obstacle 4 = .ok (.ifCond .ne 5, 3) := dk_154 0 5 (dk_at dksX3_obstacle_0 4 rfl rfl)
theorem dX3_obstacle_7 : decode cX3_obstacle 7 = .ok (.iconst (-1), 1) := dk_2 (dk_at dksX3_obstacle_0 7 rfl rfl)
theorem dX3_obstacle_8 : decode cX3_obstacle 8 = .ok (.ireturn, 1) := dk_172 (dk_at dksX3_obstacle_0 8 rfl rfl)
theorem dX3_obstacle_9 : decode cX3_obstacle 9 = .ok (.aload_n 0, 1) := dk_42 (dk_at dksX3_obstacle_0 9 rfl rfl)
theorem dX3_obstacle_10 : decode cX3_obstacle 10 = .ok (.iload_n 1, 1) := dk_27 (dk_at dksX3_obstacle_0 10 rfl rfl)
theorem dX3_obstacle_11 : decode cX3_obstacle 11 = .ok (.invokevirtual 121, 3) := dk_182 0 121 (dk_at dksX3_obstacle_0 11 rfl rfl)
theorem dX3_obstacle_14 : decode cX3_obstacle 14 = .ok (.ifCond .lt 6, 3) := dk_155 0 6 (dk_at dksX3_obstacle_0 14 rfl rfl)
theorem dX3_obstacle_17 : decode cX3_obstacle 17 = .ok (.bipush (-3), 2) := dk_16 253 (dk_at dksX3_obstacle_0 17 rfl rfl)
theorem dX3_obstacle_19 : decode cX3_obstacle 19 = .ok (.ireturn, 1) := dk_172 (dk_at dksX3_obstacle_0 19 rfl rfl)
theorem dX3_obstacle_20 : decode cX3_obstacle 20 = .ok (.aload_n 0, 1) := dk_42 (dk_at dksX3_obstacle_0 20 rfl rfl)
theorem dX3_obstacle_21 : decode cX3_obstacle 21 = .ok (.invokevirtual 151, 3) := dk_182 0 151 (dk_at dksX3_obstacle_0 21 rfl rfl)
theorem dX3_obstacle_24 : decode cX3_obstacle 24 = .ok (.aload_n 0, 1) := dk_42 (dk_at dksX3_obstacle_1 0 rfl rfl)
theorem dX3_obstacle_25 : decode cX3_obstacle 25 = .ok (.iload_n 1, 1) := dk_27 (dk_at dksX3_obstacle_1 1 rfl rfl)
theorem dX3_obstacle_26 : decode cX3_obstacle 26 = .ok (.invokevirtual 169, 3) := dk_182 0 169 (dk_at dksX3_obstacle_1 2 rfl rfl)
theorem dX3_obstacle_29 : decode cX3_obstacle 29 = .ok (.ireturn, 1) := dk_172 (dk_at dksX3_obstacle_1 5 rfl rfl)
abbrev cX3_isCell : ByteArray := prog_11_method_8_code
def yX3_isCell : MethodName := ⟨RX3, "isCell", "(I)Z"⟩
def dkwX3_isCell_0 : List UInt8 := [26, 3, 16, 119, 184, 0, 57, 172]
abbrev dktX3_isCell_0 : List UInt8 := dkwX3_isCell_0 ++ []
theorem dksX3_isCell_0 : cX3_isCell.data.toList.drop 0 = dktX3_isCell_0 := by decide +kernel
theorem dX3_isCell_0 : decode cX3_isCell 0 = .ok (.iload_n 0, 1) := dk_26 (dk_at dksX3_isCell_0 0 rfl rfl)
theorem dX3_isCell_1 : decode cX3_isCell 1 = .ok (.iconst 0, 1) := dk_3 (dk_at dksX3_isCell_0 1 rfl rfl)
theorem dX3_isCell_2 : decode cX3_isCell 2 = .ok (.bipush 119, 2) := dk_16 119 (dk_at dksX3_isCell_0 2 rfl rfl)
theorem dX3_isCell_4 : decode cX3_isCell 4 = .ok (.invokestatic 57, 3) := dk_184 0 57 (dk_at dksX3_isCell_0 4 rfl rfl)
theorem dX3_isCell_7 : decode cX3_isCell 7 = .ok (.ireturn, 1) := dk_172 (dk_at dksX3_isCell_0 7 rfl rfl)
abbrev cX3_turnsBlocked : ByteArray := prog_11_method_39_code
def yX3_turnsBlocked : MethodName := ⟨RX3, "turnsBlocked", "(I)I"⟩
def dkwX3_turnsBlocked_1 : List UInt8 := [16, 72, 27, 96, 46, 172]
abbrev dktX3_turnsBlocked_1 : List UInt8 := dkwX3_turnsBlocked_1 ++ []
def dkwX3_turnsBlocked_0 : List UInt8 := [42, 180, 0, 9, 16, 72, 27, 96, 4, 42, 180, 0, 9, 16, 72, 27, 96, 46, 100, 79, 42, 180, 0, 9]
abbrev dktX3_turnsBlocked_0 : List UInt8 := dkwX3_turnsBlocked_0 ++ dktX3_turnsBlocked_1
theorem dksX3_turnsBlocked_0 : cX3_turnsBlocked.data.toList.drop 0 = dktX3_turnsBlocked_0 := by decide +kernel
theorem dksX3_turnsBlocked_1 : cX3_turnsBlocked.data.toList.drop 24 = dktX3_turnsBlocked_1 := dk_seg dksX3_turnsBlocked_0 24 rfl rfl
theorem dX3_turnsBlocked_0 : decode cX3_turnsBlocked 0 = .ok (.aload_n 0, 1) := dk_42 (dk_at dksX3_turnsBlocked_0 0 rfl rfl)
theorem dX3_turnsBlocked_1 : decode cX3_turnsBlocked 1 = .ok (.getfield 9, 3) := dk_180 0 9 (dk_at dksX3_turnsBlocked_0 1 rfl rfl)
theorem dX3_turnsBlocked_4 : decode cX3_turnsBlocked 4 = .ok (.bipush 72, 2) := dk_16 72 (dk_at dksX3_turnsBlocked_0 4 rfl rfl)
theorem dX3_turnsBlocked_6 : decode cX3_turnsBlocked 6 = .ok (.iload_n 1, 1) := dk_27 (dk_at dksX3_turnsBlocked_0 6 rfl rfl)
theorem dX3_turnsBlocked_7 : decode cX3_turnsBlocked 7 = .ok (.iadd, 1) := dk_96 (dk_at dksX3_turnsBlocked_0 7 rfl rfl)
theorem dX3_turnsBlocked_8 : decode cX3_turnsBlocked 8 = .ok (.iconst 1, 1) := dk_4 (dk_at dksX3_turnsBlocked_0 8 rfl rfl)
theorem dX3_turnsBlocked_9 : decode cX3_turnsBlocked 9 = .ok (.aload_n 0, 1) := dk_42 (dk_at dksX3_turnsBlocked_0 9 rfl rfl)
theorem dX3_turnsBlocked_10 : decode cX3_turnsBlocked 10 = .ok (.getfield 9, 3) := dk_180 0 9 (dk_at dksX3_turnsBlocked_0 10 rfl rfl)
theorem dX3_turnsBlocked_13 : decode cX3_turnsBlocked 13 = .ok (.bipush 72, 2) := dk_16 72 (dk_at dksX3_turnsBlocked_0 13 rfl rfl)
theorem dX3_turnsBlocked_15 : decode cX3_turnsBlocked 15 = .ok (.iload_n 1, 1) := dk_27 (dk_at dksX3_turnsBlocked_0 15 rfl rfl)
theorem dX3_turnsBlocked_16 : decode cX3_turnsBlocked 16 = .ok (.iadd, 1) := dk_96 (dk_at dksX3_turnsBlocked_0 16 rfl rfl)
theorem dX3_turnsBlocked_17 : decode cX3_turnsBlocked 17 = .ok (.iaload, 1) := dk_46 (dk_at dksX3_turnsBlocked_0 17 rfl rfl)
theorem dX3_turnsBlocked_18 : decode cX3_turnsBlocked 18 = .ok (.isub, 1) := dk_100 (dk_at dksX3_turnsBlocked_0 18 rfl rfl)
theorem dX3_turnsBlocked_19 : decode cX3_turnsBlocked 19 = .ok (.iastore, 1) := dk_79 (dk_at dksX3_turnsBlocked_0 19 rfl rfl)
theorem dX3_turnsBlocked_20 : decode cX3_turnsBlocked 20 = .ok (.aload_n 0, 1) := dk_42 (dk_at dksX3_turnsBlocked_0 20 rfl rfl)
theorem dX3_turnsBlocked_21 : decode cX3_turnsBlocked 21 = .ok (.getfield 9, 3) := dk_180 0 9 (dk_at dksX3_turnsBlocked_0 21 rfl rfl)
theorem dX3_turnsBlocked_24 : decode cX3_turnsBlocked 24 = .ok (.bipush 72, 2) := dk_16 72 (dk_at dksX3_turnsBlocked_1 0 rfl rfl)
theorem dX3_turnsBlocked_26 : decode cX3_turnsBlocked 26 = .ok (.iload_n 1, 1) := dk_27 (dk_at dksX3_turnsBlocked_1 2 rfl rfl)
theorem dX3_turnsBlocked_27 : decode cX3_turnsBlocked 27 = .ok (.iadd, 1) := dk_96 (dk_at dksX3_turnsBlocked_1 3 rfl rfl)
theorem dX3_turnsBlocked_28 : decode cX3_turnsBlocked 28 = .ok (.iaload, 1) := dk_46 (dk_at dksX3_turnsBlocked_1 4 rfl rfl)
theorem dX3_turnsBlocked_29 : decode cX3_turnsBlocked 29 = .ok (.ireturn, 1) := dk_172 (dk_at dksX3_turnsBlocked_1 5 rfl rfl)
abbrev cX3_feed : ByteArray := prog_11_method_45_code
def yX3_feed : MethodName := ⟨RX3, "feed", "(IIIIII)I"⟩
def dkwX3_feed_6 : List UInt8 := [89, 180, 0, 172, 4, 96, 181, 0, 172, 132, 7, 1, 167, 255, 185, 42, 180, 0, 172, 172]
abbrev dktX3_feed_6 : List UInt8 := dkwX3_feed_6 ++ []
def dkwX3_feed_5 : List UInt8 := [5, 160, 0, 8, 21, 4, 167, 0, 16, 21, 7, 6, 160, 0, 8, 21, 5, 167, 0, 5, 21, 6, 79, 42]
abbrev dktX3_feed_5 : List UInt8 := dkwX3_feed_5 ++ dktX3_feed_6
def dkwX3_feed_4 : List UInt8 := [180, 0, 172, 21, 7, 154, 0, 7, 28, 167, 0, 37, 21, 7, 4, 160, 0, 7, 29, 167, 0, 27, 21, 7]
abbrev dktX3_feed_4 : List UInt8 := dkwX3_feed_4 ++ dktX3_feed_5
def dkwX3_feed_3 : List UInt8 := [27, 96, 16, 60, 164, 0, 6, 16, 252, 172, 3, 54, 7, 21, 7, 27, 162, 0, 71, 42, 180, 0, 40, 42]
abbrev dktX3_feed_3 : List UInt8 := dkwX3_feed_3 ++ dktX3_feed_4
def dkwX3_feed_2 : List UInt8 := [184, 0, 57, 153, 0, 14, 21, 6, 3, 16, 127, 184, 0, 57, 154, 0, 6, 16, 254, 172, 42, 180, 0, 172]
abbrev dktX3_feed_2 : List UInt8 := dkwX3_feed_2 ++ dktX3_feed_3
def dkwX3_feed_1 : List UInt8 := [184, 0, 57, 153, 0, 36, 21, 4, 3, 16, 127, 184, 0, 57, 153, 0, 25, 21, 5, 3, 16, 127]
abbrev dktX3_feed_1 : List UInt8 := dkwX3_feed_1 ++ dktX3_feed_2
def dkwX3_feed_0 : List UInt8 := [27, 4, 8, 184, 0, 57, 153, 0, 56, 28, 3, 16, 127, 184, 0, 57, 153, 0, 46, 29, 3, 16, 127]
abbrev dktX3_feed_0 : List UInt8 := dkwX3_feed_0 ++ dktX3_feed_1
theorem dksX3_feed_0 : cX3_feed.data.toList.drop 0 = dktX3_feed_0 := by decide +kernel
theorem dksX3_feed_1 : cX3_feed.data.toList.drop 23 = dktX3_feed_1 := dk_seg dksX3_feed_0 23 rfl rfl
theorem dksX3_feed_2 : cX3_feed.data.toList.drop 45 = dktX3_feed_2 := dk_seg dksX3_feed_1 22 rfl rfl
theorem dksX3_feed_3 : cX3_feed.data.toList.drop 69 = dktX3_feed_3 := dk_seg dksX3_feed_2 24 rfl rfl
theorem dksX3_feed_4 : cX3_feed.data.toList.drop 93 = dktX3_feed_4 := dk_seg dksX3_feed_3 24 rfl rfl
theorem dksX3_feed_5 : cX3_feed.data.toList.drop 117 = dktX3_feed_5 := dk_seg dksX3_feed_4 24 rfl rfl
theorem dksX3_feed_6 : cX3_feed.data.toList.drop 141 = dktX3_feed_6 := dk_seg dksX3_feed_5 24 rfl rfl
theorem dX3_feed_0 : decode cX3_feed 0 = .ok (.iload_n 1, 1) := dk_27 (dk_at dksX3_feed_0 0 rfl rfl)
theorem dX3_feed_1 : decode cX3_feed 1 = .ok (.iconst 1, 1) := dk_4 (dk_at dksX3_feed_0 1 rfl rfl)
theorem dX3_feed_2 : decode cX3_feed 2 = .ok (.iconst 5, 1) := dk_8 (dk_at dksX3_feed_0 2 rfl rfl)
theorem dX3_feed_3 : decode cX3_feed 3 = .ok (.invokestatic 57, 3) := dk_184 0 57 (dk_at dksX3_feed_0 3 rfl rfl)
theorem dX3_feed_6 : decode cX3_feed 6 = .ok (.ifCond .eq 56, 3) := dk_153 0 56 (dk_at dksX3_feed_0 6 rfl rfl)
theorem dX3_feed_9 : decode cX3_feed 9 = .ok (.iload_n 2, 1) := dk_28 (dk_at dksX3_feed_0 9 rfl rfl)
theorem dX3_feed_10 : decode cX3_feed 10 = .ok (.iconst 0, 1) := dk_3 (dk_at dksX3_feed_0 10 rfl rfl)
theorem dX3_feed_11 : decode cX3_feed 11 = .ok (.bipush 127, 2) := dk_16 127 (dk_at dksX3_feed_0 11 rfl rfl)
theorem dX3_feed_13 : decode cX3_feed 13 = .ok (.invokestatic 57, 3) := dk_184 0 57 (dk_at dksX3_feed_0 13 rfl rfl)
theorem dX3_feed_16 : decode cX3_feed 16 = .ok (.ifCond .eq 46, 3) := dk_153 0 46 (dk_at dksX3_feed_0 16 rfl rfl)
theorem dX3_feed_19 : decode cX3_feed 19 = .ok (.iload_n 3, 1) := dk_29 (dk_at dksX3_feed_0 19 rfl rfl)
theorem dX3_feed_20 : decode cX3_feed 20 = .ok (.iconst 0, 1) := dk_3 (dk_at dksX3_feed_0 20 rfl rfl)
theorem dX3_feed_21 : decode cX3_feed 21 = .ok (.bipush 127, 2) := dk_16 127 (dk_at dksX3_feed_0 21 rfl rfl)
theorem dX3_feed_23 : decode cX3_feed 23 = .ok (.invokestatic 57, 3) := dk_184 0 57 (dk_at dksX3_feed_1 0 rfl rfl)
theorem dX3_feed_26 : decode cX3_feed 26 = .ok (.ifCond .eq 36, 3) := dk_153 0 36 (dk_at dksX3_feed_1 3 rfl rfl)
theorem dX3_feed_29 : decode cX3_feed 29 = .ok (.iload 4, 2) := dk_21 4 (dk_at dksX3_feed_1 6 rfl rfl)
theorem dX3_feed_31 : decode cX3_feed 31 = .ok (.iconst 0, 1) := dk_3 (dk_at dksX3_feed_1 8 rfl rfl)
theorem dX3_feed_32 : decode cX3_feed 32 = .ok (.bipush 127, 2) := dk_16 127 (dk_at dksX3_feed_1 9 rfl rfl)
theorem dX3_feed_34 : decode cX3_feed 34 = .ok (.invokestatic 57, 3) := dk_184 0 57 (dk_at dksX3_feed_1 11 rfl rfl)
theorem dX3_feed_37 : decode cX3_feed 37 = .ok (.ifCond .eq 25, 3) := dk_153 0 25 (dk_at dksX3_feed_1 14 rfl rfl)
theorem dX3_feed_40 : decode cX3_feed 40 = .ok (.iload 5, 2) := dk_21 5 (dk_at dksX3_feed_1 17 rfl rfl)
theorem dX3_feed_42 : decode cX3_feed 42 = .ok (.iconst 0, 1) := dk_3 (dk_at dksX3_feed_1 19 rfl rfl)
theorem dX3_feed_43 : decode cX3_feed 43 = .ok (.bipush 127, 2) := dk_16 127 (dk_at dksX3_feed_1 20 rfl rfl)
theorem dX3_feed_45 : decode cX3_feed 45 = .ok (.invokestatic 57, 3) := dk_184 0 57 (dk_at dksX3_feed_2 0 rfl rfl)
theorem dX3_feed_48 : decode cX3_feed 48 = .ok (.ifCond .eq 14, 3) := dk_153 0 14 (dk_at dksX3_feed_2 3 rfl rfl)
theorem dX3_feed_51 : decode cX3_feed 51 = .ok (.iload 6, 2) := dk_21 6 (dk_at dksX3_feed_2 6 rfl rfl)
theorem dX3_feed_53 : decode cX3_feed 53 = .ok (.iconst 0, 1) := dk_3 (dk_at dksX3_feed_2 8 rfl rfl)
theorem dX3_feed_54 : decode cX3_feed 54 = .ok (.bipush 127, 2) := dk_16 127 (dk_at dksX3_feed_2 9 rfl rfl)
theorem dX3_feed_56 : decode cX3_feed 56 = .ok (.invokestatic 57, 3) := dk_184 0 57 (dk_at dksX3_feed_2 11 rfl rfl)
theorem dX3_feed_59 : decode cX3_feed 59 = .ok (.ifCond .ne 6, 3) := dk_154 0 6 (dk_at dksX3_feed_2 14 rfl rfl)
theorem dX3_feed_62 : decode cX3_feed 62 = .ok (.bipush (-2), 2) := dk_16 254 (dk_at dksX3_feed_2 17 rfl rfl)
theorem dX3_feed_64 : decode cX3_feed 64 = .ok (.ireturn, 1) := dk_172 (dk_at dksX3_feed_2 19 rfl rfl)
theorem dX3_feed_65 : decode cX3_feed 65 = .ok (.aload_n 0, 1) := dk_42 (dk_at dksX3_feed_2 20 rfl rfl)
theorem dX3_feed_66 : decode cX3_feed 66 = .ok (.getfield 172, 3) := dk_180 0 172 (dk_at dksX3_feed_2 21 rfl rfl)
theorem dX3_feed_69 : decode cX3_feed 69 = .ok (.iload_n 1, 1) := dk_27 (dk_at dksX3_feed_3 0 rfl rfl)
theorem dX3_feed_70 : decode cX3_feed 70 = .ok (.iadd, 1) := dk_96 (dk_at dksX3_feed_3 1 rfl rfl)
theorem dX3_feed_71 : decode cX3_feed 71 = .ok (.bipush 60, 2) := dk_16 60 (dk_at dksX3_feed_3 2 rfl rfl)
theorem dX3_feed_73 : decode cX3_feed 73 = .ok (.if_icmp .le 6, 3) := dk_164 0 6 (dk_at dksX3_feed_3 4 rfl rfl)
theorem dX3_feed_76 : decode cX3_feed 76 = .ok (.bipush (-4), 2) := dk_16 252 (dk_at dksX3_feed_3 7 rfl rfl)
theorem dX3_feed_78 : decode cX3_feed 78 = .ok (.ireturn, 1) := dk_172 (dk_at dksX3_feed_3 9 rfl rfl)
theorem dX3_feed_79 : decode cX3_feed 79 = .ok (.iconst 0, 1) := dk_3 (dk_at dksX3_feed_3 10 rfl rfl)
theorem dX3_feed_80 : decode cX3_feed 80 = .ok (.istore 7, 2) := dk_54 7 (dk_at dksX3_feed_3 11 rfl rfl)
theorem dX3_feed_82 : decode cX3_feed 82 = .ok (.iload 7, 2) := dk_21 7 (dk_at dksX3_feed_3 13 rfl rfl)
theorem dX3_feed_84 : decode cX3_feed 84 = .ok (.iload_n 1, 1) := dk_27 (dk_at dksX3_feed_3 15 rfl rfl)
theorem dX3_feed_85 : decode cX3_feed 85 = .ok (.if_icmp .ge 71, 3) := dk_162 0 71 (dk_at dksX3_feed_3 16 rfl rfl)
theorem dX3_feed_88 : decode cX3_feed 88 = .ok (.aload_n 0, 1) := dk_42 (dk_at dksX3_feed_3 19 rfl rfl)
theorem dX3_feed_89 : decode cX3_feed 89 = .ok (.getfield 40, 3) := dk_180 0 40 (dk_at dksX3_feed_3 20 rfl rfl)
theorem dX3_feed_92 : decode cX3_feed 92 = .ok (.aload_n 0, 1) := dk_42 (dk_at dksX3_feed_3 23 rfl rfl)
theorem dX3_feed_93 : decode cX3_feed 93 = .ok (.getfield 172, 3) := dk_180 0 172 (dk_at dksX3_feed_4 0 rfl rfl)
theorem dX3_feed_96 : decode cX3_feed 96 = .ok (.iload 7, 2) := dk_21 7 (dk_at dksX3_feed_4 3 rfl rfl)
theorem dX3_feed_98 : decode cX3_feed 98 = .ok (.ifCond .ne 7, 3) := dk_154 0 7 (dk_at dksX3_feed_4 5 rfl rfl)
theorem dX3_feed_101 : decode cX3_feed 101 = .ok (.iload_n 2, 1) := dk_28 (dk_at dksX3_feed_4 8 rfl rfl)
theorem dX3_feed_102 : decode cX3_feed 102 = .ok (.goto 37, 3) := dk_167 0 37 (dk_at dksX3_feed_4 9 rfl rfl)
theorem dX3_feed_105 : decode cX3_feed 105 = .ok (.iload 7, 2) := dk_21 7 (dk_at dksX3_feed_4 12 rfl rfl)
theorem dX3_feed_107 : decode cX3_feed 107 = .ok (.iconst 1, 1) := dk_4 (dk_at dksX3_feed_4 14 rfl rfl)
theorem dX3_feed_108 : decode cX3_feed 108 = .ok (.if_icmp .ne 7, 3) := dk_160 0 7 (dk_at dksX3_feed_4 15 rfl rfl)
theorem dX3_feed_111 : decode cX3_feed 111 = .ok (.iload_n 3, 1) := dk_29 (dk_at dksX3_feed_4 18 rfl rfl)
theorem dX3_feed_112 : decode cX3_feed 112 = .ok (.goto 27, 3) := dk_167 0 27 (dk_at dksX3_feed_4 19 rfl rfl)
theorem dX3_feed_115 : decode cX3_feed 115 = .ok (.iload 7, 2) := dk_21 7 (dk_at dksX3_feed_4 22 rfl rfl)
theorem dX3_feed_117 : decode cX3_feed 117 = .ok (.iconst 2, 1) := dk_5 (dk_at dksX3_feed_5 0 rfl rfl)
theorem dX3_feed_118 : decode cX3_feed 118 = .ok (.if_icmp .ne 8, 3) := dk_160 0 8 (dk_at dksX3_feed_5 1 rfl rfl)
theorem dX3_feed_121 : decode cX3_feed 121 = .ok (.iload 4, 2) := dk_21 4 (dk_at dksX3_feed_5 4 rfl rfl)
theorem dX3_feed_123 : decode cX3_feed 123 = .ok (.goto 16, 3) := dk_167 0 16 (dk_at dksX3_feed_5 6 rfl rfl)
theorem dX3_feed_126 : decode cX3_feed 126 = .ok (.iload 7, 2) := dk_21 7 (dk_at dksX3_feed_5 9 rfl rfl)
theorem dX3_feed_128 : decode cX3_feed 128 = .ok (.iconst 3, 1) := dk_6 (dk_at dksX3_feed_5 11 rfl rfl)
theorem dX3_feed_129 : decode cX3_feed 129 = .ok (.if_icmp .ne 8, 3) := dk_160 0 8 (dk_at dksX3_feed_5 12 rfl rfl)
theorem dX3_feed_132 : decode cX3_feed 132 = .ok (.iload 5, 2) := dk_21 5 (dk_at dksX3_feed_5 15 rfl rfl)
theorem dX3_feed_134 : decode cX3_feed 134 = .ok (.goto 5, 3) := dk_167 0 5 (dk_at dksX3_feed_5 17 rfl rfl)
theorem dX3_feed_137 : decode cX3_feed 137 = .ok (.iload 6, 2) := dk_21 6 (dk_at dksX3_feed_5 20 rfl rfl)
theorem dX3_feed_139 : decode cX3_feed 139 = .ok (.iastore, 1) := dk_79 (dk_at dksX3_feed_5 22 rfl rfl)
theorem dX3_feed_140 : decode cX3_feed 140 = .ok (.aload_n 0, 1) := dk_42 (dk_at dksX3_feed_5 23 rfl rfl)
theorem dX3_feed_141 : decode cX3_feed 141 = .ok (.dup, 1) := dk_89 (dk_at dksX3_feed_6 0 rfl rfl)
theorem dX3_feed_142 : decode cX3_feed 142 = .ok (.getfield 172, 3) := dk_180 0 172 (dk_at dksX3_feed_6 1 rfl rfl)
theorem dX3_feed_145 : decode cX3_feed 145 = .ok (.iconst 1, 1) := dk_4 (dk_at dksX3_feed_6 4 rfl rfl)
theorem dX3_feed_146 : decode cX3_feed 146 = .ok (.iadd, 1) := dk_96 (dk_at dksX3_feed_6 5 rfl rfl)
theorem dX3_feed_147 : decode cX3_feed 147 = .ok (.putfield 172, 3) := dk_181 0 172 (dk_at dksX3_feed_6 6 rfl rfl)
theorem dX3_feed_150 : decode cX3_feed 150 = .ok (.iinc 7 1, 3) := dk_132 7 1 (dk_at dksX3_feed_6 9 rfl rfl)
theorem dX3_feed_153 : decode cX3_feed 153 = .ok (.goto (-71), 3) := dk_167 255 185 (dk_at dksX3_feed_6 12 rfl rfl)
theorem dX3_feed_156 : decode cX3_feed 156 = .ok (.aload_n 0, 1) := dk_42 (dk_at dksX3_feed_6 15 rfl rfl)
theorem dX3_feed_157 : decode cX3_feed 157 = .ok (.getfield 172, 3) := dk_180 0 172 (dk_at dksX3_feed_6 16 rfl rfl)
theorem dX3_feed_160 : decode cX3_feed 160 = .ok (.ireturn, 1) := dk_172 (dk_at dksX3_feed_6 19 rfl rfl)
abbrev cX3_shape : ByteArray := prog_11_method_48_code
def yX3_shape : MethodName := ⟨RX3, "shape", "(I)I"⟩
def dkwX3_shape_3 : List UInt8 := [132, 2, 1, 167, 255, 222, 42, 180, 0, 43, 3, 46, 172]
abbrev dktX3_shape_3 : List UInt8 := dkwX3_shape_3 ++ []
def dkwX3_shape_2 : List UInt8 := [3, 46, 104, 96, 162, 0, 26, 42, 180, 0, 9, 27, 184, 0, 78, 28, 96, 42, 180, 0, 43, 28, 46, 79]
abbrev dktX3_shape_2 : List UInt8 := dkwX3_shape_2 ++ dktX3_shape_3
def dkwX3_shape_1 : List UInt8 := [155, 0, 11, 16, 156, 42, 180, 0, 178, 100, 172, 42, 182, 0, 151, 3, 61, 28, 5, 5, 42, 180, 0, 43]
abbrev dktX3_shape_1 : List UInt8 := dkwX3_shape_1 ++ dktX3_shape_2
def dkwX3_shape_0 : List UInt8 := [27, 3, 5, 184, 0, 57, 154, 0, 5, 2, 172, 42, 182, 0, 184, 42, 3, 181, 0, 172, 42, 180, 0, 178]
abbrev dktX3_shape_0 : List UInt8 := dkwX3_shape_0 ++ dktX3_shape_1
theorem dksX3_shape_0 : cX3_shape.data.toList.drop 0 = dktX3_shape_0 := by decide +kernel
theorem dksX3_shape_1 : cX3_shape.data.toList.drop 24 = dktX3_shape_1 := dk_seg dksX3_shape_0 24 rfl rfl
theorem dksX3_shape_2 : cX3_shape.data.toList.drop 48 = dktX3_shape_2 := dk_seg dksX3_shape_1 24 rfl rfl
theorem dksX3_shape_3 : cX3_shape.data.toList.drop 72 = dktX3_shape_3 := dk_seg dksX3_shape_2 24 rfl rfl
theorem dX3_shape_0 : decode cX3_shape 0 = .ok (.iload_n 1, 1) := dk_27 (dk_at dksX3_shape_0 0 rfl rfl)
theorem dX3_shape_1 : decode cX3_shape 1 = .ok (.iconst 0, 1) := dk_3 (dk_at dksX3_shape_0 1 rfl rfl)
theorem dX3_shape_2 : decode cX3_shape 2 = .ok (.iconst 2, 1) := dk_5 (dk_at dksX3_shape_0 2 rfl rfl)
theorem dX3_shape_3 : decode cX3_shape 3 = .ok (.invokestatic 57, 3) := dk_184 0 57 (dk_at dksX3_shape_0 3 rfl rfl)
theorem dX3_shape_6 : decode cX3_shape 6 = .ok (.ifCond .ne 5, 3) := dk_154 0 5 (dk_at dksX3_shape_0 6 rfl rfl)
theorem dX3_shape_9 : decode cX3_shape 9 = .ok (.iconst (-1), 1) := dk_2 (dk_at dksX3_shape_0 9 rfl rfl)
theorem dX3_shape_10 : decode cX3_shape 10 = .ok (.ireturn, 1) := dk_172 (dk_at dksX3_shape_0 10 rfl rfl)
theorem dX3_shape_11 : decode cX3_shape 11 = .ok (.aload_n 0, 1) := dk_42 (dk_at dksX3_shape_0 11 rfl rfl)
theorem dX3_shape_12 : decode cX3_shape 12 = .ok (.invokevirtual 184, 3) := dk_182 0 184 (dk_at dksX3_shape_0 12 rfl rfl)
theorem dX3_shape_15 : decode cX3_shape 15 = .ok (.aload_n 0, 1) := dk_42 (dk_at dksX3_shape_0 15 rfl rfl)
theorem dX3_shape_16 : decode cX3_shape 16 = .ok (.iconst 0, 1) := dk_3 (dk_at dksX3_shape_0 16 rfl rfl)
theorem dX3_shape_17 : decode cX3_shape 17 = .ok (.putfield 172, 3) := dk_181 0 172 (dk_at dksX3_shape_0 17 rfl rfl)
theorem dX3_shape_20 : decode cX3_shape 20 = .ok (.aload_n 0, 1) := dk_42 (dk_at dksX3_shape_0 20 rfl rfl)
theorem dX3_shape_21 : decode cX3_shape 21 = .ok (.getfield 178, 3) := dk_180 0 178 (dk_at dksX3_shape_0 21 rfl rfl)
theorem dX3_shape_24 : decode cX3_shape 24 = .ok (.ifCond .lt 11, 3) := dk_155 0 11 (dk_at dksX3_shape_1 0 rfl rfl)
theorem dX3_shape_27 : decode cX3_shape 27 = .ok (.bipush (-100), 2) := dk_16 156 (dk_at dksX3_shape_1 3 rfl rfl)
theorem dX3_shape_29 : decode cX3_shape 29 = .ok (.aload_n 0, 1) := dk_42 (dk_at dksX3_shape_1 5 rfl rfl)
theorem dX3_shape_30 : decode cX3_shape 30 = .ok (.getfield 178, 3) := dk_180 0 178 (dk_at dksX3_shape_1 6 rfl rfl)
theorem dX3_shape_33 : decode cX3_shape 33 = .ok (.isub, 1) := dk_100 (dk_at dksX3_shape_1 9 rfl rfl)
theorem dX3_shape_34 : decode cX3_shape 34 = .ok (.ireturn, 1) := dk_172 (dk_at dksX3_shape_1 10 rfl rfl)
theorem dX3_shape_35 : decode cX3_shape 35 = .ok (.aload_n 0, 1) := dk_42 (dk_at dksX3_shape_1 11 rfl rfl)
theorem dX3_shape_36 : decode cX3_shape 36 = .ok (.invokevirtual 151, 3) := dk_182 0 151 (dk_at dksX3_shape_1 12 rfl rfl)
theorem dX3_shape_39 : decode cX3_shape 39 = .ok (.iconst 0, 1) := dk_3 (dk_at dksX3_shape_1 15 rfl rfl)
theorem dX3_shape_40 : decode cX3_shape 40 = .ok (.istore_n 2, 1) := dk_61 (dk_at dksX3_shape_1 16 rfl rfl)
theorem dX3_shape_41 : decode cX3_shape 41 = .ok (.iload_n 2, 1) := dk_28 (dk_at dksX3_shape_1 17 rfl rfl)
theorem dX3_shape_42 : decode cX3_shape 42 = .ok (.iconst 2, 1) := dk_5 (dk_at dksX3_shape_1 18 rfl rfl)
theorem dX3_shape_43 : decode cX3_shape 43 = .ok (.iconst 2, 1) := dk_5 (dk_at dksX3_shape_1 19 rfl rfl)
theorem dX3_shape_44 : decode cX3_shape 44 = .ok (.aload_n 0, 1) := dk_42 (dk_at dksX3_shape_1 20 rfl rfl)
theorem dX3_shape_45 : decode cX3_shape 45 = .ok (.getfield 43, 3) := dk_180 0 43 (dk_at dksX3_shape_1 21 rfl rfl)
theorem dX3_shape_48 : decode cX3_shape 48 = .ok (.iconst 0, 1) := dk_3 (dk_at dksX3_shape_2 0 rfl rfl)
theorem dX3_shape_49 : decode cX3_shape 49 = .ok (.iaload, 1) := dk_46 (dk_at dksX3_shape_2 1 rfl rfl)
theorem dX3_shape_50 : decode cX3_shape 50 = .ok (.imul, 1) := dk_104 (dk_at dksX3_shape_2 2 rfl rfl)
theorem dX3_shape_51 : decode cX3_shape 51 = .ok (.iadd, 1) := dk_96 (dk_at dksX3_shape_2 3 rfl rfl)
theorem dX3_shape_52 : decode cX3_shape 52 = .ok (.if_icmp .ge 26, 3) := dk_162 0 26 (dk_at dksX3_shape_2 4 rfl rfl)
theorem dX3_shape_55 : decode cX3_shape 55 = .ok (.aload_n 0, 1) := dk_42 (dk_at dksX3_shape_2 7 rfl rfl)
theorem dX3_shape_56 : decode cX3_shape 56 = .ok (.getfield 9, 3) := dk_180 0 9 (dk_at dksX3_shape_2 8 rfl rfl)
theorem dX3_shape_59 : decode cX3_shape 59 = .ok (.iload_n 1, 1) := dk_27 (dk_at dksX3_shape_2 11 rfl rfl)
theorem dX3_shape_60 : decode cX3_shape 60 = .ok (.invokestatic 78, 3) := dk_184 0 78 (dk_at dksX3_shape_2 12 rfl rfl)
theorem dX3_shape_63 : decode cX3_shape 63 = .ok (.iload_n 2, 1) := dk_28 (dk_at dksX3_shape_2 15 rfl rfl)
theorem dX3_shape_64 : decode cX3_shape 64 = .ok (.iadd, 1) := dk_96 (dk_at dksX3_shape_2 16 rfl rfl)
theorem dX3_shape_65 : decode cX3_shape 65 = .ok (.aload_n 0, 1) := dk_42 (dk_at dksX3_shape_2 17 rfl rfl)
theorem dX3_shape_66 : decode cX3_shape 66 = .ok (.getfield 43, 3) := dk_180 0 43 (dk_at dksX3_shape_2 18 rfl rfl)
theorem dX3_shape_69 : decode cX3_shape 69 = .ok (.iload_n 2, 1) := dk_28 (dk_at dksX3_shape_2 21 rfl rfl)
theorem dX3_shape_70 : decode cX3_shape 70 = .ok (.iaload, 1) := dk_46 (dk_at dksX3_shape_2 22 rfl rfl)
theorem dX3_shape_71 : decode cX3_shape 71 = .ok (.iastore, 1) := dk_79 (dk_at dksX3_shape_2 23 rfl rfl)
theorem dX3_shape_72 : decode cX3_shape 72 = .ok (.iinc 2 1, 3) := dk_132 2 1 (dk_at dksX3_shape_3 0 rfl rfl)
theorem dX3_shape_75 : decode cX3_shape 75 = .ok (.goto (-34), 3) := dk_167 255 222 (dk_at dksX3_shape_3 3 rfl rfl)
theorem dX3_shape_78 : decode cX3_shape 78 = .ok (.aload_n 0, 1) := dk_42 (dk_at dksX3_shape_3 6 rfl rfl)
theorem dX3_shape_79 : decode cX3_shape 79 = .ok (.getfield 43, 3) := dk_180 0 43 (dk_at dksX3_shape_3 7 rfl rfl)
theorem dX3_shape_82 : decode cX3_shape 82 = .ok (.iconst 0, 1) := dk_3 (dk_at dksX3_shape_3 10 rfl rfl)
theorem dX3_shape_83 : decode cX3_shape 83 = .ok (.iaload, 1) := dk_46 (dk_at dksX3_shape_3 11 rfl rfl)
theorem dX3_shape_84 : decode cX3_shape 84 = .ok (.ireturn, 1) := dk_172 (dk_at dksX3_shape_3 12 rfl rfl)
abbrev cX3_readsShape : ByteArray := prog_11_method_47_code
def yX3_readsShape : MethodName := ⟨RX3, "readsShape", "()V"⟩
def dkwX3_readsShape_12 : List UInt8 := [156, 0, 11, 42, 42, 180, 0, 172, 181, 0, 178, 177]
abbrev dktX3_readsShape_12 : List UInt8 := dkwX3_readsShape_12 ++ []
def dkwX3_readsShape_11 : List UInt8 := [180, 0, 175, 4, 96, 181, 0, 175, 167, 255, 21, 42, 180, 0, 178, 156, 0, 20, 42, 180, 0, 43, 4, 46]
abbrev dktX3_readsShape_11 : List UInt8 := dkwX3_readsShape_11 ++ dktX3_readsShape_12
def dkwX3_readsShape_10 : List UInt8 := [180, 0, 43, 3, 46, 104, 96, 27, 79, 42, 180, 0, 43, 3, 92, 46, 4, 96, 79, 132, 2, 1, 42, 89]
abbrev dktX3_readsShape_10 : List UInt8 := dkwX3_readsShape_10 ++ dktX3_readsShape_11
def dkwX3_readsShape_9 : List UInt8 := [180, 0, 43, 5, 5, 42, 180, 0, 43, 3, 46, 104, 96, 28, 79, 42, 180, 0, 43, 6, 5, 42]
abbrev dktX3_readsShape_9 : List UInt8 := dkwX3_readsShape_9 ++ dktX3_readsShape_10
def dkwX3_readsShape_8 : List UInt8 := [29, 16, 42, 160, 0, 12, 42, 180, 0, 43, 3, 46, 167, 0, 9, 42, 180, 0, 43, 4, 46, 79, 42]
abbrev dktX3_readsShape_8 : List UInt8 := dkwX3_readsShape_8 ++ dktX3_readsShape_9
def dkwX3_readsShape_7 : List UInt8 := [4, 46, 155, 0, 12, 42, 42, 180, 0, 175, 181, 0, 178, 177, 21, 4, 153, 0, 72, 42, 180, 0, 43, 4]
abbrev dktX3_readsShape_7 : List UInt8 := dkwX3_readsShape_7 ++ dktX3_readsShape_8
def dkwX3_readsShape_6 : List UInt8 := [153, 0, 14, 42, 180, 0, 43, 3, 46, 16, 10, 159, 0, 18, 29, 16, 42, 160, 0, 21, 42, 180, 0, 43]
abbrev dktX3_readsShape_6 : List UInt8 := dkwX3_readsShape_6 ++ dktX3_readsShape_7
def dkwX3_readsShape_5 : List UInt8 := [167, 255, 168, 21, 4, 154, 0, 9, 29, 16, 46, 160, 0, 40, 28, 16, 6, 159, 0, 34, 21, 4]
abbrev dktX3_readsShape_5 : List UInt8 := dkwX3_readsShape_5 ++ dktX3_readsShape_6
def dkwX3_readsShape_4 : List UInt8 := [167, 0, 4, 2, 181, 0, 178, 132, 1, 1, 3, 61, 42, 89, 180, 0, 175, 4, 96, 181, 0, 175]
abbrev dktX3_readsShape_4 : List UInt8 := dkwX3_readsShape_4 ++ dktX3_readsShape_5
def dkwX3_readsShape_3 : List UInt8 := [3, 54, 4, 29, 16, 47, 160, 0, 42, 42, 28, 153, 0, 8, 27, 8, 160, 0, 10, 42, 180, 0, 175]
abbrev dktX3_readsShape_3 : List UInt8 := dkwX3_readsShape_3 ++ dktX3_readsShape_4
def dkwX3_readsShape_2 : List UInt8 := [154, 0, 219, 42, 182, 0, 181, 62, 29, 16, 35, 159, 0, 9, 29, 16, 42, 160, 0, 7, 4, 167, 0, 4]
abbrev dktX3_readsShape_2 : List UInt8 := dkwX3_readsShape_2 ++ dktX3_readsShape_3
def dkwX3_readsShape_1 : List UInt8 := [2, 181, 0, 178, 42, 180, 0, 178, 156, 0, 234, 42, 180, 0, 175, 42, 180, 0, 172, 161, 0, 7, 28]
abbrev dktX3_readsShape_1 : List UInt8 := dkwX3_readsShape_1 ++ dktX3_readsShape_2
def dkwX3_readsShape_0 : List UInt8 := [3, 60, 3, 61, 42, 180, 0, 43, 3, 3, 79, 42, 180, 0, 43, 4, 2, 79, 42, 3, 181, 0, 175, 42]
abbrev dktX3_readsShape_0 : List UInt8 := dkwX3_readsShape_0 ++ dktX3_readsShape_1
theorem dksX3_readsShape_0 : cX3_readsShape.data.toList.drop 0 = dktX3_readsShape_0 := by decide +kernel
theorem dksX3_readsShape_1 : cX3_readsShape.data.toList.drop 24 = dktX3_readsShape_1 := dk_seg dksX3_readsShape_0 24 rfl rfl
theorem dksX3_readsShape_2 : cX3_readsShape.data.toList.drop 47 = dktX3_readsShape_2 := dk_seg dksX3_readsShape_1 23 rfl rfl
theorem dksX3_readsShape_3 : cX3_readsShape.data.toList.drop 71 = dktX3_readsShape_3 := dk_seg dksX3_readsShape_2 24 rfl rfl
theorem dksX3_readsShape_4 : cX3_readsShape.data.toList.drop 94 = dktX3_readsShape_4 := dk_seg dksX3_readsShape_3 23 rfl rfl
theorem dksX3_readsShape_5 : cX3_readsShape.data.toList.drop 116 = dktX3_readsShape_5 := dk_seg dksX3_readsShape_4 22 rfl rfl
theorem dksX3_readsShape_6 : cX3_readsShape.data.toList.drop 138 = dktX3_readsShape_6 := dk_seg dksX3_readsShape_5 22 rfl rfl
theorem dksX3_readsShape_7 : cX3_readsShape.data.toList.drop 162 = dktX3_readsShape_7 := dk_seg dksX3_readsShape_6 24 rfl rfl
theorem dksX3_readsShape_8 : cX3_readsShape.data.toList.drop 186 = dktX3_readsShape_8 := dk_seg dksX3_readsShape_7 24 rfl rfl
theorem dksX3_readsShape_9 : cX3_readsShape.data.toList.drop 209 = dktX3_readsShape_9 := dk_seg dksX3_readsShape_8 23 rfl rfl
theorem dksX3_readsShape_10 : cX3_readsShape.data.toList.drop 231 = dktX3_readsShape_10 := dk_seg dksX3_readsShape_9 22 rfl rfl
theorem dksX3_readsShape_11 : cX3_readsShape.data.toList.drop 255 = dktX3_readsShape_11 := dk_seg dksX3_readsShape_10 24 rfl rfl
theorem dksX3_readsShape_12 : cX3_readsShape.data.toList.drop 279 = dktX3_readsShape_12 := dk_seg dksX3_readsShape_11 24 rfl rfl
theorem dX3_readsShape_0 : decode cX3_readsShape 0 = .ok (.iconst 0, 1) := dk_3 (dk_at dksX3_readsShape_0 0 rfl rfl)
theorem dX3_readsShape_1 : decode cX3_readsShape 1 = .ok (.istore_n 1, 1) := dk_60 (dk_at dksX3_readsShape_0 1 rfl rfl)
theorem dX3_readsShape_2 : decode cX3_readsShape 2 = .ok (.iconst 0, 1) := dk_3 (dk_at dksX3_readsShape_0 2 rfl rfl)
theorem dX3_readsShape_3 : decode cX3_readsShape 3 = .ok (.istore_n 2, 1) := dk_61 (dk_at dksX3_readsShape_0 3 rfl rfl)
theorem dX3_readsShape_4 : decode cX3_readsShape 4 = .ok (.aload_n 0, 1) := dk_42 (dk_at dksX3_readsShape_0 4 rfl rfl)
theorem dX3_readsShape_5 : decode cX3_readsShape 5 = .ok (.getfield 43, 3) := dk_180 0 43 (dk_at dksX3_readsShape_0 5 rfl rfl)
theorem dX3_readsShape_8 : decode cX3_readsShape 8 = .ok (.iconst 0, 1) := dk_3 (dk_at dksX3_readsShape_0 8 rfl rfl)
theorem dX3_readsShape_9 : decode cX3_readsShape 9 = .ok (.iconst 0, 1) := dk_3 (dk_at dksX3_readsShape_0 9 rfl rfl)
theorem dX3_readsShape_10 : decode cX3_readsShape 10 = .ok (.iastore, 1) := dk_79 (dk_at dksX3_readsShape_0 10 rfl rfl)
theorem dX3_readsShape_11 : decode cX3_readsShape 11 = .ok (.aload_n 0, 1) := dk_42 (dk_at dksX3_readsShape_0 11 rfl rfl)
theorem dX3_readsShape_12 : decode cX3_readsShape 12 = .ok (.getfield 43, 3) := dk_180 0 43 (dk_at dksX3_readsShape_0 12 rfl rfl)
theorem dX3_readsShape_15 : decode cX3_readsShape 15 = .ok (.iconst 1, 1) := dk_4 (dk_at dksX3_readsShape_0 15 rfl rfl)
theorem dX3_readsShape_16 : decode cX3_readsShape 16 = .ok (.iconst (-1), 1) := dk_2 (dk_at dksX3_readsShape_0 16 rfl rfl)
theorem dX3_readsShape_17 : decode cX3_readsShape 17 = .ok (.iastore, 1) := dk_79 (dk_at dksX3_readsShape_0 17 rfl rfl)
theorem dX3_readsShape_18 : decode cX3_readsShape 18 = .ok (.aload_n 0, 1) := dk_42 (dk_at dksX3_readsShape_0 18 rfl rfl)
theorem dX3_readsShape_19 : decode cX3_readsShape 19 = .ok (.iconst 0, 1) := dk_3 (dk_at dksX3_readsShape_0 19 rfl rfl)
theorem dX3_readsShape_20 : decode cX3_readsShape 20 = .ok (.putfield 175, 3) := dk_181 0 175 (dk_at dksX3_readsShape_0 20 rfl rfl)
theorem dX3_readsShape_23 : decode cX3_readsShape 23 = .ok (.aload_n 0, 1) := dk_42 (dk_at dksX3_readsShape_0 23 rfl rfl)
theorem dX3_readsShape_24 : decode cX3_readsShape 24 = .ok (.iconst (-1), 1) := dk_2 (dk_at dksX3_readsShape_1 0 rfl rfl)
theorem dX3_readsShape_25 : decode cX3_readsShape 25 = .ok (.putfield 178, 3) := dk_181 0 178 (dk_at dksX3_readsShape_1 1 rfl rfl)
theorem dX3_readsShape_28 : decode cX3_readsShape 28 = .ok (.aload_n 0, 1) := dk_42 (dk_at dksX3_readsShape_1 4 rfl rfl)
theorem dX3_readsShape_29 : decode cX3_readsShape 29 = .ok (.getfield 178, 3) := dk_180 0 178 (dk_at dksX3_readsShape_1 5 rfl rfl)
theorem dX3_readsShape_32 : decode cX3_readsShape 32 = .ok (.ifCond .ge 234, 3) := dk_156 0 234 (dk_at dksX3_readsShape_1 8 rfl rfl)
theorem dX3_readsShape_35 : decode cX3_readsShape 35 = .ok (.aload_n 0, 1) := dk_42 (dk_at dksX3_readsShape_1 11 rfl rfl)
theorem dX3_readsShape_36 : decode cX3_readsShape 36 = .ok (.getfield 175, 3) := dk_180 0 175 (dk_at dksX3_readsShape_1 12 rfl rfl)
theorem dX3_readsShape_39 : decode cX3_readsShape 39 = .ok (.aload_n 0, 1) := dk_42 (dk_at dksX3_readsShape_1 15 rfl rfl)
theorem dX3_readsShape_40 : decode cX3_readsShape 40 = .ok (.getfield 172, 3) := dk_180 0 172 (dk_at dksX3_readsShape_1 16 rfl rfl)
theorem dX3_readsShape_43 : decode cX3_readsShape 43 = .ok (.if_icmp .lt 7, 3) := dk_161 0 7 (dk_at dksX3_readsShape_1 19 rfl rfl)
theorem dX3_readsShape_46 : decode cX3_readsShape 46 = .ok (.iload_n 2, 1) := dk_28 (dk_at dksX3_readsShape_1 22 rfl rfl)
theorem dX3_readsShape_47 : decode cX3_readsShape 47 = .ok (.ifCond .ne 219, 3) := dk_154 0 219 (dk_at dksX3_readsShape_2 0 rfl rfl)
theorem dX3_readsShape_50 : decode cX3_readsShape 50 = .ok (.aload_n 0, 1) := dk_42 (dk_at dksX3_readsShape_2 3 rfl rfl)
theorem dX3_readsShape_51 : decode cX3_readsShape 51 = .ok (.invokevirtual 181, 3) := dk_182 0 181 (dk_at dksX3_readsShape_2 4 rfl rfl)
theorem dX3_readsShape_54 : decode cX3_readsShape 54 = .ok (.istore_n 3, 1) := dk_62 (dk_at dksX3_readsShape_2 7 rfl rfl)
theorem dX3_readsShape_55 : decode cX3_readsShape 55 = .ok (.iload_n 3, 1) := dk_29 (dk_at dksX3_readsShape_2 8 rfl rfl)
theorem dX3_readsShape_56 : decode cX3_readsShape 56 = .ok (.bipush 35, 2) := dk_16 35 (dk_at dksX3_readsShape_2 9 rfl rfl)
theorem dX3_readsShape_58 : decode cX3_readsShape 58 = .ok (.if_icmp .eq 9, 3) := dk_159 0 9 (dk_at dksX3_readsShape_2 11 rfl rfl)
theorem dX3_readsShape_61 : decode cX3_readsShape 61 = .ok (.iload_n 3, 1) := dk_29 (dk_at dksX3_readsShape_2 14 rfl rfl)
theorem dX3_readsShape_62 : decode cX3_readsShape 62 = .ok (.bipush 42, 2) := dk_16 42 (dk_at dksX3_readsShape_2 15 rfl rfl)
theorem dX3_readsShape_64 : decode cX3_readsShape 64 = .ok (.if_icmp .ne 7, 3) := dk_160 0 7 (dk_at dksX3_readsShape_2 17 rfl rfl)
theorem dX3_readsShape_67 : decode cX3_readsShape 67 = .ok (.iconst 1, 1) := dk_4 (dk_at dksX3_readsShape_2 20 rfl rfl)
theorem dX3_readsShape_68 : decode cX3_readsShape 68 = .ok (.goto 4, 3) := dk_167 0 4 (dk_at dksX3_readsShape_2 21 rfl rfl)
theorem dX3_readsShape_71 : decode cX3_readsShape 71 = .ok (.iconst 0, 1) := dk_3 (dk_at dksX3_readsShape_3 0 rfl rfl)
theorem dX3_readsShape_72 : decode cX3_readsShape 72 = .ok (.istore 4, 2) := dk_54 4 (dk_at dksX3_readsShape_3 1 rfl rfl)
theorem dX3_readsShape_74 : decode cX3_readsShape 74 = .ok (.iload_n 3, 1) := dk_29 (dk_at dksX3_readsShape_3 3 rfl rfl)
theorem dX3_readsShape_75 : decode cX3_readsShape 75 = .ok (.bipush 47, 2) := dk_16 47 (dk_at dksX3_readsShape_3 4 rfl rfl)
theorem dX3_readsShape_77 : decode cX3_readsShape 77 = .ok (.if_icmp .ne 42, 3) := dk_160 0 42 (dk_at dksX3_readsShape_3 6 rfl rfl)
theorem dX3_readsShape_80 : decode cX3_readsShape 80 = .ok (.aload_n 0, 1) := dk_42 (dk_at dksX3_readsShape_3 9 rfl rfl)
theorem dX3_readsShape_81 : decode cX3_readsShape 81 = .ok (.iload_n 2, 1) := dk_28 (dk_at dksX3_readsShape_3 10 rfl rfl)
theorem dX3_readsShape_82 : decode cX3_readsShape 82 = .ok (.ifCond .eq 8, 3) := dk_153 0 8 (dk_at dksX3_readsShape_3 11 rfl rfl)
theorem dX3_readsShape_85 : decode cX3_readsShape 85 = .ok (.iload_n 1, 1) := dk_27 (dk_at dksX3_readsShape_3 14 rfl rfl)
theorem dX3_readsShape_86 : decode cX3_readsShape 86 = .ok (.iconst 5, 1) := dk_8 (dk_at dksX3_readsShape_3 15 rfl rfl)
theorem dX3_readsShape_87 : decode cX3_readsShape 87 = .ok (.if_icmp .ne 10, 3) := dk_160 0 10 (dk_at dksX3_readsShape_3 16 rfl rfl)
theorem dX3_readsShape_90 : decode cX3_readsShape 90 = .ok (.aload_n 0, 1) := dk_42 (dk_at dksX3_readsShape_3 19 rfl rfl)
theorem dX3_readsShape_91 : decode cX3_readsShape 91 = .ok (.getfield 175, 3) := dk_180 0 175 (dk_at dksX3_readsShape_3 20 rfl rfl)
theorem dX3_readsShape_94 : decode cX3_readsShape 94 = .ok (.goto 4, 3) := dk_167 0 4 (dk_at dksX3_readsShape_4 0 rfl rfl)
theorem dX3_readsShape_97 : decode cX3_readsShape 97 = .ok (.iconst (-1), 1) := dk_2 (dk_at dksX3_readsShape_4 3 rfl rfl)
theorem dX3_readsShape_98 : decode cX3_readsShape 98 = .ok (.putfield 178, 3) := dk_181 0 178 (dk_at dksX3_readsShape_4 4 rfl rfl)
theorem dX3_readsShape_101 : decode cX3_readsShape 101 = .ok (.iinc 1 1, 3) := dk_132 1 1 (dk_at dksX3_readsShape_4 7 rfl rfl)
theorem dX3_readsShape_104 : decode cX3_readsShape 104 = .ok (.iconst 0, 1) := dk_3 (dk_at dksX3_readsShape_4 10 rfl rfl)
theorem dX3_readsShape_105 : decode cX3_readsShape 105 = .ok (.istore_n 2, 1) := dk_61 (dk_at dksX3_readsShape_4 11 rfl rfl)
theorem dX3_readsShape_106 : decode cX3_readsShape 106 = .ok (.aload_n 0, 1) := dk_42 (dk_at dksX3_readsShape_4 12 rfl rfl)
theorem dX3_readsShape_107 : decode cX3_readsShape 107 = .ok (.dup, 1) := dk_89 (dk_at dksX3_readsShape_4 13 rfl rfl)
theorem dX3_readsShape_108 : decode cX3_readsShape 108 = .ok (.getfield 175, 3) := dk_180 0 175 (dk_at dksX3_readsShape_4 14 rfl rfl)
theorem dX3_readsShape_111 : decode cX3_readsShape 111 = .ok (.iconst 1, 1) := dk_4 (dk_at dksX3_readsShape_4 17 rfl rfl)
theorem dX3_readsShape_112 : decode cX3_readsShape 112 = .ok (.iadd, 1) := dk_96 (dk_at dksX3_readsShape_4 18 rfl rfl)
theorem dX3_readsShape_113 : decode cX3_readsShape 113 = .ok (.putfield 175, 3) := dk_181 0 175 (dk_at dksX3_readsShape_4 19 rfl rfl)
theorem dX3_readsShape_116 : decode cX3_readsShape 116 = .ok (.goto (-88), 3) := dk_167 255 168 (dk_at dksX3_readsShape_5 0 rfl rfl)
theorem dX3_readsShape_119 : decode cX3_readsShape 119 = .ok (.iload 4, 2) := dk_21 4 (dk_at dksX3_readsShape_5 3 rfl rfl)
theorem dX3_readsShape_121 : decode cX3_readsShape 121 = .ok (.ifCond .ne 9, 3) := dk_154 0 9 (dk_at dksX3_readsShape_5 5 rfl rfl)
theorem dX3_readsShape_124 : decode cX3_readsShape 124 = .ok (.iload_n 3, 1) := dk_29 (dk_at dksX3_readsShape_5 8 rfl rfl)
theorem dX3_readsShape_125 : decode cX3_readsShape 125 = .ok (.bipush 46, 2) := dk_16 46 (dk_at dksX3_readsShape_5 9 rfl rfl)
theorem dX3_readsShape_127 : decode cX3_readsShape 127 = .ok (.if_icmp .ne 40, 3) := dk_160 0 40 (dk_at dksX3_readsShape_5 11 rfl rfl)
theorem dX3_readsShape_130 : decode cX3_readsShape 130 = .ok (.iload_n 2, 1) := dk_28 (dk_at dksX3_readsShape_5 14 rfl rfl)
theorem dX3_readsShape_131 : decode cX3_readsShape 131 = .ok (.bipush 6, 2) := dk_16 6 (dk_at dksX3_readsShape_5 15 rfl rfl)
theorem dX3_readsShape_133 : decode cX3_readsShape 133 = .ok (.if_icmp .eq 34, 3) := dk_159 0 34 (dk_at dksX3_readsShape_5 17 rfl rfl)
theorem dX3_readsShape_136 : decode cX3_readsShape 136 = .ok (.iload 4, 2) := dk_21 4 (dk_at dksX3_readsShape_5 20 rfl rfl)
theorem dX3_readsShape_138 : decode cX3_readsShape 138 = .ok (.ifCond .eq 14, 3) := dk_153 0 14 (dk_at dksX3_readsShape_6 0 rfl rfl)
theorem dX3_readsShape_141 : decode cX3_readsShape 141 = .ok (.aload_n 0, 1) := dk_42 (dk_at dksX3_readsShape_6 3 rfl rfl)
theorem dX3_readsShape_142 : decode cX3_readsShape 142 = .ok (.getfield 43, 3) := dk_180 0 43 (dk_at dksX3_readsShape_6 4 rfl rfl)
theorem dX3_readsShape_145 : decode cX3_readsShape 145 = .ok (.iconst 0, 1) := dk_3 (dk_at dksX3_readsShape_6 7 rfl rfl)
theorem dX3_readsShape_146 : decode cX3_readsShape 146 = .ok (.iaload, 1) := dk_46 (dk_at dksX3_readsShape_6 8 rfl rfl)
theorem dX3_readsShape_147 : decode cX3_readsShape 147 = .ok (.bipush 10, 2) := dk_16 10 (dk_at dksX3_readsShape_6 9 rfl rfl)
theorem dX3_readsShape_149 : decode cX3_readsShape 149 = .ok (.if_icmp .eq 18, 3) := dk_159 0 18 (dk_at dksX3_readsShape_6 11 rfl rfl)
theorem dX3_readsShape_152 : decode cX3_readsShape 152 = .ok (.iload_n 3, 1) := dk_29 (dk_at dksX3_readsShape_6 14 rfl rfl)
theorem dX3_readsShape_153 : decode cX3_readsShape 153 = .ok (.bipush 42, 2) := dk_16 42 (dk_at dksX3_readsShape_6 15 rfl rfl)
theorem dX3_readsShape_155 : decode cX3_readsShape 155 = .ok (.if_icmp .ne 21, 3) := dk_160 0 21 (dk_at dksX3_readsShape_6 17 rfl rfl)
theorem dX3_readsShape_158 : decode cX3_readsShape 158 = .ok (.aload_n 0, 1) := dk_42 (dk_at dksX3_readsShape_6 20 rfl rfl)
theorem dX3_readsShape_159 : decode cX3_readsShape 159 = .ok (.getfield 43, 3) := dk_180 0 43 (dk_at dksX3_readsShape_6 21 rfl rfl)
theorem dX3_readsShape_162 : decode cX3_readsShape 162 = .ok (.iconst 1, 1) := dk_4 (dk_at dksX3_readsShape_7 0 rfl rfl)
theorem dX3_readsShape_163 : decode cX3_readsShape 163 = .ok (.iaload, 1) := dk_46 (dk_at dksX3_readsShape_7 1 rfl rfl)
theorem dX3_readsShape_164 : decode cX3_readsShape 164 = .ok (.ifCond .lt 12, 3) := dk_155 0 12 (dk_at dksX3_readsShape_7 2 rfl rfl)
theorem dX3_readsShape_167 : decode cX3_readsShape 167 = .ok (.aload_n 0, 1) := dk_42 (dk_at dksX3_readsShape_7 5 rfl rfl)
theorem dX3_readsShape_168 : decode cX3_readsShape 168 = .ok (.aload_n 0, 1) := dk_42 (dk_at dksX3_readsShape_7 6 rfl rfl)
theorem dX3_readsShape_169 : decode cX3_readsShape 169 = .ok (.getfield 175, 3) := dk_180 0 175 (dk_at dksX3_readsShape_7 7 rfl rfl)
theorem dX3_readsShape_172 : decode cX3_readsShape 172 = .ok (.putfield 178, 3) := dk_181 0 178 (dk_at dksX3_readsShape_7 10 rfl rfl)
theorem dX3_readsShape_175 : decode cX3_readsShape 175 = .ok (.return_, 1) := dk_177 (dk_at dksX3_readsShape_7 13 rfl rfl)
theorem dX3_readsShape_176 : decode cX3_readsShape 176 = .ok (.iload 4, 2) := dk_21 4 (dk_at dksX3_readsShape_7 14 rfl rfl)
theorem dX3_readsShape_178 : decode cX3_readsShape 178 = .ok (.ifCond .eq 72, 3) := dk_153 0 72 (dk_at dksX3_readsShape_7 16 rfl rfl)
theorem dX3_readsShape_181 : decode cX3_readsShape 181 = .ok (.aload_n 0, 1) := dk_42 (dk_at dksX3_readsShape_7 19 rfl rfl)
theorem dX3_readsShape_182 : decode cX3_readsShape 182 = .ok (.getfield 43, 3) := dk_180 0 43 (dk_at dksX3_readsShape_7 20 rfl rfl)
theorem dX3_readsShape_185 : decode cX3_readsShape 185 = .ok (.iconst 1, 1) := dk_4 (dk_at dksX3_readsShape_7 23 rfl rfl)
theorem dX3_readsShape_186 : decode cX3_readsShape 186 = .ok (.iload_n 3, 1) := dk_29 (dk_at dksX3_readsShape_8 0 rfl rfl)
theorem dX3_readsShape_187 : decode cX3_readsShape 187 = .ok (.bipush 42, 2) := dk_16 42 (dk_at dksX3_readsShape_8 1 rfl rfl)
theorem dX3_readsShape_189 : decode cX3_readsShape 189 = .ok (.if_icmp .ne 12, 3) := dk_160 0 12 (dk_at dksX3_readsShape_8 3 rfl rfl)
theorem dX3_readsShape_192 : decode cX3_readsShape 192 = .ok (.aload_n 0, 1) := dk_42 (dk_at dksX3_readsShape_8 6 rfl rfl)
theorem dX3_readsShape_193 : decode cX3_readsShape 193 = .ok (.getfield 43, 3) := dk_180 0 43 (dk_at dksX3_readsShape_8 7 rfl rfl)
theorem dX3_readsShape_196 : decode cX3_readsShape 196 = .ok (.iconst 0, 1) := dk_3 (dk_at dksX3_readsShape_8 10 rfl rfl)
theorem dX3_readsShape_197 : decode cX3_readsShape 197 = .ok (.iaload, 1) := dk_46 (dk_at dksX3_readsShape_8 11 rfl rfl)
theorem dX3_readsShape_198 : decode cX3_readsShape 198 = .ok (.goto 9, 3) := dk_167 0 9 (dk_at dksX3_readsShape_8 12 rfl rfl)
theorem dX3_readsShape_201 : decode cX3_readsShape 201 = .ok (.aload_n 0, 1) := dk_42 (dk_at dksX3_readsShape_8 15 rfl rfl)
theorem dX3_readsShape_202 : decode cX3_readsShape 202 = .ok (.getfield 43, 3) := dk_180 0 43 (dk_at dksX3_readsShape_8 16 rfl rfl)
theorem dX3_readsShape_205 : decode cX3_readsShape 205 = .ok (.iconst 1, 1) := dk_4 (dk_at dksX3_readsShape_8 19 rfl rfl)
theorem dX3_readsShape_206 : decode cX3_readsShape 206 = .ok (.iaload, 1) := dk_46 (dk_at dksX3_readsShape_8 20 rfl rfl)
theorem dX3_readsShape_207 : decode cX3_readsShape 207 = .ok (.iastore, 1) := dk_79 (dk_at dksX3_readsShape_8 21 rfl rfl)
theorem dX3_readsShape_208 : decode cX3_readsShape 208 = .ok (.aload_n 0, 1) := dk_42 (dk_at dksX3_readsShape_8 22 rfl rfl)
theorem dX3_readsShape_209 : decode cX3_readsShape 209 = .ok (.getfield 43, 3) := dk_180 0 43 (dk_at dksX3_readsShape_9 0 rfl rfl)
theorem dX3_readsShape_212 : decode cX3_readsShape 212 = .ok (.iconst 2, 1) := dk_5 (dk_at dksX3_readsShape_9 3 rfl rfl)
theorem dX3_readsShape_213 : decode cX3_readsShape 213 = .ok (.iconst 2, 1) := dk_5 (dk_at dksX3_readsShape_9 4 rfl rfl)
theorem dX3_readsShape_214 : decode cX3_readsShape 214 = .ok (.aload_n 0, 1) := dk_42 (dk_at dksX3_readsShape_9 5 rfl rfl)
theorem dX3_readsShape_215 : decode cX3_readsShape 215 = .ok (.getfield 43, 3) := dk_180 0 43 (dk_at dksX3_readsShape_9 6 rfl rfl)
theorem dX3_readsShape_218 : decode cX3_readsShape 218 = .ok (.iconst 0, 1) := dk_3 (dk_at dksX3_readsShape_9 9 rfl rfl)
theorem dX3_readsShape_219 : decode cX3_readsShape 219 = .ok (.iaload, 1) := dk_46 (dk_at dksX3_readsShape_9 10 rfl rfl)
theorem dX3_readsShape_220 : decode cX3_readsShape 220 = .ok (.imul, 1) := dk_104 (dk_at dksX3_readsShape_9 11 rfl rfl)
theorem dX3_readsShape_221 : decode cX3_readsShape 221 = .ok (.iadd, 1) := dk_96 (dk_at dksX3_readsShape_9 12 rfl rfl)
theorem dX3_readsShape_222 : decode cX3_readsShape 222 = .ok (.iload_n 2, 1) := dk_28 (dk_at dksX3_readsShape_9 13 rfl rfl)
theorem dX3_readsShape_223 : decode cX3_readsShape 223 = .ok (.iastore, 1) := dk_79 (dk_at dksX3_readsShape_9 14 rfl rfl)
theorem dX3_readsShape_224 : decode cX3_readsShape 224 = .ok (.aload_n 0, 1) := dk_42 (dk_at dksX3_readsShape_9 15 rfl rfl)
theorem dX3_readsShape_225 : decode cX3_readsShape 225 = .ok (.getfield 43, 3) := dk_180 0 43 (dk_at dksX3_readsShape_9 16 rfl rfl)
theorem dX3_readsShape_228 : decode cX3_readsShape 228 = .ok (.iconst 3, 1) := dk_6 (dk_at dksX3_readsShape_9 19 rfl rfl)
theorem dX3_readsShape_229 : decode cX3_readsShape 229 = .ok (.iconst 2, 1) := dk_5 (dk_at dksX3_readsShape_9 20 rfl rfl)
theorem dX3_readsShape_230 : decode cX3_readsShape 230 = .ok (.aload_n 0, 1) := dk_42 (dk_at dksX3_readsShape_9 21 rfl rfl)
theorem dX3_readsShape_231 : decode cX3_readsShape 231 = .ok (.getfield 43, 3) := dk_180 0 43 (dk_at dksX3_readsShape_10 0 rfl rfl)
theorem dX3_readsShape_234 : decode cX3_readsShape 234 = .ok (.iconst 0, 1) := dk_3 (dk_at dksX3_readsShape_10 3 rfl rfl)
theorem dX3_readsShape_235 : decode cX3_readsShape 235 = .ok (.iaload, 1) := dk_46 (dk_at dksX3_readsShape_10 4 rfl rfl)
theorem dX3_readsShape_236 : decode cX3_readsShape 236 = .ok (.imul, 1) := dk_104 (dk_at dksX3_readsShape_10 5 rfl rfl)
theorem dX3_readsShape_237 : decode cX3_readsShape 237 = .ok (.iadd, 1) := dk_96 (dk_at dksX3_readsShape_10 6 rfl rfl)
theorem dX3_readsShape_238 : decode cX3_readsShape 238 = .ok (.iload_n 1, 1) := dk_27 (dk_at dksX3_readsShape_10 7 rfl rfl)
theorem dX3_readsShape_239 : decode cX3_readsShape 239 = .ok (.iastore, 1) := dk_79 (dk_at dksX3_readsShape_10 8 rfl rfl)
theorem dX3_readsShape_240 : decode cX3_readsShape 240 = .ok (.aload_n 0, 1) := dk_42 (dk_at dksX3_readsShape_10 9 rfl rfl)
theorem dX3_readsShape_241 : decode cX3_readsShape 241 = .ok (.getfield 43, 3) := dk_180 0 43 (dk_at dksX3_readsShape_10 10 rfl rfl)
theorem dX3_readsShape_244 : decode cX3_readsShape 244 = .ok (.iconst 0, 1) := dk_3 (dk_at dksX3_readsShape_10 13 rfl rfl)
theorem dX3_readsShape_245 : decode cX3_readsShape 245 = .ok (.dup2, 1) := dk_92 (dk_at dksX3_readsShape_10 14 rfl rfl)
theorem dX3_readsShape_246 : decode cX3_readsShape 246 = .ok (.iaload, 1) := dk_46 (dk_at dksX3_readsShape_10 15 rfl rfl)
theorem dX3_readsShape_247 : decode cX3_readsShape 247 = .ok (.iconst 1, 1) := dk_4 (dk_at dksX3_readsShape_10 16 rfl rfl)
theorem dX3_readsShape_248 : decode cX3_readsShape 248 = .ok (.iadd, 1) := dk_96 (dk_at dksX3_readsShape_10 17 rfl rfl)
theorem dX3_readsShape_249 : decode cX3_readsShape 249 = .ok (.iastore, 1) := dk_79 (dk_at dksX3_readsShape_10 18 rfl rfl)
theorem dX3_readsShape_250 : decode cX3_readsShape 250 = .ok (.iinc 2 1, 3) := dk_132 2 1 (dk_at dksX3_readsShape_10 19 rfl rfl)
theorem dX3_readsShape_253 : decode cX3_readsShape 253 = .ok (.aload_n 0, 1) := dk_42 (dk_at dksX3_readsShape_10 22 rfl rfl)
theorem dX3_readsShape_254 : decode cX3_readsShape 254 = .ok (.dup, 1) := dk_89 (dk_at dksX3_readsShape_10 23 rfl rfl)
theorem dX3_readsShape_255 : decode cX3_readsShape 255 = .ok (.getfield 175, 3) := dk_180 0 175 (dk_at dksX3_readsShape_11 0 rfl rfl)
theorem dX3_readsShape_258 : decode cX3_readsShape 258 = .ok (.iconst 1, 1) := dk_4 (dk_at dksX3_readsShape_11 3 rfl rfl)
theorem dX3_readsShape_259 : decode cX3_readsShape 259 = .ok (.iadd, 1) := dk_96 (dk_at dksX3_readsShape_11 4 rfl rfl)
theorem dX3_readsShape_260 : decode cX3_readsShape 260 = .ok (.putfield 175, 3) := dk_181 0 175 (dk_at dksX3_readsShape_11 5 rfl rfl)
theorem dX3_readsShape_263 : decode cX3_readsShape 263 = .ok (.goto (-235), 3) := dk_167 255 21 (dk_at dksX3_readsShape_11 8 rfl rfl)
theorem dX3_readsShape_266 : decode cX3_readsShape 266 = .ok (.aload_n 0, 1) := dk_42 (dk_at dksX3_readsShape_11 11 rfl rfl)
theorem dX3_readsShape_267 : decode cX3_readsShape 267 = .ok (.getfield 178, 3) := dk_180 0 178 (dk_at dksX3_readsShape_11 12 rfl rfl)
theorem dX3_readsShape_270 : decode cX3_readsShape 270 = .ok (.ifCond .ge 20, 3) := dk_156 0 20 (dk_at dksX3_readsShape_11 15 rfl rfl)
theorem dX3_readsShape_273 : decode cX3_readsShape 273 = .ok (.aload_n 0, 1) := dk_42 (dk_at dksX3_readsShape_11 18 rfl rfl)
theorem dX3_readsShape_274 : decode cX3_readsShape 274 = .ok (.getfield 43, 3) := dk_180 0 43 (dk_at dksX3_readsShape_11 19 rfl rfl)
theorem dX3_readsShape_277 : decode cX3_readsShape 277 = .ok (.iconst 1, 1) := dk_4 (dk_at dksX3_readsShape_11 22 rfl rfl)
theorem dX3_readsShape_278 : decode cX3_readsShape 278 = .ok (.iaload, 1) := dk_46 (dk_at dksX3_readsShape_11 23 rfl rfl)
theorem dX3_readsShape_279 : decode cX3_readsShape 279 = .ok (.ifCond .ge 11, 3) := dk_156 0 11 (dk_at dksX3_readsShape_12 0 rfl rfl)
theorem dX3_readsShape_282 : decode cX3_readsShape 282 = .ok (.aload_n 0, 1) := dk_42 (dk_at dksX3_readsShape_12 3 rfl rfl)
theorem dX3_readsShape_283 : decode cX3_readsShape 283 = .ok (.aload_n 0, 1) := dk_42 (dk_at dksX3_readsShape_12 4 rfl rfl)
theorem dX3_readsShape_284 : decode cX3_readsShape 284 = .ok (.getfield 172, 3) := dk_180 0 172 (dk_at dksX3_readsShape_12 5 rfl rfl)
theorem dX3_readsShape_287 : decode cX3_readsShape 287 = .ok (.putfield 178, 3) := dk_181 0 178 (dk_at dksX3_readsShape_12 8 rfl rfl)
theorem dX3_readsShape_290 : decode cX3_readsShape 290 = .ok (.return_, 1) := dk_177 (dk_at dksX3_readsShape_12 11 rfl rfl)
abbrev cX3_here : ByteArray := prog_11_method_46_code
def yX3_here : MethodName := ⟨RX3, "here", "()I"⟩
def dkwX3_here_1 : List UInt8 := [172]
abbrev dktX3_here_1 : List UInt8 := dkwX3_here_1 ++ []
def dkwX3_here_0 : List UInt8 := [42, 180, 0, 175, 42, 180, 0, 172, 162, 0, 15, 42, 180, 0, 40, 42, 180, 0, 175, 46, 167, 0, 4, 2]
abbrev dktX3_here_0 : List UInt8 := dkwX3_here_0 ++ dktX3_here_1
theorem dksX3_here_0 : cX3_here.data.toList.drop 0 = dktX3_here_0 := by decide +kernel
theorem dksX3_here_1 : cX3_here.data.toList.drop 24 = dktX3_here_1 := dk_seg dksX3_here_0 24 rfl rfl
theorem dX3_here_0 : decode cX3_here 0 = .ok (.aload_n 0, 1) := dk_42 (dk_at dksX3_here_0 0 rfl rfl)
theorem dX3_here_1 : decode cX3_here 1 = .ok (.getfield 175, 3) := dk_180 0 175 (dk_at dksX3_here_0 1 rfl rfl)
theorem dX3_here_4 : decode cX3_here 4 = .ok (.aload_n 0, 1) := dk_42 (dk_at dksX3_here_0 4 rfl rfl)
theorem dX3_here_5 : decode cX3_here 5 = .ok (.getfield 172, 3) := dk_180 0 172 (dk_at dksX3_here_0 5 rfl rfl)
theorem dX3_here_8 : decode cX3_here 8 = .ok (.if_icmp .ge 15, 3) := dk_162 0 15 (dk_at dksX3_here_0 8 rfl rfl)
theorem dX3_here_11 : decode cX3_here 11 = .ok (.aload_n 0, 1) := dk_42 (dk_at dksX3_here_0 11 rfl rfl)
theorem dX3_here_12 : decode cX3_here 12 = .ok (.getfield 40, 3) := dk_180 0 40 (dk_at dksX3_here_0 12 rfl rfl)
theorem dX3_here_15 : decode cX3_here 15 = .ok (.aload_n 0, 1) := dk_42 (dk_at dksX3_here_0 15 rfl rfl)
theorem dX3_here_16 : decode cX3_here 16 = .ok (.getfield 175, 3) := dk_180 0 175 (dk_at dksX3_here_0 16 rfl rfl)
theorem dX3_here_19 : decode cX3_here 19 = .ok (.iaload, 1) := dk_46 (dk_at dksX3_here_0 19 rfl rfl)
theorem dX3_here_20 : decode cX3_here 20 = .ok (.goto 4, 3) := dk_167 0 4 (dk_at dksX3_here_0 20 rfl rfl)
theorem dX3_here_23 : decode cX3_here 23 = .ok (.iconst (-1), 1) := dk_2 (dk_at dksX3_here_0 23 rfl rfl)
theorem dX3_here_24 : decode cX3_here 24 = .ok (.ireturn, 1) := dk_172 (dk_at dksX3_here_1 0 rfl rfl)
abbrev cX3_choose : ByteArray := prog_11_method_49_code
def yX3_choose : MethodName := ⟨RX3, "choose", "(I)I"⟩
def dkwX3_choose_1 : List UInt8 := [180, 0, 9, 6, 27, 79, 28, 172]
abbrev dktX3_choose_1 : List UInt8 := dkwX3_choose_1 ++ []
def dkwX3_choose_0 : List UInt8 := [27, 3, 5, 184, 0, 57, 154, 0, 5, 2, 172, 42, 182, 0, 151, 42, 180, 0, 9, 6, 46, 61, 42]
abbrev dktX3_choose_0 : List UInt8 := dkwX3_choose_0 ++ dktX3_choose_1
theorem dksX3_choose_0 : cX3_choose.data.toList.drop 0 = dktX3_choose_0 := by decide +kernel
theorem dksX3_choose_1 : cX3_choose.data.toList.drop 23 = dktX3_choose_1 := dk_seg dksX3_choose_0 23 rfl rfl
theorem dX3_choose_0 : decode cX3_choose 0 = .ok (.iload_n 1, 1) := dk_27 (dk_at dksX3_choose_0 0 rfl rfl)
theorem dX3_choose_1 : decode cX3_choose 1 = .ok (.iconst 0, 1) := dk_3 (dk_at dksX3_choose_0 1 rfl rfl)
theorem dX3_choose_2 : decode cX3_choose 2 = .ok (.iconst 2, 1) := dk_5 (dk_at dksX3_choose_0 2 rfl rfl)
theorem dX3_choose_3 : decode cX3_choose 3 = .ok (.invokestatic 57, 3) := dk_184 0 57 (dk_at dksX3_choose_0 3 rfl rfl)
theorem dX3_choose_6 : decode cX3_choose 6 = .ok (.ifCond .ne 5, 3) := dk_154 0 5 (dk_at dksX3_choose_0 6 rfl rfl)
theorem dX3_choose_9 : decode cX3_choose 9 = .ok (.iconst (-1), 1) := dk_2 (dk_at dksX3_choose_0 9 rfl rfl)
theorem dX3_choose_10 : decode cX3_choose 10 = .ok (.ireturn, 1) := dk_172 (dk_at dksX3_choose_0 10 rfl rfl)
theorem dX3_choose_11 : decode cX3_choose 11 = .ok (.aload_n 0, 1) := dk_42 (dk_at dksX3_choose_0 11 rfl rfl)
theorem dX3_choose_12 : decode cX3_choose 12 = .ok (.invokevirtual 151, 3) := dk_182 0 151 (dk_at dksX3_choose_0 12 rfl rfl)
theorem dX3_choose_15 : decode cX3_choose 15 = .ok (.aload_n 0, 1) := dk_42 (dk_at dksX3_choose_0 15 rfl rfl)
theorem dX3_choose_16 : decode cX3_choose 16 = .ok (.getfield 9, 3) := dk_180 0 9 (dk_at dksX3_choose_0 16 rfl rfl)
theorem dX3_choose_19 : decode cX3_choose 19 = .ok (.iconst 3, 1) := dk_6 (dk_at dksX3_choose_0 19 rfl rfl)
theorem dX3_choose_20 : decode cX3_choose 20 = .ok (.iaload, 1) := dk_46 (dk_at dksX3_choose_0 20 rfl rfl)
theorem dX3_choose_21 : decode cX3_choose 21 = .ok (.istore_n 2, 1) := dk_61 (dk_at dksX3_choose_0 21 rfl rfl)
theorem dX3_choose_22 : decode cX3_choose 22 = .ok (.aload_n 0, 1) := dk_42 (dk_at dksX3_choose_0 22 rfl rfl)
theorem dX3_choose_23 : decode cX3_choose 23 = .ok (.getfield 9, 3) := dk_180 0 9 (dk_at dksX3_choose_1 0 rfl rfl)
theorem dX3_choose_26 : decode cX3_choose 26 = .ok (.iconst 3, 1) := dk_6 (dk_at dksX3_choose_1 3 rfl rfl)
theorem dX3_choose_27 : decode cX3_choose 27 = .ok (.iload_n 1, 1) := dk_27 (dk_at dksX3_choose_1 4 rfl rfl)
theorem dX3_choose_28 : decode cX3_choose 28 = .ok (.iastore, 1) := dk_79 (dk_at dksX3_choose_1 5 rfl rfl)
theorem dX3_choose_29 : decode cX3_choose 29 = .ok (.iload_n 2, 1) := dk_28 (dk_at dksX3_choose_1 6 rfl rfl)
theorem dX3_choose_30 : decode cX3_choose 30 = .ok (.ireturn, 1) := dk_172 (dk_at dksX3_choose_1 7 rfl rfl)
abbrev cX3_execute : ByteArray := prog_11_method_54_code
def yX3_execute : MethodName := ⟨RX3, "execute", "()I"⟩
def dkwX3_execute_9 : List UInt8 := [42, 182, 0, 151, 42, 16, 10, 42, 180, 0, 49, 182, 0, 53, 42, 180, 0, 187, 172]
abbrev dktX3_execute_9 : List UInt8 := dkwX3_execute_9 ++ []
def dkwX3_execute_8 : List UInt8 := [27, 104, 4, 96, 46, 42, 180, 0, 46, 6, 27, 104, 5, 96, 46, 182, 0, 206, 132, 1, 1, 167, 255, 153]
abbrev dktX3_execute_8 : List UInt8 := dkwX3_execute_8 ++ dktX3_execute_9
def dkwX3_execute_7 : List UInt8 := [27, 181, 0, 203, 17, 255, 56, 28, 100, 172, 42, 42, 180, 0, 46, 6, 27, 104, 46, 42, 180, 0, 46, 6]
abbrev dktX3_execute_7 : List UInt8 := dkwX3_execute_7 ++ dktX3_execute_8
def dkwX3_execute_6 : List UInt8 := [5, 96, 46, 182, 0, 196, 61, 28, 153, 0, 26, 42, 16, 10, 3, 182, 0, 53, 42, 28, 181, 0, 200, 42]
abbrev dktX3_execute_6 : List UInt8 := dkwX3_execute_6 ++ dktX3_execute_7
def dkwX3_execute_5 : List UInt8 := [180, 0, 46, 6, 27, 104, 46, 42, 180, 0, 46, 6, 27, 104, 4, 96, 46, 42, 180, 0, 46, 6, 27, 104]
abbrev dktX3_execute_5 : List UInt8 := dkwX3_execute_5 ++ dktX3_execute_6
def dkwX3_execute_4 : List UInt8 := [180, 0, 178, 100, 172, 42, 3, 16, 10, 182, 0, 53, 3, 60, 27, 42, 180, 0, 187, 162, 0, 101, 42, 42]
abbrev dktX3_execute_4 : List UInt8 := dkwX3_execute_4 ++ dktX3_execute_5
def dkwX3_execute_3 : List UInt8 := [42, 42, 180, 0, 175, 181, 0, 178, 42, 3, 181, 0, 172, 42, 180, 0, 178, 155, 0, 11, 16, 156, 42]
abbrev dktX3_execute_3 : List UInt8 := dkwX3_execute_3 ++ dktX3_execute_4
def dkwX3_execute_2 : List UInt8 := [182, 0, 193, 167, 255, 226, 42, 180, 0, 178, 156, 0, 22, 42, 180, 0, 175, 42, 180, 0, 172, 162, 0, 11]
abbrev dktX3_execute_2 : List UInt8 := dkwX3_execute_2 ++ dktX3_execute_3
def dkwX3_execute_1 : List UInt8 := [156, 0, 29, 42, 182, 0, 181, 16, 59, 160, 0, 20, 42, 89, 180, 0, 175, 4, 96, 181, 0, 175, 42]
abbrev dktX3_execute_1 : List UInt8 := dkwX3_execute_1 ++ dktX3_execute_2
def dkwX3_execute_0 : List UInt8 := [42, 3, 181, 0, 175, 42, 2, 181, 0, 178, 42, 3, 181, 0, 187, 42, 182, 0, 193, 42, 180, 0, 178]
abbrev dktX3_execute_0 : List UInt8 := dkwX3_execute_0 ++ dktX3_execute_1
theorem dksX3_execute_0 : cX3_execute.data.toList.drop 0 = dktX3_execute_0 := by decide +kernel
theorem dksX3_execute_1 : cX3_execute.data.toList.drop 23 = dktX3_execute_1 := dk_seg dksX3_execute_0 23 rfl rfl
theorem dksX3_execute_2 : cX3_execute.data.toList.drop 46 = dktX3_execute_2 := dk_seg dksX3_execute_1 23 rfl rfl
theorem dksX3_execute_3 : cX3_execute.data.toList.drop 70 = dktX3_execute_3 := dk_seg dksX3_execute_2 24 rfl rfl
theorem dksX3_execute_4 : cX3_execute.data.toList.drop 93 = dktX3_execute_4 := dk_seg dksX3_execute_3 23 rfl rfl
theorem dksX3_execute_5 : cX3_execute.data.toList.drop 117 = dktX3_execute_5 := dk_seg dksX3_execute_4 24 rfl rfl
theorem dksX3_execute_6 : cX3_execute.data.toList.drop 141 = dktX3_execute_6 := dk_seg dksX3_execute_5 24 rfl rfl
theorem dksX3_execute_7 : cX3_execute.data.toList.drop 165 = dktX3_execute_7 := dk_seg dksX3_execute_6 24 rfl rfl
theorem dksX3_execute_8 : cX3_execute.data.toList.drop 189 = dktX3_execute_8 := dk_seg dksX3_execute_7 24 rfl rfl
theorem dksX3_execute_9 : cX3_execute.data.toList.drop 213 = dktX3_execute_9 := dk_seg dksX3_execute_8 24 rfl rfl
theorem dX3_execute_0 : decode cX3_execute 0 = .ok (.aload_n 0, 1) := dk_42 (dk_at dksX3_execute_0 0 rfl rfl)
theorem dX3_execute_1 : decode cX3_execute 1 = .ok (.iconst 0, 1) := dk_3 (dk_at dksX3_execute_0 1 rfl rfl)
theorem dX3_execute_2 : decode cX3_execute 2 = .ok (.putfield 175, 3) := dk_181 0 175 (dk_at dksX3_execute_0 2 rfl rfl)
theorem dX3_execute_5 : decode cX3_execute 5 = .ok (.aload_n 0, 1) := dk_42 (dk_at dksX3_execute_0 5 rfl rfl)
theorem dX3_execute_6 : decode cX3_execute 6 = .ok (.iconst (-1), 1) := dk_2 (dk_at dksX3_execute_0 6 rfl rfl)
theorem dX3_execute_7 : decode cX3_execute 7 = .ok (.putfield 178, 3) := dk_181 0 178 (dk_at dksX3_execute_0 7 rfl rfl)
theorem dX3_execute_10 : decode cX3_execute 10 = .ok (.aload_n 0, 1) := dk_42 (dk_at dksX3_execute_0 10 rfl rfl)
theorem dX3_execute_11 : decode cX3_execute 11 = .ok (.iconst 0, 1) := dk_3 (dk_at dksX3_execute_0 11 rfl rfl)
theorem dX3_execute_12 : decode cX3_execute 12 = .ok (.putfield 187, 3) := dk_181 0 187 (dk_at dksX3_execute_0 12 rfl rfl)
theorem dX3_execute_15 : decode cX3_execute 15 = .ok (.aload_n 0, 1) := dk_42 (dk_at dksX3_execute_0 15 rfl rfl)
theorem dX3_execute_16 : decode cX3_execute 16 = .ok (.invokevirtual 193, 3) := dk_182 0 193 (dk_at dksX3_execute_0 16 rfl rfl)
theorem dX3_execute_19 : decode cX3_execute 19 = .ok (.aload_n 0, 1) := dk_42 (dk_at dksX3_execute_0 19 rfl rfl)
theorem dX3_execute_20 : decode cX3_execute 20 = .ok (.getfield 178, 3) := dk_180 0 178 (dk_at dksX3_execute_0 20 rfl rfl)
theorem dX3_execute_23 : decode cX3_execute 23 = .ok (.ifCond .ge 29, 3) := dk_156 0 29 (dk_at dksX3_execute_1 0 rfl rfl)
theorem dX3_execute_26 : decode cX3_execute 26 = .ok (.aload_n 0, 1) := dk_42 (dk_at dksX3_execute_1 3 rfl rfl)
theorem dX3_execute_27 : decode cX3_execute 27 = .ok (.invokevirtual 181, 3) := dk_182 0 181 (dk_at dksX3_execute_1 4 rfl rfl)
theorem dX3_execute_30 : decode cX3_execute 30 = .ok (.bipush 59, 2) := dk_16 59 (dk_at dksX3_execute_1 7 rfl rfl)
theorem dX3_execute_32 : decode cX3_execute 32 = .ok (.if_icmp .ne 20, 3) := dk_160 0 20 (dk_at dksX3_execute_1 9 rfl rfl)
theorem dX3_execute_35 : decode cX3_execute 35 = .ok (.aload_n 0, 1) := dk_42 (dk_at dksX3_execute_1 12 rfl rfl)
theorem dX3_execute_36 : decode cX3_execute 36 = .ok (.dup, 1) := dk_89 (dk_at dksX3_execute_1 13 rfl rfl)
theorem dX3_execute_37 : decode cX3_execute 37 = .ok (.getfield 175, 3) := dk_180 0 175 (dk_at dksX3_execute_1 14 rfl rfl)
theorem dX3_execute_40 : decode cX3_execute 40 = .ok (.iconst 1, 1) := dk_4 (dk_at dksX3_execute_1 17 rfl rfl)
theorem dX3_execute_41 : decode cX3_execute 41 = .ok (.iadd, 1) := dk_96 (dk_at dksX3_execute_1 18 rfl rfl)
theorem dX3_execute_42 : decode cX3_execute 42 = .ok (.putfield 175, 3) := dk_181 0 175 (dk_at dksX3_execute_1 19 rfl rfl)
theorem dX3_execute_45 : decode cX3_execute 45 = .ok (.aload_n 0, 1) := dk_42 (dk_at dksX3_execute_1 22 rfl rfl)
theorem dX3_execute_46 : decode cX3_execute 46 = .ok (.invokevirtual 193, 3) := dk_182 0 193 (dk_at dksX3_execute_2 0 rfl rfl)
theorem dX3_execute_49 : decode cX3_execute 49 = .ok (.goto (-30), 3) := dk_167 255 226 (dk_at dksX3_execute_2 3 rfl rfl)
theorem dX3_execute_52 : decode cX3_execute 52 = .ok (.aload_n 0, 1) := dk_42 (dk_at dksX3_execute_2 6 rfl rfl)
theorem dX3_execute_53 : decode cX3_execute 53 = .ok (.getfield 178, 3) := dk_180 0 178 (dk_at dksX3_execute_2 7 rfl rfl)
theorem dX3_execute_56 : decode cX3_execute 56 = .ok (.ifCond .ge 22, 3) := dk_156 0 22 (dk_at dksX3_execute_2 10 rfl rfl)
theorem dX3_execute_59 : decode cX3_execute 59 = .ok (.aload_n 0, 1) := dk_42 (dk_at dksX3_execute_2 13 rfl rfl)
theorem dX3_execute_60 : decode cX3_execute 60 = .ok (.getfield 175, 3) := dk_180 0 175 (dk_at dksX3_execute_2 14 rfl rfl)
theorem dX3_execute_63 : decode cX3_execute 63 = .ok (.aload_n 0, 1) := dk_42 (dk_at dksX3_execute_2 17 rfl rfl)
theorem dX3_execute_64 : decode cX3_execute 64 = .ok (.getfield 172, 3) := dk_180 0 172 (dk_at dksX3_execute_2 18 rfl rfl)
theorem dX3_execute_67 : decode cX3_execute 67 = .ok (.if_icmp .ge 11, 3) := dk_162 0 11 (dk_at dksX3_execute_2 21 rfl rfl)
theorem dX3_execute_70 : decode cX3_execute 70 = .ok (.aload_n 0, 1) := dk_42 (dk_at dksX3_execute_3 0 rfl rfl)
theorem dX3_execute_71 : decode cX3_execute 71 = .ok (.aload_n 0, 1) := dk_42 (dk_at dksX3_execute_3 1 rfl rfl)
theorem dX3_execute_72 : decode cX3_execute 72 = .ok (.getfield 175, 3) := dk_180 0 175 (dk_at dksX3_execute_3 2 rfl rfl)
theorem dX3_execute_75 : decode cX3_execute 75 = .ok (.putfield 178, 3) := dk_181 0 178 (dk_at dksX3_execute_3 5 rfl rfl)
theorem dX3_execute_78 : decode cX3_execute 78 = .ok (.aload_n 0, 1) := dk_42 (dk_at dksX3_execute_3 8 rfl rfl)
theorem dX3_execute_79 : decode cX3_execute 79 = .ok (.iconst 0, 1) := dk_3 (dk_at dksX3_execute_3 9 rfl rfl)
theorem dX3_execute_80 : decode cX3_execute 80 = .ok (.putfield 172, 3) := dk_181 0 172 (dk_at dksX3_execute_3 10 rfl rfl)
theorem dX3_execute_83 : decode cX3_execute 83 = .ok (.aload_n 0, 1) := dk_42 (dk_at dksX3_execute_3 13 rfl rfl)
theorem dX3_execute_84 : decode cX3_execute 84 = .ok (.getfield 178, 3) := dk_180 0 178 (dk_at dksX3_execute_3 14 rfl rfl)
theorem dX3_execute_87 : decode cX3_execute 87 = .ok (.ifCond .lt 11, 3) := dk_155 0 11 (dk_at dksX3_execute_3 17 rfl rfl)
theorem dX3_execute_90 : decode cX3_execute 90 = .ok (.bipush (-100), 2) := dk_16 156 (dk_at dksX3_execute_3 20 rfl rfl)
theorem dX3_execute_92 : decode cX3_execute 92 = .ok (.aload_n 0, 1) := dk_42 (dk_at dksX3_execute_3 22 rfl rfl)
theorem dX3_execute_93 : decode cX3_execute 93 = .ok (.getfield 178, 3) := dk_180 0 178 (dk_at dksX3_execute_4 0 rfl rfl)
theorem dX3_execute_96 : decode cX3_execute 96 = .ok (.isub, 1) := dk_100 (dk_at dksX3_execute_4 3 rfl rfl)
theorem dX3_execute_97 : decode cX3_execute 97 = .ok (.ireturn, 1) := dk_172 (dk_at dksX3_execute_4 4 rfl rfl)
theorem dX3_execute_98 : decode cX3_execute 98 = .ok (.aload_n 0, 1) := dk_42 (dk_at dksX3_execute_4 5 rfl rfl)
theorem dX3_execute_99 : decode cX3_execute 99 = .ok (.iconst 0, 1) := dk_3 (dk_at dksX3_execute_4 6 rfl rfl)
theorem dX3_execute_100 : decode cX3_execute 100 = .ok (.bipush 10, 2) := dk_16 10 (dk_at dksX3_execute_4 7 rfl rfl)
theorem dX3_execute_102 : decode cX3_execute 102 = .ok (.invokevirtual 53, 3) := dk_182 0 53 (dk_at dksX3_execute_4 9 rfl rfl)
theorem dX3_execute_105 : decode cX3_execute 105 = .ok (.iconst 0, 1) := dk_3 (dk_at dksX3_execute_4 12 rfl rfl)
theorem dX3_execute_106 : decode cX3_execute 106 = .ok (.istore_n 1, 1) := dk_60 (dk_at dksX3_execute_4 13 rfl rfl)
theorem dX3_execute_107 : decode cX3_execute 107 = .ok (.iload_n 1, 1) := dk_27 (dk_at dksX3_execute_4 14 rfl rfl)
theorem dX3_execute_108 : decode cX3_execute 108 = .ok (.aload_n 0, 1) := dk_42 (dk_at dksX3_execute_4 15 rfl rfl)
theorem dX3_execute_109 : decode cX3_execute 109 = .ok (.getfield 187, 3) := dk_180 0 187 (dk_at dksX3_execute_4 16 rfl rfl)
theorem dX3_execute_112 : decode cX3_execute 112 = .ok (.if_icmp .ge 101, 3) := dk_162 0 101 (dk_at dksX3_execute_4 19 rfl rfl)
theorem dX3_execute_115 : decode cX3_execute 115 = .ok (.aload_n 0, 1) := dk_42 (dk_at dksX3_execute_4 22 rfl rfl)
theorem dX3_execute_116 : decode cX3_execute 116 = .ok (.aload_n 0, 1) := dk_42 (dk_at dksX3_execute_4 23 rfl rfl)
theorem dX3_execute_117 : decode cX3_execute 117 = .ok (.getfield 46, 3) := dk_180 0 46 (dk_at dksX3_execute_5 0 rfl rfl)
theorem dX3_execute_120 : decode cX3_execute 120 = .ok (.iconst 3, 1) := dk_6 (dk_at dksX3_execute_5 3 rfl rfl)
theorem dX3_execute_121 : decode cX3_execute 121 = .ok (.iload_n 1, 1) := dk_27 (dk_at dksX3_execute_5 4 rfl rfl)
theorem dX3_execute_122 : decode cX3_execute 122 = .ok (.imul, 1) := dk_104 (dk_at dksX3_execute_5 5 rfl rfl)
theorem dX3_execute_123 : decode cX3_execute 123 = .ok (.iaload, 1) := dk_46 (dk_at dksX3_execute_5 6 rfl rfl)
theorem dX3_execute_124 : decode cX3_execute 124 = .ok (.aload_n 0, 1) := dk_42 (dk_at dksX3_execute_5 7 rfl rfl)
theorem dX3_execute_125 : decode cX3_execute 125 = .ok (.getfield 46, 3) := dk_180 0 46 (dk_at dksX3_execute_5 8 rfl rfl)
theorem dX3_execute_128 : decode cX3_execute 128 = .ok (.iconst 3, 1) := dk_6 (dk_at dksX3_execute_5 11 rfl rfl)
theorem dX3_execute_129 : decode cX3_execute 129 = .ok (.iload_n 1, 1) := dk_27 (dk_at dksX3_execute_5 12 rfl rfl)
theorem dX3_execute_130 : decode cX3_execute 130 = .ok (.imul, 1) := dk_104 (dk_at dksX3_execute_5 13 rfl rfl)
theorem dX3_execute_131 : decode cX3_execute 131 = .ok (.iconst 1, 1) := dk_4 (dk_at dksX3_execute_5 14 rfl rfl)
theorem dX3_execute_132 : decode cX3_execute 132 = .ok (.iadd, 1) := dk_96 (dk_at dksX3_execute_5 15 rfl rfl)
theorem dX3_execute_133 : decode cX3_execute 133 = .ok (.iaload, 1) := dk_46 (dk_at dksX3_execute_5 16 rfl rfl)
theorem dX3_execute_134 : decode cX3_execute 134 = .ok (.aload_n 0, 1) := dk_42 (dk_at dksX3_execute_5 17 rfl rfl)
theorem dX3_execute_135 : decode cX3_execute 135 = .ok (.getfield 46, 3) := dk_180 0 46 (dk_at dksX3_execute_5 18 rfl rfl)
theorem dX3_execute_138 : decode cX3_execute 138 = .ok (.iconst 3, 1) := dk_6 (dk_at dksX3_execute_5 21 rfl rfl)
theorem dX3_execute_139 : decode cX3_execute 139 = .ok (.iload_n 1, 1) := dk_27 (dk_at dksX3_execute_5 22 rfl rfl)
theorem dX3_execute_140 : decode cX3_execute 140 = .ok (.imul, 1) := dk_104 (dk_at dksX3_execute_5 23 rfl rfl)
theorem dX3_execute_141 : decode cX3_execute 141 = .ok (.iconst 2, 1) := dk_5 (dk_at dksX3_execute_6 0 rfl rfl)
theorem dX3_execute_142 : decode cX3_execute 142 = .ok (.iadd, 1) := dk_96 (dk_at dksX3_execute_6 1 rfl rfl)
theorem dX3_execute_143 : decode cX3_execute 143 = .ok (.iaload, 1) := dk_46 (dk_at dksX3_execute_6 2 rfl rfl)
theorem dX3_execute_144 : decode cX3_execute 144 = .ok (.invokevirtual 196, 3) := dk_182 0 196 (dk_at dksX3_execute_6 3 rfl rfl)
theorem dX3_execute_147 : decode cX3_execute 147 = .ok (.istore_n 2, 1) := dk_61 (dk_at dksX3_execute_6 6 rfl rfl)
theorem dX3_execute_148 : decode cX3_execute 148 = .ok (.iload_n 2, 1) := dk_28 (dk_at dksX3_execute_6 7 rfl rfl)
theorem dX3_execute_149 : decode cX3_execute 149 = .ok (.ifCond .eq 26, 3) := dk_153 0 26 (dk_at dksX3_execute_6 8 rfl rfl)
theorem dX3_execute_152 : decode cX3_execute 152 = .ok (.aload_n 0, 1) := dk_42 (dk_at dksX3_execute_6 11 rfl rfl)
theorem dX3_execute_153 : decode cX3_execute 153 = .ok (.bipush 10, 2) := dk_16 10 (dk_at dksX3_execute_6 12 rfl rfl)
theorem dX3_execute_155 : decode cX3_execute 155 = .ok (.iconst 0, 1) := dk_3 (dk_at dksX3_execute_6 14 rfl rfl)
theorem dX3_execute_156 : decode cX3_execute 156 = .ok (.invokevirtual 53, 3) := dk_182 0 53 (dk_at dksX3_execute_6 15 rfl rfl)
theorem dX3_execute_159 : decode cX3_execute 159 = .ok (.aload_n 0, 1) := dk_42 (dk_at dksX3_execute_6 18 rfl rfl)
theorem dX3_execute_160 : decode cX3_execute 160 = .ok (.iload_n 2, 1) := dk_28 (dk_at dksX3_execute_6 19 rfl rfl)
theorem dX3_execute_161 : decode cX3_execute 161 = .ok (.putfield 200, 3) := dk_181 0 200 (dk_at dksX3_execute_6 20 rfl rfl)
theorem dX3_execute_164 : decode cX3_execute 164 = .ok (.aload_n 0, 1) := dk_42 (dk_at dksX3_execute_6 23 rfl rfl)
theorem dX3_execute_165 : decode cX3_execute 165 = .ok (.iload_n 1, 1) := dk_27 (dk_at dksX3_execute_7 0 rfl rfl)
theorem dX3_execute_166 : decode cX3_execute 166 = .ok (.putfield 203, 3) := dk_181 0 203 (dk_at dksX3_execute_7 1 rfl rfl)
theorem dX3_execute_169 : decode cX3_execute 169 = .ok (.sipush (-200), 3) := dk_17 255 56 (dk_at dksX3_execute_7 4 rfl rfl)
theorem dX3_execute_172 : decode cX3_execute 172 = .ok (.iload_n 2, 1) := dk_28 (dk_at dksX3_execute_7 7 rfl rfl)
theorem dX3_execute_173 : decode cX3_execute 173 = .ok (.isub, 1) := dk_100 (dk_at dksX3_execute_7 8 rfl rfl)
theorem dX3_execute_174 : decode cX3_execute 174 = .ok (.ireturn, 1) := dk_172 (dk_at dksX3_execute_7 9 rfl rfl)
theorem dX3_execute_175 : decode cX3_execute 175 = .ok (.aload_n 0, 1) := dk_42 (dk_at dksX3_execute_7 10 rfl rfl)
theorem dX3_execute_176 : decode cX3_execute 176 = .ok (.aload_n 0, 1) := dk_42 (dk_at dksX3_execute_7 11 rfl rfl)
theorem dX3_execute_177 : decode cX3_execute 177 = .ok (.getfield 46, 3) := dk_180 0 46 (dk_at dksX3_execute_7 12 rfl rfl)
theorem dX3_execute_180 : decode cX3_execute 180 = .ok (.iconst 3, 1) := dk_6 (dk_at dksX3_execute_7 15 rfl rfl)
theorem dX3_execute_181 : decode cX3_execute 181 = .ok (.iload_n 1, 1) := dk_27 (dk_at dksX3_execute_7 16 rfl rfl)
theorem dX3_execute_182 : decode cX3_execute 182 = .ok (.imul, 1) := dk_104 (dk_at dksX3_execute_7 17 rfl rfl)
theorem dX3_execute_183 : decode cX3_execute 183 = .ok (.iaload, 1) := dk_46 (dk_at dksX3_execute_7 18 rfl rfl)
theorem dX3_execute_184 : decode cX3_execute 184 = .ok (.aload_n 0, 1) := dk_42 (dk_at dksX3_execute_7 19 rfl rfl)
theorem dX3_execute_185 : decode cX3_execute 185 = .ok (.getfield 46, 3) := dk_180 0 46 (dk_at dksX3_execute_7 20 rfl rfl)
theorem dX3_execute_188 : decode cX3_execute 188 = .ok (.iconst 3, 1) := dk_6 (dk_at dksX3_execute_7 23 rfl rfl)
theorem dX3_execute_189 : decode cX3_execute 189 = .ok (.iload_n 1, 1) := dk_27 (dk_at dksX3_execute_8 0 rfl rfl)
theorem dX3_execute_190 : decode cX3_execute 190 = .ok (.imul, 1) := dk_104 (dk_at dksX3_execute_8 1 rfl rfl)
theorem dX3_execute_191 : decode cX3_execute 191 = .ok (.iconst 1, 1) := dk_4 (dk_at dksX3_execute_8 2 rfl rfl)
theorem dX3_execute_192 : decode cX3_execute 192 = .ok (.iadd, 1) := dk_96 (dk_at dksX3_execute_8 3 rfl rfl)
theorem dX3_execute_193 : decode cX3_execute 193 = .ok (.iaload, 1) := dk_46 (dk_at dksX3_execute_8 4 rfl rfl)
theorem dX3_execute_194 : decode cX3_execute 194 = .ok (.aload_n 0, 1) := dk_42 (dk_at dksX3_execute_8 5 rfl rfl)
theorem dX3_execute_195 : decode cX3_execute 195 = .ok (.getfield 46, 3) := dk_180 0 46 (dk_at dksX3_execute_8 6 rfl rfl)
theorem dX3_execute_198 : decode cX3_execute 198 = .ok (.iconst 3, 1) := dk_6 (dk_at dksX3_execute_8 9 rfl rfl)
theorem dX3_execute_199 : decode cX3_execute 199 = .ok (.iload_n 1, 1) := dk_27 (dk_at dksX3_execute_8 10 rfl rfl)
theorem dX3_execute_200 : decode cX3_execute 200 = .ok (.imul, 1) := dk_104 (dk_at dksX3_execute_8 11 rfl rfl)
theorem dX3_execute_201 : decode cX3_execute 201 = .ok (.iconst 2, 1) := dk_5 (dk_at dksX3_execute_8 12 rfl rfl)
theorem dX3_execute_202 : decode cX3_execute 202 = .ok (.iadd, 1) := dk_96 (dk_at dksX3_execute_8 13 rfl rfl)
theorem dX3_execute_203 : decode cX3_execute 203 = .ok (.iaload, 1) := dk_46 (dk_at dksX3_execute_8 14 rfl rfl)
theorem dX3_execute_204 : decode cX3_execute 204 = .ok (.invokevirtual 206, 3) := dk_182 0 206 (dk_at dksX3_execute_8 15 rfl rfl)
theorem dX3_execute_207 : decode cX3_execute 207 = .ok (.iinc 1 1, 3) := dk_132 1 1 (dk_at dksX3_execute_8 18 rfl rfl)
theorem dX3_execute_210 : decode cX3_execute 210 = .ok (.goto (-103), 3) := dk_167 255 153 (dk_at dksX3_execute_8 21 rfl rfl)
theorem dX3_execute_213 : decode cX3_execute 213 = .ok (.aload_n 0, 1) := dk_42 (dk_at dksX3_execute_9 0 rfl rfl)
theorem dX3_execute_214 : decode cX3_execute 214 = .ok (.invokevirtual 151, 3) := dk_182 0 151 (dk_at dksX3_execute_9 1 rfl rfl)
theorem dX3_execute_217 : decode cX3_execute 217 = .ok (.aload_n 0, 1) := dk_42 (dk_at dksX3_execute_9 4 rfl rfl)
theorem dX3_execute_218 : decode cX3_execute 218 = .ok (.bipush 10, 2) := dk_16 10 (dk_at dksX3_execute_9 5 rfl rfl)
theorem dX3_execute_220 : decode cX3_execute 220 = .ok (.aload_n 0, 1) := dk_42 (dk_at dksX3_execute_9 7 rfl rfl)
theorem dX3_execute_221 : decode cX3_execute 221 = .ok (.getfield 49, 3) := dk_180 0 49 (dk_at dksX3_execute_9 8 rfl rfl)
theorem dX3_execute_224 : decode cX3_execute 224 = .ok (.invokevirtual 53, 3) := dk_182 0 53 (dk_at dksX3_execute_9 11 rfl rfl)
theorem dX3_execute_227 : decode cX3_execute 227 = .ok (.aload_n 0, 1) := dk_42 (dk_at dksX3_execute_9 14 rfl rfl)
theorem dX3_execute_228 : decode cX3_execute 228 = .ok (.getfield 187, 3) := dk_180 0 187 (dk_at dksX3_execute_9 15 rfl rfl)
theorem dX3_execute_231 : decode cX3_execute 231 = .ok (.ireturn, 1) := dk_172 (dk_at dksX3_execute_9 18 rfl rfl)
abbrev cX3_order : ByteArray := prog_11_method_51_code
def yX3_order : MethodName := ⟨RX3, "order", "()V"⟩
def dkwX3_order_7 : List UInt8 := [180, 0, 187, 4, 96, 181, 0, 187, 177]
abbrev dktX3_order_7 : List UInt8 := dkwX3_order_7 ++ []
def dkwX3_order_6 : List UInt8 := [181, 0, 175, 42, 180, 0, 46, 6, 42, 180, 0, 187, 104, 5, 96, 42, 182, 0, 190, 79, 42, 89]
abbrev dktX3_order_6 : List UInt8 := dkwX3_order_6 ++ dktX3_order_7
def dkwX3_order_5 : List UInt8 := [42, 42, 180, 0, 175, 181, 0, 178, 42, 180, 0, 178, 155, 0, 4, 177, 42, 89, 180, 0, 175, 4, 96]
abbrev dktX3_order_5 : List UInt8 := dkwX3_order_5 ++ dktX3_order_6
def dkwX3_order_4 : List UInt8 := [182, 0, 190, 79, 28, 153, 0, 62, 42, 180, 0, 178, 156, 0, 20, 42, 182, 0, 181, 16, 44, 159, 0, 11]
abbrev dktX3_order_4 : List UInt8 := dkwX3_order_4 ++ dktX3_order_5
def dkwX3_order_3 : List UInt8 := [180, 0, 46, 6, 42, 180, 0, 187, 104, 27, 79, 42, 180, 0, 46, 6, 42, 180, 0, 187, 104, 4, 96, 42]
abbrev dktX3_order_3 : List UInt8 := dkwX3_order_3 ++ dktX3_order_4
def dkwX3_order_2 : List UInt8 := [159, 0, 12, 42, 42, 180, 0, 175, 181, 0, 178, 177, 42, 89, 180, 0, 175, 4, 96, 181, 0, 175, 42]
abbrev dktX3_order_2 : List UInt8 := dkwX3_order_2 ++ dktX3_order_3
def dkwX3_order_1 : List UInt8 := [167, 0, 4, 3, 61, 28, 154, 0, 30, 27, 16, 108, 159, 0, 24, 27, 16, 120, 159, 0, 18, 27, 16, 103]
abbrev dktX3_order_1 : List UInt8 := dkwX3_order_1 ++ dktX3_order_2
def dkwX3_order_0 : List UInt8 := [42, 182, 0, 181, 60, 27, 16, 97, 159, 0, 15, 27, 16, 111, 159, 0, 9, 27, 16, 116, 160, 0, 7, 4]
abbrev dktX3_order_0 : List UInt8 := dkwX3_order_0 ++ dktX3_order_1
theorem dksX3_order_0 : cX3_order.data.toList.drop 0 = dktX3_order_0 := by decide +kernel
theorem dksX3_order_1 : cX3_order.data.toList.drop 24 = dktX3_order_1 := dk_seg dksX3_order_0 24 rfl rfl
theorem dksX3_order_2 : cX3_order.data.toList.drop 48 = dktX3_order_2 := dk_seg dksX3_order_1 24 rfl rfl
theorem dksX3_order_3 : cX3_order.data.toList.drop 71 = dktX3_order_3 := dk_seg dksX3_order_2 23 rfl rfl
theorem dksX3_order_4 : cX3_order.data.toList.drop 95 = dktX3_order_4 := dk_seg dksX3_order_3 24 rfl rfl
theorem dksX3_order_5 : cX3_order.data.toList.drop 119 = dktX3_order_5 := dk_seg dksX3_order_4 24 rfl rfl
theorem dksX3_order_6 : cX3_order.data.toList.drop 142 = dktX3_order_6 := dk_seg dksX3_order_5 23 rfl rfl
theorem dksX3_order_7 : cX3_order.data.toList.drop 164 = dktX3_order_7 := dk_seg dksX3_order_6 22 rfl rfl
theorem dX3_order_0 : decode cX3_order 0 = .ok (.aload_n 0, 1) := dk_42 (dk_at dksX3_order_0 0 rfl rfl)
theorem dX3_order_1 : decode cX3_order 1 = .ok (.invokevirtual 181, 3) := dk_182 0 181 (dk_at dksX3_order_0 1 rfl rfl)
theorem dX3_order_4 : decode cX3_order 4 = .ok (.istore_n 1, 1) := dk_60 (dk_at dksX3_order_0 4 rfl rfl)
theorem dX3_order_5 : decode cX3_order 5 = .ok (.iload_n 1, 1) := dk_27 (dk_at dksX3_order_0 5 rfl rfl)
theorem dX3_order_6 : decode cX3_order 6 = .ok (.bipush 97, 2) := dk_16 97 (dk_at dksX3_order_0 6 rfl rfl)
theorem dX3_order_8 : decode cX3_order 8 = .ok (.if_icmp .eq 15, 3) := dk_159 0 15 (dk_at dksX3_order_0 8 rfl rfl)
theorem dX3_order_11 : decode cX3_order 11 = .ok (.iload_n 1, 1) := dk_27 (dk_at dksX3_order_0 11 rfl rfl)
theorem dX3_order_12 : decode cX3_order 12 = .ok (.bipush 111, 2) := dk_16 111 (dk_at dksX3_order_0 12 rfl rfl)
theorem dX3_order_14 : decode cX3_order 14 = .ok (.if_icmp .eq 9, 3) := dk_159 0 9 (dk_at dksX3_order_0 14 rfl rfl)
theorem dX3_order_17 : decode cX3_order 17 = .ok (.iload_n 1, 1) := dk_27 (dk_at dksX3_order_0 17 rfl rfl)
theorem dX3_order_18 : decode cX3_order 18 = .ok (.bipush 116, 2) := dk_16 116 (dk_at dksX3_order_0 18 rfl rfl)
theorem dX3_order_20 : decode cX3_order 20 = .ok (.if_icmp .ne 7, 3) := dk_160 0 7 (dk_at dksX3_order_0 20 rfl rfl)
theorem dX3_order_23 : decode cX3_order 23 = .ok (.iconst 1, 1) := dk_4 (dk_at dksX3_order_0 23 rfl rfl)
theorem dX3_order_24 : decode cX3_order 24 = .ok (.goto 4, 3) := dk_167 0 4 (dk_at dksX3_order_1 0 rfl rfl)
theorem dX3_order_27 : decode cX3_order 27 = .ok (.iconst 0, 1) := dk_3 (dk_at dksX3_order_1 3 rfl rfl)
theorem dX3_order_28 : decode cX3_order 28 = .ok (.istore_n 2, 1) := dk_61 (dk_at dksX3_order_1 4 rfl rfl)
theorem dX3_order_29 : decode cX3_order 29 = .ok (.iload_n 2, 1) := dk_28 (dk_at dksX3_order_1 5 rfl rfl)
theorem dX3_order_30 : decode cX3_order 30 = .ok (.ifCond .ne 30, 3) := dk_154 0 30 (dk_at dksX3_order_1 6 rfl rfl)
theorem dX3_order_33 : decode cX3_order 33 = .ok (.iload_n 1, 1) := dk_27 (dk_at dksX3_order_1 9 rfl rfl)
theorem dX3_order_34 : decode cX3_order 34 = .ok (.bipush 108, 2) := dk_16 108 (dk_at dksX3_order_1 10 rfl rfl)
theorem dX3_order_36 : decode cX3_order 36 = .ok (.if_icmp .eq 24, 3) := dk_159 0 24 (dk_at dksX3_order_1 12 rfl rfl)
theorem dX3_order_39 : decode cX3_order 39 = .ok (.iload_n 1, 1) := dk_27 (dk_at dksX3_order_1 15 rfl rfl)
theorem dX3_order_40 : decode cX3_order 40 = .ok (.bipush 120, 2) := dk_16 120 (dk_at dksX3_order_1 16 rfl rfl)
theorem dX3_order_42 : decode cX3_order 42 = .ok (.if_icmp .eq 18, 3) := dk_159 0 18 (dk_at dksX3_order_1 18 rfl rfl)
theorem dX3_order_45 : decode cX3_order 45 = .ok (.iload_n 1, 1) := dk_27 (dk_at dksX3_order_1 21 rfl rfl)
theorem dX3_order_46 : decode cX3_order 46 = .ok (.bipush 103, 2) := dk_16 103 (dk_at dksX3_order_1 22 rfl rfl)
theorem dX3_order_48 : decode cX3_order 48 = .ok (.if_icmp .eq 12, 3) := dk_159 0 12 (dk_at dksX3_order_2 0 rfl rfl)
theorem dX3_order_51 : decode cX3_order 51 = .ok (.aload_n 0, 1) := dk_42 (dk_at dksX3_order_2 3 rfl rfl)
theorem dX3_order_52 : decode cX3_order 52 = .ok (.aload_n 0, 1) := dk_42 (dk_at dksX3_order_2 4 rfl rfl)
theorem dX3_order_53 : decode cX3_order 53 = .ok (.getfield 175, 3) := dk_180 0 175 (dk_at dksX3_order_2 5 rfl rfl)
theorem dX3_order_56 : decode cX3_order 56 = .ok (.putfield 178, 3) := dk_181 0 178 (dk_at dksX3_order_2 8 rfl rfl)
theorem dX3_order_59 : decode cX3_order 59 = .ok (.return_, 1) := dk_177 (dk_at dksX3_order_2 11 rfl rfl)
theorem dX3_order_60 : decode cX3_order 60 = .ok (.aload_n 0, 1) := dk_42 (dk_at dksX3_order_2 12 rfl rfl)
theorem dX3_order_61 : decode cX3_order 61 = .ok (.dup, 1) := dk_89 (dk_at dksX3_order_2 13 rfl rfl)
theorem dX3_order_62 : decode cX3_order 62 = .ok (.getfield 175, 3) := dk_180 0 175 (dk_at dksX3_order_2 14 rfl rfl)
theorem dX3_order_65 : decode cX3_order 65 = .ok (.iconst 1, 1) := dk_4 (dk_at dksX3_order_2 17 rfl rfl)
theorem dX3_order_66 : decode cX3_order 66 = .ok (.iadd, 1) := dk_96 (dk_at dksX3_order_2 18 rfl rfl)
theorem dX3_order_67 : decode cX3_order 67 = .ok (.putfield 175, 3) := dk_181 0 175 (dk_at dksX3_order_2 19 rfl rfl)
theorem dX3_order_70 : decode cX3_order 70 = .ok (.aload_n 0, 1) := dk_42 (dk_at dksX3_order_2 22 rfl rfl)
theorem dX3_order_71 : decode cX3_order 71 = .ok (.getfield 46, 3) := dk_180 0 46 (dk_at dksX3_order_3 0 rfl rfl)
theorem dX3_order_74 : decode cX3_order 74 = .ok (.iconst 3, 1) := dk_6 (dk_at dksX3_order_3 3 rfl rfl)
theorem dX3_order_75 : decode cX3_order 75 = .ok (.aload_n 0, 1) := dk_42 (dk_at dksX3_order_3 4 rfl rfl)
theorem dX3_order_76 : decode cX3_order 76 = .ok (.getfield 187, 3) := dk_180 0 187 (dk_at dksX3_order_3 5 rfl rfl)
theorem dX3_order_79 : decode cX3_order 79 = .ok (.imul, 1) := dk_104 (dk_at dksX3_order_3 8 rfl rfl)
theorem dX3_order_80 : decode cX3_order 80 = .ok (.iload_n 1, 1) := dk_27 (dk_at dksX3_order_3 9 rfl rfl)
theorem dX3_order_81 : decode cX3_order 81 = .ok (.iastore, 1) := dk_79 (dk_at dksX3_order_3 10 rfl rfl)
theorem dX3_order_82 : decode cX3_order 82 = .ok (.aload_n 0, 1) := dk_42 (dk_at dksX3_order_3 11 rfl rfl)
theorem dX3_order_83 : decode cX3_order 83 = .ok (.getfield 46, 3) := dk_180 0 46 (dk_at dksX3_order_3 12 rfl rfl)
theorem dX3_order_86 : decode cX3_order 86 = .ok (.iconst 3, 1) := dk_6 (dk_at dksX3_order_3 15 rfl rfl)
theorem dX3_order_87 : decode cX3_order 87 = .ok (.aload_n 0, 1) := dk_42 (dk_at dksX3_order_3 16 rfl rfl)
theorem dX3_order_88 : decode cX3_order 88 = .ok (.getfield 187, 3) := dk_180 0 187 (dk_at dksX3_order_3 17 rfl rfl)
theorem dX3_order_91 : decode cX3_order 91 = .ok (.imul, 1) := dk_104 (dk_at dksX3_order_3 20 rfl rfl)
theorem dX3_order_92 : decode cX3_order 92 = .ok (.iconst 1, 1) := dk_4 (dk_at dksX3_order_3 21 rfl rfl)
theorem dX3_order_93 : decode cX3_order 93 = .ok (.iadd, 1) := dk_96 (dk_at dksX3_order_3 22 rfl rfl)
theorem dX3_order_94 : decode cX3_order 94 = .ok (.aload_n 0, 1) := dk_42 (dk_at dksX3_order_3 23 rfl rfl)
theorem dX3_order_95 : decode cX3_order 95 = .ok (.invokevirtual 190, 3) := dk_182 0 190 (dk_at dksX3_order_4 0 rfl rfl)
theorem dX3_order_98 : decode cX3_order 98 = .ok (.iastore, 1) := dk_79 (dk_at dksX3_order_4 3 rfl rfl)
theorem dX3_order_99 : decode cX3_order 99 = .ok (.iload_n 2, 1) := dk_28 (dk_at dksX3_order_4 4 rfl rfl)
theorem dX3_order_100 : decode cX3_order 100 = .ok (.ifCond .eq 62, 3) := dk_153 0 62 (dk_at dksX3_order_4 5 rfl rfl)
theorem dX3_order_103 : decode cX3_order 103 = .ok (.aload_n 0, 1) := dk_42 (dk_at dksX3_order_4 8 rfl rfl)
theorem dX3_order_104 : decode cX3_order 104 = .ok (.getfield 178, 3) := dk_180 0 178 (dk_at dksX3_order_4 9 rfl rfl)
theorem dX3_order_107 : decode cX3_order 107 = .ok (.ifCond .ge 20, 3) := dk_156 0 20 (dk_at dksX3_order_4 12 rfl rfl)
theorem dX3_order_110 : decode cX3_order 110 = .ok (.aload_n 0, 1) := dk_42 (dk_at dksX3_order_4 15 rfl rfl)
theorem dX3_order_111 : decode cX3_order 111 = .ok (.invokevirtual 181, 3) := dk_182 0 181 (dk_at dksX3_order_4 16 rfl rfl)
theorem dX3_order_114 : decode cX3_order 114 = .ok (.bipush 44, 2) := dk_16 44 (dk_at dksX3_order_4 19 rfl rfl)
theorem dX3_order_116 : decode cX3_order 116 = .ok (.if_icmp .eq 11, 3) := dk_159 0 11 (dk_at dksX3_order_4 21 rfl rfl)
theorem dX3_order_119 : decode cX3_order 119 = .ok (.aload_n 0, 1) := dk_42 (dk_at dksX3_order_5 0 rfl rfl)
theorem dX3_order_120 : decode cX3_order 120 = .ok (.aload_n 0, 1) := dk_42 (dk_at dksX3_order_5 1 rfl rfl)
theorem dX3_order_121 : decode cX3_order 121 = .ok (.getfield 175, 3) := dk_180 0 175 (dk_at dksX3_order_5 2 rfl rfl)
theorem dX3_order_124 : decode cX3_order 124 = .ok (.putfield 178, 3) := dk_181 0 178 (dk_at dksX3_order_5 5 rfl rfl)
theorem dX3_order_127 : decode cX3_order 127 = .ok (.aload_n 0, 1) := dk_42 (dk_at dksX3_order_5 8 rfl rfl)
theorem dX3_order_128 : decode cX3_order 128 = .ok (.getfield 178, 3) := dk_180 0 178 (dk_at dksX3_order_5 9 rfl rfl)
theorem dX3_order_131 : decode cX3_order 131 = .ok (.ifCond .lt 4, 3) := dk_155 0 4 (dk_at dksX3_order_5 12 rfl rfl)
theorem dX3_order_134 : decode cX3_order 134 = .ok (.return_, 1) := dk_177 (dk_at dksX3_order_5 15 rfl rfl)
theorem dX3_order_135 : decode cX3_order 135 = .ok (.aload_n 0, 1) := dk_42 (dk_at dksX3_order_5 16 rfl rfl)
theorem dX3_order_136 : decode cX3_order 136 = .ok (.dup, 1) := dk_89 (dk_at dksX3_order_5 17 rfl rfl)
theorem dX3_order_137 : decode cX3_order 137 = .ok (.getfield 175, 3) := dk_180 0 175 (dk_at dksX3_order_5 18 rfl rfl)
theorem dX3_order_140 : decode cX3_order 140 = .ok (.iconst 1, 1) := dk_4 (dk_at dksX3_order_5 21 rfl rfl)
theorem dX3_order_141 : decode cX3_order 141 = .ok (.iadd, 1) := dk_96 (dk_at dksX3_order_5 22 rfl rfl)
theorem dX3_order_142 : decode cX3_order 142 = .ok (.putfield 175, 3) := dk_181 0 175 (dk_at dksX3_order_6 0 rfl rfl)
theorem dX3_order_145 : decode cX3_order 145 = .ok (.aload_n 0, 1) := dk_42 (dk_at dksX3_order_6 3 rfl rfl)
theorem dX3_order_146 : decode cX3_order 146 = .ok (.getfield 46, 3) := dk_180 0 46 (dk_at dksX3_order_6 4 rfl rfl)
theorem dX3_order_149 : decode cX3_order 149 = .ok (.iconst 3, 1) := dk_6 (dk_at dksX3_order_6 7 rfl rfl)
theorem dX3_order_150 : decode cX3_order 150 = .ok (.aload_n 0, 1) := dk_42 (dk_at dksX3_order_6 8 rfl rfl)
theorem dX3_order_151 : decode cX3_order 151 = .ok (.getfield 187, 3) := dk_180 0 187 (dk_at dksX3_order_6 9 rfl rfl)
theorem dX3_order_154 : decode cX3_order 154 = .ok (.imul, 1) := dk_104 (dk_at dksX3_order_6 12 rfl rfl)
theorem dX3_order_155 : decode cX3_order 155 = .ok (.iconst 2, 1) := dk_5 (dk_at dksX3_order_6 13 rfl rfl)
theorem dX3_order_156 : decode cX3_order 156 = .ok (.iadd, 1) := dk_96 (dk_at dksX3_order_6 14 rfl rfl)
theorem dX3_order_157 : decode cX3_order 157 = .ok (.aload_n 0, 1) := dk_42 (dk_at dksX3_order_6 15 rfl rfl)
theorem dX3_order_158 : decode cX3_order 158 = .ok (.invokevirtual 190, 3) := dk_182 0 190 (dk_at dksX3_order_6 16 rfl rfl)
theorem dX3_order_161 : decode cX3_order 161 = .ok (.iastore, 1) := dk_79 (dk_at dksX3_order_6 19 rfl rfl)
theorem dX3_order_162 : decode cX3_order 162 = .ok (.aload_n 0, 1) := dk_42 (dk_at dksX3_order_6 20 rfl rfl)
theorem dX3_order_163 : decode cX3_order 163 = .ok (.dup, 1) := dk_89 (dk_at dksX3_order_6 21 rfl rfl)
theorem dX3_order_164 : decode cX3_order 164 = .ok (.getfield 187, 3) := dk_180 0 187 (dk_at dksX3_order_7 0 rfl rfl)
theorem dX3_order_167 : decode cX3_order 167 = .ok (.iconst 1, 1) := dk_4 (dk_at dksX3_order_7 3 rfl rfl)
theorem dX3_order_168 : decode cX3_order 168 = .ok (.iadd, 1) := dk_96 (dk_at dksX3_order_7 4 rfl rfl)
theorem dX3_order_169 : decode cX3_order 169 = .ok (.putfield 187, 3) := dk_181 0 187 (dk_at dksX3_order_7 5 rfl rfl)
theorem dX3_order_172 : decode cX3_order 172 = .ok (.return_, 1) := dk_177 (dk_at dksX3_order_7 8 rfl rfl)
abbrev cX3_number : ByteArray := prog_11_method_50_code
def yX3_number : MethodName := ⟨RX3, "number", "()I"⟩
def dkwX3_number_3 : List UInt8 := [100, 60, 42, 89, 180, 0, 175, 4, 96, 181, 0, 175, 132, 2, 1, 167, 255, 204, 27, 172]
abbrev dktX3_number_3 : List UInt8 := dkwX3_number_3 ++ []
def dkwX3_number_2 : List UInt8 := [182, 0, 181, 16, 48, 16, 57, 184, 0, 57, 153, 0, 32, 16, 10, 27, 104, 42, 182, 0, 181, 96, 16, 48]
abbrev dktX3_number_2 : List UInt8 := dkwX3_number_2 ++ dktX3_number_3
def dkwX3_number_1 : List UInt8 := [180, 0, 175, 181, 0, 178, 3, 60, 3, 61, 28, 5, 162, 0, 53, 42, 180, 0, 178, 156, 0, 46, 42]
abbrev dktX3_number_1 : List UInt8 := dkwX3_number_1 ++ dktX3_number_2
def dkwX3_number_0 : List UInt8 := [42, 180, 0, 178, 156, 0, 25, 42, 182, 0, 181, 16, 48, 16, 57, 184, 0, 57, 154, 0, 11, 42, 42]
abbrev dktX3_number_0 : List UInt8 := dkwX3_number_0 ++ dktX3_number_1
theorem dksX3_number_0 : cX3_number.data.toList.drop 0 = dktX3_number_0 := by decide +kernel
theorem dksX3_number_1 : cX3_number.data.toList.drop 23 = dktX3_number_1 := dk_seg dksX3_number_0 23 rfl rfl
theorem dksX3_number_2 : cX3_number.data.toList.drop 46 = dktX3_number_2 := dk_seg dksX3_number_1 23 rfl rfl
theorem dksX3_number_3 : cX3_number.data.toList.drop 70 = dktX3_number_3 := dk_seg dksX3_number_2 24 rfl rfl
theorem dX3_number_0 : decode cX3_number 0 = .ok (.aload_n 0, 1) := dk_42 (dk_at dksX3_number_0 0 rfl rfl)
theorem dX3_number_1 : decode cX3_number 1 = .ok (.getfield 178, 3) := dk_180 0 178 (dk_at dksX3_number_0 1 rfl rfl)
theorem dX3_number_4 : decode cX3_number 4 = .ok (.ifCond .ge 25, 3) := dk_156 0 25 (dk_at dksX3_number_0 4 rfl rfl)
theorem dX3_number_7 : decode cX3_number 7 = .ok (.aload_n 0, 1) := dk_42 (dk_at dksX3_number_0 7 rfl rfl)
theorem dX3_number_8 : decode cX3_number 8 = .ok (.invokevirtual 181, 3) := dk_182 0 181 (dk_at dksX3_number_0 8 rfl rfl)
theorem dX3_number_11 : decode cX3_number 11 = .ok (.bipush 48, 2) := dk_16 48 (dk_at dksX3_number_0 11 rfl rfl)
theorem dX3_number_13 : decode cX3_number 13 = .ok (.bipush 57, 2) := dk_16 57 (dk_at dksX3_number_0 13 rfl rfl)
theorem dX3_number_15 : decode cX3_number 15 = .ok (.invokestatic 57, 3) := dk_184 0 57 (dk_at dksX3_number_0 15 rfl rfl)
theorem dX3_number_18 : decode cX3_number 18 = .ok (.ifCond .ne 11, 3) := dk_154 0 11 (dk_at dksX3_number_0 18 rfl rfl)
theorem dX3_number_21 : decode cX3_number 21 = .ok (.aload_n 0, 1) := dk_42 (dk_at dksX3_number_0 21 rfl rfl)
theorem dX3_number_22 : decode cX3_number 22 = .ok (.aload_n 0, 1) := dk_42 (dk_at dksX3_number_0 22 rfl rfl)
theorem dX3_number_23 : decode cX3_number 23 = .ok (.getfield 175, 3) := dk_180 0 175 (dk_at dksX3_number_1 0 rfl rfl)
theorem dX3_number_26 : decode cX3_number 26 = .ok (.putfield 178, 3) := dk_181 0 178 (dk_at dksX3_number_1 3 rfl rfl)
theorem dX3_number_29 : decode cX3_number 29 = .ok (.iconst 0, 1) := dk_3 (dk_at dksX3_number_1 6 rfl rfl)
theorem dX3_number_30 : decode cX3_number 30 = .ok (.istore_n 1, 1) := dk_60 (dk_at dksX3_number_1 7 rfl rfl)
theorem dX3_number_31 : decode cX3_number 31 = .ok (.iconst 0, 1) := dk_3 (dk_at dksX3_number_1 8 rfl rfl)
theorem dX3_number_32 : decode cX3_number 32 = .ok (.istore_n 2, 1) := dk_61 (dk_at dksX3_number_1 9 rfl rfl)
theorem dX3_number_33 : decode cX3_number 33 = .ok (.iload_n 2, 1) := dk_28 (dk_at dksX3_number_1 10 rfl rfl)
theorem dX3_number_34 : decode cX3_number 34 = .ok (.iconst 2, 1) := dk_5 (dk_at dksX3_number_1 11 rfl rfl)
theorem dX3_number_35 : decode cX3_number 35 = .ok (.if_icmp .ge 53, 3) := dk_162 0 53 (dk_at dksX3_number_1 12 rfl rfl)
theorem dX3_number_38 : decode cX3_number 38 = .ok (.aload_n 0, 1) := dk_42 (dk_at dksX3_number_1 15 rfl rfl)
theorem dX3_number_39 : decode cX3_number 39 = .ok (.getfield 178, 3) := dk_180 0 178 (dk_at dksX3_number_1 16 rfl rfl)
theorem dX3_number_42 : decode cX3_number 42 = .ok (.ifCond .ge 46, 3) := dk_156 0 46 (dk_at dksX3_number_1 19 rfl rfl)
theorem dX3_number_45 : decode cX3_number 45 = .ok (.aload_n 0, 1) := dk_42 (dk_at dksX3_number_1 22 rfl rfl)
theorem dX3_number_46 : decode cX3_number 46 = .ok (.invokevirtual 181, 3) := dk_182 0 181 (dk_at dksX3_number_2 0 rfl rfl)
theorem dX3_number_49 : decode cX3_number 49 = .ok (.bipush 48, 2) := dk_16 48 (dk_at dksX3_number_2 3 rfl rfl)
theorem dX3_number_51 : decode cX3_number 51 = .ok (.bipush 57, 2) := dk_16 57 (dk_at dksX3_number_2 5 rfl rfl)
theorem dX3_number_53 : decode cX3_number 53 = .ok (.invokestatic 57, 3) := dk_184 0 57 (dk_at dksX3_number_2 7 rfl rfl)
theorem dX3_number_56 : decode cX3_number 56 = .ok (.ifCond .eq 32, 3) := dk_153 0 32 (dk_at dksX3_number_2 10 rfl rfl)
theorem dX3_number_59 : decode cX3_number 59 = .ok (.bipush 10, 2) := dk_16 10 (dk_at dksX3_number_2 13 rfl rfl)
theorem dX3_number_61 : decode cX3_number 61 = .ok (.iload_n 1, 1) := dk_27 (dk_at dksX3_number_2 15 rfl rfl)
theorem dX3_number_62 : decode cX3_number 62 = .ok (.imul, 1) := dk_104 (dk_at dksX3_number_2 16 rfl rfl)
theorem dX3_number_63 : decode cX3_number 63 = .ok (.aload_n 0, 1) := dk_42 (dk_at dksX3_number_2 17 rfl rfl)
theorem dX3_number_64 : decode cX3_number 64 = .ok (.invokevirtual 181, 3) := dk_182 0 181 (dk_at dksX3_number_2 18 rfl rfl)
theorem dX3_number_67 : decode cX3_number 67 = .ok (.iadd, 1) := dk_96 (dk_at dksX3_number_2 21 rfl rfl)
theorem dX3_number_68 : decode cX3_number 68 = .ok (.bipush 48, 2) := dk_16 48 (dk_at dksX3_number_2 22 rfl rfl)
theorem dX3_number_70 : decode cX3_number 70 = .ok (.isub, 1) := dk_100 (dk_at dksX3_number_3 0 rfl rfl)
theorem dX3_number_71 : decode cX3_number 71 = .ok (.istore_n 1, 1) := dk_60 (dk_at dksX3_number_3 1 rfl rfl)
theorem dX3_number_72 : decode cX3_number 72 = .ok (.aload_n 0, 1) := dk_42 (dk_at dksX3_number_3 2 rfl rfl)
theorem dX3_number_73 : decode cX3_number 73 = .ok (.dup, 1) := dk_89 (dk_at dksX3_number_3 3 rfl rfl)
theorem dX3_number_74 : decode cX3_number 74 = .ok (.getfield 175, 3) := dk_180 0 175 (dk_at dksX3_number_3 4 rfl rfl)
theorem dX3_number_77 : decode cX3_number 77 = .ok (.iconst 1, 1) := dk_4 (dk_at dksX3_number_3 7 rfl rfl)
theorem dX3_number_78 : decode cX3_number 78 = .ok (.iadd, 1) := dk_96 (dk_at dksX3_number_3 8 rfl rfl)
theorem dX3_number_79 : decode cX3_number 79 = .ok (.putfield 175, 3) := dk_181 0 175 (dk_at dksX3_number_3 9 rfl rfl)
theorem dX3_number_82 : decode cX3_number 82 = .ok (.iinc 2 1, 3) := dk_132 2 1 (dk_at dksX3_number_3 12 rfl rfl)
theorem dX3_number_85 : decode cX3_number 85 = .ok (.goto (-52), 3) := dk_167 255 204 (dk_at dksX3_number_3 15 rfl rfl)
theorem dX3_number_88 : decode cX3_number 88 = .ok (.iload_n 1, 1) := dk_27 (dk_at dksX3_number_3 18 rfl rfl)
theorem dX3_number_89 : decode cX3_number 89 = .ok (.ireturn, 1) := dk_172 (dk_at dksX3_number_3 19 rfl rfl)
abbrev cX3_refusal : ByteArray := prog_11_method_52_code
def yX3_refusal : MethodName := ⟨RX3, "refusal", "(III)I"⟩
def dkwX3_refusal_6 : List UInt8 := [160, 0, 7, 7, 167, 0, 4, 3, 172]
abbrev dktX3_refusal_6 : List UInt8 := dkwX3_refusal_6 ++ []
def dkwX3_refusal_5 : List UInt8 := [182, 0, 121, 155, 0, 7, 6, 167, 0, 25, 27, 16, 97, 160, 0, 18, 42, 180, 0, 9, 3, 46, 16, 10]
abbrev dktX3_refusal_5 : List UInt8 := dkwX3_refusal_5 ++ dktX3_refusal_6
def dkwX3_refusal_4 : List UInt8 := [3, 172, 27, 16, 97, 160, 0, 14, 42, 21, 4, 182, 0, 69, 153, 0, 5, 5, 172, 42, 21, 4]
abbrev dktX3_refusal_4 : List UInt8 := dkwX3_refusal_4 ++ dktX3_refusal_5
def dkwX3_refusal_3 : List UInt8 := [16, 9, 184, 0, 57, 154, 0, 5, 4, 172, 16, 12, 29, 104, 28, 96, 54, 4, 27, 16, 116, 160, 0, 5]
abbrev dktX3_refusal_3 : List UInt8 := dkwX3_refusal_3 ++ dktX3_refusal_4
def dkwX3_refusal_2 : List UInt8 := [182, 0, 65, 153, 0, 7, 3, 167, 0, 4, 8, 172, 28, 3, 16, 11, 184, 0, 57, 153, 0, 13, 29, 3]
abbrev dktX3_refusal_2 : List UInt8 := dkwX3_refusal_2 ++ dktX3_refusal_3
def dkwX3_refusal_1 : List UInt8 := [153, 0, 7, 3, 167, 0, 5, 16, 6, 172, 27, 16, 108, 159, 0, 9, 27, 16, 120, 160, 0, 17, 42, 28]
abbrev dktX3_refusal_1 : List UInt8 := dkwX3_refusal_1 ++ dktX3_refusal_2
def dkwX3_refusal_0 : List UInt8 := [27, 16, 103, 160, 0, 31, 42, 182, 0, 85, 156, 0, 7, 8, 167, 0, 19, 28, 4, 16, 40, 184, 0, 57]
abbrev dktX3_refusal_0 : List UInt8 := dkwX3_refusal_0 ++ dktX3_refusal_1
theorem dksX3_refusal_0 : cX3_refusal.data.toList.drop 0 = dktX3_refusal_0 := by decide +kernel
theorem dksX3_refusal_1 : cX3_refusal.data.toList.drop 24 = dktX3_refusal_1 := dk_seg dksX3_refusal_0 24 rfl rfl
theorem dksX3_refusal_2 : cX3_refusal.data.toList.drop 48 = dktX3_refusal_2 := dk_seg dksX3_refusal_1 24 rfl rfl
theorem dksX3_refusal_3 : cX3_refusal.data.toList.drop 72 = dktX3_refusal_3 := dk_seg dksX3_refusal_2 24 rfl rfl
theorem dksX3_refusal_4 : cX3_refusal.data.toList.drop 96 = dktX3_refusal_4 := dk_seg dksX3_refusal_3 24 rfl rfl
theorem dksX3_refusal_5 : cX3_refusal.data.toList.drop 118 = dktX3_refusal_5 := dk_seg dksX3_refusal_4 22 rfl rfl
theorem dksX3_refusal_6 : cX3_refusal.data.toList.drop 142 = dktX3_refusal_6 := dk_seg dksX3_refusal_5 24 rfl rfl
theorem dX3_refusal_0 : decode cX3_refusal 0 = .ok (.iload_n 1, 1) := dk_27 (dk_at dksX3_refusal_0 0 rfl rfl)
theorem dX3_refusal_1 : decode cX3_refusal 1 = .ok (.bipush 103, 2) := dk_16 103 (dk_at dksX3_refusal_0 1 rfl rfl)
theorem dX3_refusal_3 : decode cX3_refusal 3 = .ok (.if_icmp .ne 31, 3) := dk_160 0 31 (dk_at dksX3_refusal_0 3 rfl rfl)
theorem dX3_refusal_6 : decode cX3_refusal 6 = .ok (.aload_n 0, 1) := dk_42 (dk_at dksX3_refusal_0 6 rfl rfl)
theorem dX3_refusal_7 : decode cX3_refusal 7 = .ok (.invokevirtual 85, 3) := dk_182 0 85 (dk_at dksX3_refusal_0 7 rfl rfl)
theorem dX3_refusal_10 : decode cX3_refusal 10 = .ok (.ifCond .ge 7, 3) := dk_156 0 7 (dk_at dksX3_refusal_0 10 rfl rfl)
theorem dX3_refusal_13 : decode cX3_refusal 13 = .ok (.iconst 5, 1) := dk_8 (dk_at dksX3_refusal_0 13 rfl rfl)
theorem dX3_refusal_14 : decode cX3_refusal 14 = .ok (.goto 19, 3) := dk_167 0 19 (dk_at dksX3_refusal_0 14 rfl rfl)
theorem dX3_refusal_17 : decode cX3_refusal 17 = .ok (.iload_n 2, 1) := dk_28 (dk_at dksX3_refusal_0 17 rfl rfl)
theorem dX3_refusal_18 : decode cX3_refusal 18 = .ok (.iconst 1, 1) := dk_4 (dk_at dksX3_refusal_0 18 rfl rfl)
theorem dX3_refusal_19 : decode cX3_refusal 19 = .ok (.bipush 40, 2) := dk_16 40 (dk_at dksX3_refusal_0 19 rfl rfl)
theorem dX3_refusal_21 : decode cX3_refusal 21 = .ok (.invokestatic 57, 3) := dk_184 0 57 (dk_at dksX3_refusal_0 21 rfl rfl)
theorem dX3_refusal_24 : decode cX3_refusal 24 = .ok (.ifCond .eq 7, 3) := dk_153 0 7 (dk_at dksX3_refusal_1 0 rfl rfl)
theorem dX3_refusal_27 : decode cX3_refusal 27 = .ok (.iconst 0, 1) := dk_3 (dk_at dksX3_refusal_1 3 rfl rfl)
theorem dX3_refusal_28 : decode cX3_refusal 28 = .ok (.goto 5, 3) := dk_167 0 5 (dk_at dksX3_refusal_1 4 rfl rfl)
theorem dX3_refusal_31 : decode cX3_refusal 31 = .ok (.bipush 6, 2) := dk_16 6 (dk_at dksX3_refusal_1 7 rfl rfl)
theorem dX3_refusal_33 : decode cX3_refusal 33 = .ok (.ireturn, 1) := dk_172 (dk_at dksX3_refusal_1 9 rfl rfl)
theorem dX3_refusal_34 : decode cX3_refusal 34 = .ok (.iload_n 1, 1) := dk_27 (dk_at dksX3_refusal_1 10 rfl rfl)
theorem dX3_refusal_35 : decode cX3_refusal 35 = .ok (.bipush 108, 2) := dk_16 108 (dk_at dksX3_refusal_1 11 rfl rfl)
theorem dX3_refusal_37 : decode cX3_refusal 37 = .ok (.if_icmp .eq 9, 3) := dk_159 0 9 (dk_at dksX3_refusal_1 13 rfl rfl)
theorem dX3_refusal_40 : decode cX3_refusal 40 = .ok (.iload_n 1, 1) := dk_27 (dk_at dksX3_refusal_1 16 rfl rfl)
theorem dX3_refusal_41 : decode cX3_refusal 41 = .ok (.bipush 120, 2) := dk_16 120 (dk_at dksX3_refusal_1 17 rfl rfl)
theorem dX3_refusal_43 : decode cX3_refusal 43 = .ok (.if_icmp .ne 17, 3) := dk_160 0 17 (dk_at dksX3_refusal_1 19 rfl rfl)
theorem dX3_refusal_46 : decode cX3_refusal 46 = .ok (.aload_n 0, 1) := dk_42 (dk_at dksX3_refusal_1 22 rfl rfl)
theorem dX3_refusal_47 : decode cX3_refusal 47 = .ok (.iload_n 2, 1) := dk_28 (dk_at dksX3_refusal_1 23 rfl rfl)
theorem dX3_refusal_48 : decode cX3_refusal 48 = .ok (.invokevirtual 65, 3) := dk_182 0 65 (dk_at dksX3_refusal_2 0 rfl rfl)
theorem dX3_refusal_51 : decode cX3_refusal 51 = .ok (.ifCond .eq 7, 3) := dk_153 0 7 (dk_at dksX3_refusal_2 3 rfl rfl)
theorem dX3_refusal_54 : decode cX3_refusal 54 = .ok (.iconst 0, 1) := dk_3 (dk_at dksX3_refusal_2 6 rfl rfl)
theorem dX3_refusal_55 : decode cX3_refusal 55 = .ok (.goto 4, 3) := dk_167 0 4 (dk_at dksX3_refusal_2 7 rfl rfl)
theorem dX3_refusal_58 : decode cX3_refusal 58 = .ok (.iconst 5, 1) := dk_8 (dk_at dksX3_refusal_2 10 rfl rfl)
theorem dX3_refusal_59 : decode cX3_refusal 59 = .ok (.ireturn, 1) := dk_172 (dk_at dksX3_refusal_2 11 rfl rfl)
theorem dX3_refusal_60 : decode cX3_refusal 60 = .ok (.iload_n 2, 1) := dk_28 (dk_at dksX3_refusal_2 12 rfl rfl)
theorem dX3_refusal_61 : decode cX3_refusal 61 = .ok (.iconst 0, 1) := dk_3 (dk_at dksX3_refusal_2 13 rfl rfl)
theorem dX3_refusal_62 : decode cX3_refusal 62 = .ok (.bipush 11, 2) := dk_16 11 (dk_at dksX3_refusal_2 14 rfl rfl)
theorem dX3_refusal_64 : decode cX3_refusal 64 = .ok (.invokestatic 57, 3) := dk_184 0 57 (dk_at dksX3_refusal_2 16 rfl rfl)
theorem dX3_refusal_67 : decode cX3_refusal 67 = .ok (.ifCond .eq 13, 3) := dk_153 0 13 (dk_at dksX3_refusal_2 19 rfl rfl)
theorem dX3_refusal_70 : decode cX3_refusal 70 = .ok (.iload_n 3, 1) := dk_29 (dk_at dksX3_refusal_2 22 rfl rfl)
theorem dX3_refusal_71 : decode cX3_refusal 71 = .ok (.iconst 0, 1) := dk_3 (dk_at dksX3_refusal_2 23 rfl rfl)
theorem dX3_refusal_72 : decode cX3_refusal 72 = .ok (.bipush 9, 2) := dk_16 9 (dk_at dksX3_refusal_3 0 rfl rfl)
theorem dX3_refusal_74 : decode cX3_refusal 74 = .ok (.invokestatic 57, 3) := dk_184 0 57 (dk_at dksX3_refusal_3 2 rfl rfl)
theorem dX3_refusal_77 : decode cX3_refusal 77 = .ok (.ifCond .ne 5, 3) := dk_154 0 5 (dk_at dksX3_refusal_3 5 rfl rfl)
theorem dX3_refusal_80 : decode cX3_refusal 80 = .ok (.iconst 1, 1) := dk_4 (dk_at dksX3_refusal_3 8 rfl rfl)
theorem dX3_refusal_81 : decode cX3_refusal 81 = .ok (.ireturn, 1) := dk_172 (dk_at dksX3_refusal_3 9 rfl rfl)
theorem dX3_refusal_82 : decode cX3_refusal 82 = .ok (.bipush 12, 2) := dk_16 12 (dk_at dksX3_refusal_3 10 rfl rfl)
theorem dX3_refusal_84 : decode cX3_refusal 84 = .ok (.iload_n 3, 1) := dk_29 (dk_at dksX3_refusal_3 12 rfl rfl)
theorem dX3_refusal_85 : decode cX3_refusal 85 = .ok (.imul, 1) := dk_104 (dk_at dksX3_refusal_3 13 rfl rfl)
theorem dX3_refusal_86 : decode cX3_refusal 86 = .ok (.iload_n 2, 1) := dk_28 (dk_at dksX3_refusal_3 14 rfl rfl)
theorem dX3_refusal_87 : decode cX3_refusal 87 = .ok (.iadd, 1) := dk_96 (dk_at dksX3_refusal_3 15 rfl rfl)
theorem dX3_refusal_88 : decode cX3_refusal 88 = .ok (.istore 4, 2) := dk_54 4 (dk_at dksX3_refusal_3 16 rfl rfl)
theorem dX3_refusal_90 : decode cX3_refusal 90 = .ok (.iload_n 1, 1) := dk_27 (dk_at dksX3_refusal_3 18 rfl rfl)
theorem dX3_refusal_91 : decode cX3_refusal 91 = .ok (.bipush 116, 2) := dk_16 116 (dk_at dksX3_refusal_3 19 rfl rfl)
theorem dX3_refusal_93 : decode cX3_refusal 93 = .ok (.if_icmp .ne 5, 3) := dk_160 0 5 (dk_at dksX3_refusal_3 21 rfl rfl)
theorem dX3_refusal_96 : decode cX3_refusal 96 = .ok (.iconst 0, 1) := dk_3 (dk_at dksX3_refusal_4 0 rfl rfl)
theorem dX3_refusal_97 : decode cX3_refusal 97 = .ok (.ireturn, 1) := dk_172 (dk_at dksX3_refusal_4 1 rfl rfl)
theorem dX3_refusal_98 : decode cX3_refusal 98 = .ok (.iload_n 1, 1) := dk_27 (dk_at dksX3_refusal_4 2 rfl rfl)
theorem dX3_refusal_99 : decode cX3_refusal 99 = .ok (.bipush 97, 2) := dk_16 97 (dk_at dksX3_refusal_4 3 rfl rfl)
theorem dX3_refusal_101 : decode cX3_refusal 101 = .ok (.if_icmp .ne 14, 3) := dk_160 0 14 (dk_at dksX3_refusal_4 5 rfl rfl)
theorem dX3_refusal_104 : decode cX3_refusal 104 = .ok (.aload_n 0, 1) := dk_42 (dk_at dksX3_refusal_4 8 rfl rfl)
theorem dX3_refusal_105 : decode cX3_refusal 105 = .ok (.iload 4, 2) := dk_21 4 (dk_at dksX3_refusal_4 9 rfl rfl)
theorem dX3_refusal_107 : decode cX3_refusal 107 = .ok (.invokevirtual 69, 3) := dk_182 0 69 (dk_at dksX3_refusal_4 11 rfl rfl)
theorem dX3_refusal_110 : decode cX3_refusal 110 = .ok (.ifCond .eq 5, 3) := dk_153 0 5 (dk_at dksX3_refusal_4 14 rfl rfl)
theorem dX3_refusal_113 : decode cX3_refusal 113 = .ok (.iconst 2, 1) := dk_5 (dk_at dksX3_refusal_4 17 rfl rfl)
theorem dX3_refusal_114 : decode cX3_refusal 114 = .ok (.ireturn, 1) := dk_172 (dk_at dksX3_refusal_4 18 rfl rfl)
theorem dX3_refusal_115 : decode cX3_refusal 115 = .ok (.aload_n 0, 1) := dk_42 (dk_at dksX3_refusal_4 19 rfl rfl)
theorem dX3_refusal_116 : decode cX3_refusal 116 = .ok (.iload 4, 2) := dk_21 4 (dk_at dksX3_refusal_4 20 rfl rfl)
theorem dX3_refusal_118 : decode cX3_refusal 118 = .ok (.invokevirtual 121, 3) := dk_182 0 121 (dk_at dksX3_refusal_5 0 rfl rfl)
theorem dX3_refusal_121 : decode cX3_refusal 121 = .ok (.ifCond .lt 7, 3) := dk_155 0 7 (dk_at dksX3_refusal_5 3 rfl rfl)
theorem dX3_refusal_124 : decode cX3_refusal 124 = .ok (.iconst 3, 1) := dk_6 (dk_at dksX3_refusal_5 6 rfl rfl)
theorem dX3_refusal_125 : decode cX3_refusal 125 = .ok (.goto 25, 3) := dk_167 0 25 (dk_at dksX3_refusal_5 7 rfl rfl)
theorem dX3_refusal_128 : decode cX3_refusal 128 = .ok (.iload_n 1, 1) := dk_27 (dk_at dksX3_refusal_5 10 rfl rfl)
theorem dX3_refusal_129 : decode cX3_refusal 129 = .ok (.bipush 97, 2) := dk_16 97 (dk_at dksX3_refusal_5 11 rfl rfl)
theorem dX3_refusal_131 : decode cX3_refusal 131 = .ok (.if_icmp .ne 18, 3) := dk_160 0 18 (dk_at dksX3_refusal_5 13 rfl rfl)
theorem dX3_refusal_134 : decode cX3_refusal 134 = .ok (.aload_n 0, 1) := dk_42 (dk_at dksX3_refusal_5 16 rfl rfl)
theorem dX3_refusal_135 : decode cX3_refusal 135 = .ok (.getfield 9, 3) := dk_180 0 9 (dk_at dksX3_refusal_5 17 rfl rfl)
theorem dX3_refusal_138 : decode cX3_refusal 138 = .ok (.iconst 0, 1) := dk_3 (dk_at dksX3_refusal_5 20 rfl rfl)
theorem dX3_refusal_139 : decode cX3_refusal 139 = .ok (.iaload, 1) := dk_46 (dk_at dksX3_refusal_5 21 rfl rfl)
theorem dX3_refusal_140 : decode cX3_refusal 140 = .ok (.bipush 10, 2) := dk_16 10 (dk_at dksX3_refusal_5 22 rfl rfl)
theorem dX3_refusal_142 : decode cX3_refusal 142 = .ok (.if_icmp .ne 7, 3) := dk_160 0 7 (dk_at dksX3_refusal_6 0 rfl rfl)
theorem dX3_refusal_145 : decode cX3_refusal 145 = .ok (.iconst 4, 1) := dk_7 (dk_at dksX3_refusal_6 3 rfl rfl)
theorem dX3_refusal_146 : decode cX3_refusal 146 = .ok (.goto 4, 3) := dk_167 0 4 (dk_at dksX3_refusal_6 4 rfl rfl)
theorem dX3_refusal_149 : decode cX3_refusal 149 = .ok (.iconst 0, 1) := dk_3 (dk_at dksX3_refusal_6 7 rfl rfl)
theorem dX3_refusal_150 : decode cX3_refusal 150 = .ok (.ireturn, 1) := dk_172 (dk_at dksX3_refusal_6 8 rfl rfl)
abbrev cX3_carries : ByteArray := prog_11_method_53_code
def yX3_carries : MethodName := ⟨RX3, "carries", "(III)V"⟩
def dkwX3_carries_4 : List UInt8 := [180, 0, 9, 4, 27, 16, 108, 160, 0, 7, 28, 167, 0, 9, 42, 180, 0, 9, 4, 46, 79, 177]
abbrev dktX3_carries_4 : List UInt8 := dkwX3_carries_4 ++ []
def dkwX3_carries_3 : List UInt8 := [180, 0, 9, 5, 27, 16, 116, 160, 0, 8, 21, 4, 167, 0, 9, 42, 180, 0, 9, 5, 46, 79, 42]
abbrev dktX3_carries_3 : List UInt8 := dkwX3_carries_3 ++ dktX3_carries_4
def dkwX3_carries_2 : List UInt8 := [182, 0, 163, 167, 0, 18, 27, 16, 103, 160, 0, 11, 42, 28, 182, 0, 154, 167, 0, 4, 3, 54, 5, 42]
abbrev dktX3_carries_2 : List UInt8 := dkwX3_carries_2 ++ dktX3_carries_3
def dkwX3_carries_1 : List UInt8 := [16, 111, 160, 0, 12, 42, 21, 4, 182, 0, 169, 167, 0, 32, 27, 16, 120, 160, 0, 11, 42, 28]
abbrev dktX3_carries_1 : List UInt8 := dkwX3_carries_1 ++ dktX3_carries_2
def dkwX3_carries_0 : List UInt8 := [16, 12, 29, 104, 28, 96, 54, 4, 27, 16, 97, 160, 0, 12, 42, 21, 4, 182, 0, 160, 167, 0, 47, 27]
abbrev dktX3_carries_0 : List UInt8 := dkwX3_carries_0 ++ dktX3_carries_1
theorem dksX3_carries_0 : cX3_carries.data.toList.drop 0 = dktX3_carries_0 := by decide +kernel
theorem dksX3_carries_1 : cX3_carries.data.toList.drop 24 = dktX3_carries_1 := dk_seg dksX3_carries_0 24 rfl rfl
theorem dksX3_carries_2 : cX3_carries.data.toList.drop 46 = dktX3_carries_2 := dk_seg dksX3_carries_1 22 rfl rfl
theorem dksX3_carries_3 : cX3_carries.data.toList.drop 70 = dktX3_carries_3 := dk_seg dksX3_carries_2 24 rfl rfl
theorem dksX3_carries_4 : cX3_carries.data.toList.drop 93 = dktX3_carries_4 := dk_seg dksX3_carries_3 23 rfl rfl
theorem dX3_carries_0 : decode cX3_carries 0 = .ok (.bipush 12, 2) := dk_16 12 (dk_at dksX3_carries_0 0 rfl rfl)
theorem dX3_carries_2 : decode cX3_carries 2 = .ok (.iload_n 3, 1) := dk_29 (dk_at dksX3_carries_0 2 rfl rfl)
theorem dX3_carries_3 : decode cX3_carries 3 = .ok (.imul, 1) := dk_104 (dk_at dksX3_carries_0 3 rfl rfl)
theorem dX3_carries_4 : decode cX3_carries 4 = .ok (.iload_n 2, 1) := dk_28 (dk_at dksX3_carries_0 4 rfl rfl)
theorem dX3_carries_5 : decode cX3_carries 5 = .ok (.iadd, 1) := dk_96 (dk_at dksX3_carries_0 5 rfl rfl)
theorem dX3_carries_6 : decode cX3_carries 6 = .ok (.istore 4, 2) := dk_54 4 (dk_at dksX3_carries_0 6 rfl rfl)
theorem dX3_carries_8 : decode cX3_carries 8 = .ok (.iload_n 1, 1) := dk_27 (dk_at dksX3_carries_0 8 rfl rfl)
theorem dX3_carries_9 : decode cX3_carries 9 = .ok (.bipush 97, 2) := dk_16 97 (dk_at dksX3_carries_0 9 rfl rfl)
theorem dX3_carries_11 : decode cX3_carries 11 = .ok (.if_icmp .ne 12, 3) := dk_160 0 12 (dk_at dksX3_carries_0 11 rfl rfl)
theorem dX3_carries_14 : decode cX3_carries 14 = .ok (.aload_n 0, 1) := dk_42 (dk_at dksX3_carries_0 14 rfl rfl)
theorem dX3_carries_15 : decode cX3_carries 15 = .ok (.iload 4, 2) := dk_21 4 (dk_at dksX3_carries_0 15 rfl rfl)
theorem dX3_carries_17 : decode cX3_carries 17 = .ok (.invokevirtual 160, 3) := dk_182 0 160 (dk_at dksX3_carries_0 17 rfl rfl)
theorem dX3_carries_20 : decode cX3_carries 20 = .ok (.goto 47, 3) := dk_167 0 47 (dk_at dksX3_carries_0 20 rfl rfl)
theorem dX3_carries_23 : decode cX3_carries 23 = .ok (.iload_n 1, 1) := dk_27 (dk_at dksX3_carries_0 23 rfl rfl)
theorem dX3_carries_24 : decode cX3_carries 24 = .ok (.bipush 111, 2) := dk_16 111 (dk_at dksX3_carries_1 0 rfl rfl)
theorem dX3_carries_26 : decode cX3_carries 26 = .ok (.if_icmp .ne 12, 3) := dk_160 0 12 (dk_at dksX3_carries_1 2 rfl rfl)
theorem dX3_carries_29 : decode cX3_carries 29 = .ok (.aload_n 0, 1) := dk_42 (dk_at dksX3_carries_1 5 rfl rfl)
theorem dX3_carries_30 : decode cX3_carries 30 = .ok (.iload 4, 2) := dk_21 4 (dk_at dksX3_carries_1 6 rfl rfl)
theorem dX3_carries_32 : decode cX3_carries 32 = .ok (.invokevirtual 169, 3) := dk_182 0 169 (dk_at dksX3_carries_1 8 rfl rfl)
theorem dX3_carries_35 : decode cX3_carries 35 = .ok (.goto 32, 3) := dk_167 0 32 (dk_at dksX3_carries_1 11 rfl rfl)
theorem dX3_carries_38 : decode cX3_carries 38 = .ok (.iload_n 1, 1) := dk_27 (dk_at dksX3_carries_1 14 rfl rfl)
theorem dX3_carries_39 : decode cX3_carries 39 = .ok (.bipush 120, 2) := dk_16 120 (dk_at dksX3_carries_1 15 rfl rfl)
theorem dX3_carries_41 : decode cX3_carries 41 = .ok (.if_icmp .ne 11, 3) := dk_160 0 11 (dk_at dksX3_carries_1 17 rfl rfl)
theorem dX3_carries_44 : decode cX3_carries 44 = .ok (.aload_n 0, 1) := dk_42 (dk_at dksX3_carries_1 20 rfl rfl)
theorem dX3_carries_45 : decode cX3_carries 45 = .ok (.iload_n 2, 1) := dk_28 (dk_at dksX3_carries_1 21 rfl rfl)
theorem dX3_carries_46 : decode cX3_carries 46 = .ok (.invokevirtual 163, 3) := dk_182 0 163 (dk_at dksX3_carries_2 0 rfl rfl)
theorem dX3_carries_49 : decode cX3_carries 49 = .ok (.goto 18, 3) := dk_167 0 18 (dk_at dksX3_carries_2 3 rfl rfl)
theorem dX3_carries_52 : decode cX3_carries 52 = .ok (.iload_n 1, 1) := dk_27 (dk_at dksX3_carries_2 6 rfl rfl)
theorem dX3_carries_53 : decode cX3_carries 53 = .ok (.bipush 103, 2) := dk_16 103 (dk_at dksX3_carries_2 7 rfl rfl)
theorem dX3_carries_55 : decode cX3_carries 55 = .ok (.if_icmp .ne 11, 3) := dk_160 0 11 (dk_at dksX3_carries_2 9 rfl rfl)
theorem dX3_carries_58 : decode cX3_carries 58 = .ok (.aload_n 0, 1) := dk_42 (dk_at dksX3_carries_2 12 rfl rfl)
theorem dX3_carries_59 : decode cX3_carries 59 = .ok (.iload_n 2, 1) := dk_28 (dk_at dksX3_carries_2 13 rfl rfl)
theorem dX3_carries_60 : decode cX3_carries 60 = .ok (.invokevirtual 154, 3) := dk_182 0 154 (dk_at dksX3_carries_2 14 rfl rfl)
theorem dX3_carries_63 : decode cX3_carries 63 = .ok (.goto 4, 3) := dk_167 0 4 (dk_at dksX3_carries_2 17 rfl rfl)
theorem dX3_carries_66 : decode cX3_carries 66 = .ok (.iconst 0, 1) := dk_3 (dk_at dksX3_carries_2 20 rfl rfl)
theorem dX3_carries_67 : decode cX3_carries 67 = .ok (.istore 5, 2) := dk_54 5 (dk_at dksX3_carries_2 21 rfl rfl)
theorem dX3_carries_69 : decode cX3_carries 69 = .ok (.aload_n 0, 1) := dk_42 (dk_at dksX3_carries_2 23 rfl rfl)
theorem dX3_carries_70 : decode cX3_carries 70 = .ok (.getfield 9, 3) := dk_180 0 9 (dk_at dksX3_carries_3 0 rfl rfl)
theorem dX3_carries_73 : decode cX3_carries 73 = .ok (.iconst 2, 1) := dk_5 (dk_at dksX3_carries_3 3 rfl rfl)
theorem dX3_carries_74 : decode cX3_carries 74 = .ok (.iload_n 1, 1) := dk_27 (dk_at dksX3_carries_3 4 rfl rfl)
theorem dX3_carries_75 : decode cX3_carries 75 = .ok (.bipush 116, 2) := dk_16 116 (dk_at dksX3_carries_3 5 rfl rfl)
theorem dX3_carries_77 : decode cX3_carries 77 = .ok (.if_icmp .ne 8, 3) := dk_160 0 8 (dk_at dksX3_carries_3 7 rfl rfl)
theorem dX3_carries_80 : decode cX3_carries 80 = .ok (.iload 4, 2) := dk_21 4 (dk_at dksX3_carries_3 10 rfl rfl)
theorem dX3_carries_82 : decode cX3_carries 82 = .ok (.goto 9, 3) := dk_167 0 9 (dk_at dksX3_carries_3 12 rfl rfl)
theorem dX3_carries_85 : decode cX3_carries 85 = .ok (.aload_n 0, 1) := dk_42 (dk_at dksX3_carries_3 15 rfl rfl)
theorem dX3_carries_86 : decode cX3_carries 86 = .ok (.getfield 9, 3) := dk_180 0 9 (dk_at dksX3_carries_3 16 rfl rfl)
theorem dX3_carries_89 : decode cX3_carries 89 = .ok (.iconst 2, 1) := dk_5 (dk_at dksX3_carries_3 19 rfl rfl)
theorem dX3_carries_90 : decode cX3_carries 90 = .ok (.iaload, 1) := dk_46 (dk_at dksX3_carries_3 20 rfl rfl)
theorem dX3_carries_91 : decode cX3_carries 91 = .ok (.iastore, 1) := dk_79 (dk_at dksX3_carries_3 21 rfl rfl)
theorem dX3_carries_92 : decode cX3_carries 92 = .ok (.aload_n 0, 1) := dk_42 (dk_at dksX3_carries_3 22 rfl rfl)
theorem dX3_carries_93 : decode cX3_carries 93 = .ok (.getfield 9, 3) := dk_180 0 9 (dk_at dksX3_carries_4 0 rfl rfl)
theorem dX3_carries_96 : decode cX3_carries 96 = .ok (.iconst 1, 1) := dk_4 (dk_at dksX3_carries_4 3 rfl rfl)
theorem dX3_carries_97 : decode cX3_carries 97 = .ok (.iload_n 1, 1) := dk_27 (dk_at dksX3_carries_4 4 rfl rfl)
theorem dX3_carries_98 : decode cX3_carries 98 = .ok (.bipush 108, 2) := dk_16 108 (dk_at dksX3_carries_4 5 rfl rfl)
theorem dX3_carries_100 : decode cX3_carries 100 = .ok (.if_icmp .ne 7, 3) := dk_160 0 7 (dk_at dksX3_carries_4 7 rfl rfl)
theorem dX3_carries_103 : decode cX3_carries 103 = .ok (.iload_n 2, 1) := dk_28 (dk_at dksX3_carries_4 10 rfl rfl)
theorem dX3_carries_104 : decode cX3_carries 104 = .ok (.goto 9, 3) := dk_167 0 9 (dk_at dksX3_carries_4 11 rfl rfl)
theorem dX3_carries_107 : decode cX3_carries 107 = .ok (.aload_n 0, 1) := dk_42 (dk_at dksX3_carries_4 14 rfl rfl)
theorem dX3_carries_108 : decode cX3_carries 108 = .ok (.getfield 9, 3) := dk_180 0 9 (dk_at dksX3_carries_4 15 rfl rfl)
theorem dX3_carries_111 : decode cX3_carries 111 = .ok (.iconst 1, 1) := dk_4 (dk_at dksX3_carries_4 18 rfl rfl)
theorem dX3_carries_112 : decode cX3_carries 112 = .ok (.iaload, 1) := dk_46 (dk_at dksX3_carries_4 19 rfl rfl)
theorem dX3_carries_113 : decode cX3_carries 113 = .ok (.iastore, 1) := dk_79 (dk_at dksX3_carries_4 20 rfl rfl)
theorem dX3_carries_114 : decode cX3_carries 114 = .ok (.return_, 1) := dk_177 (dk_at dksX3_carries_4 21 rfl rfl)
abbrev cX3_refusal_2 : ByteArray := prog_11_method_55_code
def yX3_refusal_2 : MethodName := ⟨RX3, "refusal", "(I)I"⟩
def dkwX3_refusal_2_1 : List UInt8 := [167, 0, 18, 27, 154, 0, 10, 42, 180, 0, 200, 167, 0, 7, 42, 180, 0, 203, 172]
abbrev dktX3_refusal_2_1 : List UInt8 := dkwX3_refusal_2_1 ++ []
def dkwX3_refusal_2_0 : List UInt8 := [27, 3, 4, 184, 0, 57, 154, 0, 7, 2, 167, 0, 30, 42, 180, 0, 200, 154, 0, 8, 16, 251]
abbrev dktX3_refusal_2_0 : List UInt8 := dkwX3_refusal_2_0 ++ dktX3_refusal_2_1
theorem dksX3_refusal_2_0 : cX3_refusal_2.data.toList.drop 0 = dktX3_refusal_2_0 := by decide +kernel
theorem dksX3_refusal_2_1 : cX3_refusal_2.data.toList.drop 22 = dktX3_refusal_2_1 := dk_seg dksX3_refusal_2_0 22 rfl rfl
theorem dX3_refusal_2_0 : decode cX3_refusal_2 0 = .ok (.iload_n 1, 1) := dk_27 (dk_at dksX3_refusal_2_0 0 rfl rfl)
theorem dX3_refusal_2_1 : decode cX3_refusal_2 1 = .ok (.iconst 0, 1) := dk_3 (dk_at dksX3_refusal_2_0 1 rfl rfl)
theorem dX3_refusal_2_2 : decode cX3_refusal_2 2 = .ok (.iconst 1, 1) := dk_4 (dk_at dksX3_refusal_2_0 2 rfl rfl)
theorem dX3_refusal_2_3 : decode cX3_refusal_2 3 = .ok (.invokestatic 57, 3) := dk_184 0 57 (dk_at dksX3_refusal_2_0 3 rfl rfl)
theorem dX3_refusal_2_6 : decode cX3_refusal_2 6 = .ok (.ifCond .ne 7, 3) := dk_154 0 7 (dk_at dksX3_refusal_2_0 6 rfl rfl)
theorem dX3_refusal_2_9 : decode cX3_refusal_2 9 = .ok (.iconst (-1), 1) := dk_2 (dk_at dksX3_refusal_2_0 9 rfl rfl)
theorem dX3_refusal_2_10 : decode cX3_refusal_2 10 = .ok (.goto 30, 3) := dk_167 0 30 (dk_at dksX3_refusal_2_0 10 rfl rfl)
theorem dX3_refusal_2_13 : decode cX3_refusal_2 13 = .ok (.aload_n 0, 1) := dk_42 (dk_at dksX3_refusal_2_0 13 rfl rfl)
theorem dX3_refusal_2_14 : decode cX3_refusal_2 14 = .ok (.getfield 200, 3) := dk_180 0 200 (dk_at dksX3_refusal_2_0 14 rfl rfl)
theorem dX3_refusal_2_17 : decode cX3_refusal_2 17 = .ok (.ifCond .ne 8, 3) := dk_154 0 8 (dk_at dksX3_refusal_2_0 17 rfl rfl)
theorem dX3_refusal_2_20 : decode cX3_refusal_2 20 = .ok (.bipush (-5), 2) := dk_16 251 (dk_at dksX3_refusal_2_0 20 rfl rfl)
theorem dX3_refusal_2_22 : decode cX3_refusal_2 22 = .ok (.goto 18, 3) := dk_167 0 18 (dk_at dksX3_refusal_2_1 0 rfl rfl)
theorem dX3_refusal_2_25 : decode cX3_refusal_2 25 = .ok (.iload_n 1, 1) := dk_27 (dk_at dksX3_refusal_2_1 3 rfl rfl)
theorem dX3_refusal_2_26 : decode cX3_refusal_2 26 = .ok (.ifCond .ne 10, 3) := dk_154 0 10 (dk_at dksX3_refusal_2_1 4 rfl rfl)
theorem dX3_refusal_2_29 : decode cX3_refusal_2 29 = .ok (.aload_n 0, 1) := dk_42 (dk_at dksX3_refusal_2_1 7 rfl rfl)
theorem dX3_refusal_2_30 : decode cX3_refusal_2 30 = .ok (.getfield 200, 3) := dk_180 0 200 (dk_at dksX3_refusal_2_1 8 rfl rfl)
theorem dX3_refusal_2_33 : decode cX3_refusal_2 33 = .ok (.goto 7, 3) := dk_167 0 7 (dk_at dksX3_refusal_2_1 11 rfl rfl)
theorem dX3_refusal_2_36 : decode cX3_refusal_2 36 = .ok (.aload_n 0, 1) := dk_42 (dk_at dksX3_refusal_2_1 14 rfl rfl)
theorem dX3_refusal_2_37 : decode cX3_refusal_2 37 = .ok (.getfield 203, 3) := dk_180 0 203 (dk_at dksX3_refusal_2_1 15 rfl rfl)
theorem dX3_refusal_2_40 : decode cX3_refusal_2 40 = .ok (.ireturn, 1) := dk_172 (dk_at dksX3_refusal_2_1 18 rfl rfl)
abbrev cX3_member : ByteArray := prog_11_method_56_code
def yX3_member : MethodName := ⟨RX3, "member", "(II)I"⟩
def dkwX3_member_5 : List UInt8 := [46, 167, 0, 19, 42, 180, 0, 13, 16, 120, 29, 104, 42, 27, 3, 182, 0, 61, 96, 46, 172]
abbrev dktX3_member_5 : List UInt8 := dkwX3_member_5 ++ []
def dkwX3_member_4 : List UInt8 := [16, 251, 167, 0, 42, 28, 4, 160, 0, 7, 29, 167, 0, 33, 28, 5, 160, 0, 12, 42, 180, 0, 19, 29]
abbrev dktX3_member_4 : List UInt8 := dkwX3_member_4 ++ dktX3_member_5
def dkwX3_member_3 : List UInt8 := [6, 167, 0, 4, 7, 182, 0, 61, 172, 42, 182, 0, 111, 42, 180, 0, 25, 27, 46, 62, 29, 156, 0, 8]
abbrev dktX3_member_3 : List UInt8 := dkwX3_member_3 ++ dktX3_member_4
def dkwX3_member_2 : List UInt8 := [8, 160, 0, 7, 4, 167, 0, 24, 28, 16, 6, 160, 0, 7, 5, 167, 0, 14, 28, 16, 7, 160, 0, 7]
abbrev dktX3_member_2 : List UInt8 := dkwX3_member_2 ++ dktX3_member_3
def dkwX3_member_1 : List UInt8 := [42, 27, 3, 182, 0, 61, 172, 28, 6, 164, 0, 48, 42, 27, 28, 7, 160, 0, 7, 8, 167, 0, 33, 28]
abbrev dktX3_member_1 : List UInt8 := dkwX3_member_1 ++ dktX3_member_2
def dkwX3_member_0 : List UInt8 := [42, 27, 182, 0, 65, 153, 0, 13, 28, 3, 16, 8, 184, 0, 57, 154, 0, 5, 2, 172, 28, 154, 0, 10]
abbrev dktX3_member_0 : List UInt8 := dkwX3_member_0 ++ dktX3_member_1
theorem dksX3_member_0 : cX3_member.data.toList.drop 0 = dktX3_member_0 := by decide +kernel
theorem dksX3_member_1 : cX3_member.data.toList.drop 24 = dktX3_member_1 := dk_seg dksX3_member_0 24 rfl rfl
theorem dksX3_member_2 : cX3_member.data.toList.drop 48 = dktX3_member_2 := dk_seg dksX3_member_1 24 rfl rfl
theorem dksX3_member_3 : cX3_member.data.toList.drop 72 = dktX3_member_3 := dk_seg dksX3_member_2 24 rfl rfl
theorem dksX3_member_4 : cX3_member.data.toList.drop 96 = dktX3_member_4 := dk_seg dksX3_member_3 24 rfl rfl
theorem dksX3_member_5 : cX3_member.data.toList.drop 120 = dktX3_member_5 := dk_seg dksX3_member_4 24 rfl rfl
theorem dX3_member_0 : decode cX3_member 0 = .ok (.aload_n 0, 1) := dk_42 (dk_at dksX3_member_0 0 rfl rfl)
theorem dX3_member_1 : decode cX3_member 1 = .ok (.iload_n 1, 1) := dk_27 (dk_at dksX3_member_0 1 rfl rfl)
theorem dX3_member_2 : decode cX3_member 2 = .ok (.invokevirtual 65, 3) := dk_182 0 65 (dk_at dksX3_member_0 2 rfl rfl)
theorem dX3_member_5 : decode cX3_member 5 = .ok (.ifCond .eq 13, 3) := dk_153 0 13 (dk_at dksX3_member_0 5 rfl rfl)
theorem dX3_member_8 : decode cX3_member 8 = .ok (.iload_n 2, 1) := dk_28 (dk_at dksX3_member_0 8 rfl rfl)
theorem dX3_member_9 : decode cX3_member 9 = .ok (.iconst 0, 1) := dk_3 (dk_at dksX3_member_0 9 rfl rfl)
theorem dX3_member_10 : decode cX3_member 10 = .ok (.bipush 8, 2) := dk_16 8 (dk_at dksX3_member_0 10 rfl rfl)
theorem dX3_member_12 : decode cX3_member 12 = .ok (.invokestatic 57, 3) := dk_184 0 57 (dk_at dksX3_member_0 12 rfl rfl)
theorem dX3_member_15 : decode cX3_member 15 = .ok (.ifCond .ne 5, 3) := dk_154 0 5 (dk_at dksX3_member_0 15 rfl rfl)
theorem dX3_member_18 : decode cX3_member 18 = .ok (.iconst (-1), 1) := dk_2 (dk_at dksX3_member_0 18 rfl rfl)
theorem dX3_member_19 : decode cX3_member 19 = .ok (.ireturn, 1) := dk_172 (dk_at dksX3_member_0 19 rfl rfl)
theorem dX3_member_20 : decode cX3_member 20 = .ok (.iload_n 2, 1) := dk_28 (dk_at dksX3_member_0 20 rfl rfl)
theorem dX3_member_21 : decode cX3_member 21 = .ok (.ifCond .ne 10, 3) := dk_154 0 10 (dk_at dksX3_member_0 21 rfl rfl)
theorem dX3_member_24 : decode cX3_member 24 = .ok (.aload_n 0, 1) := dk_42 (dk_at dksX3_member_1 0 rfl rfl)
theorem dX3_member_25 : decode cX3_member 25 = .ok (.iload_n 1, 1) := dk_27 (dk_at dksX3_member_1 1 rfl rfl)
theorem dX3_member_26 : decode cX3_member 26 = .ok (.iconst 0, 1) := dk_3 (dk_at dksX3_member_1 2 rfl rfl)
theorem dX3_member_27 : decode cX3_member 27 = .ok (.invokevirtual 61, 3) := dk_182 0 61 (dk_at dksX3_member_1 3 rfl rfl)
theorem dX3_member_30 : decode cX3_member 30 = .ok (.ireturn, 1) := dk_172 (dk_at dksX3_member_1 6 rfl rfl)
theorem dX3_member_31 : decode cX3_member 31 = .ok (.iload_n 2, 1) := dk_28 (dk_at dksX3_member_1 7 rfl rfl)
theorem dX3_member_32 : decode cX3_member 32 = .ok (.iconst 3, 1) := dk_6 (dk_at dksX3_member_1 8 rfl rfl)
theorem dX3_member_33 : decode cX3_member 33 = .ok (.if_icmp .le 48, 3) := dk_164 0 48 (dk_at dksX3_member_1 9 rfl rfl)
theorem dX3_member_36 : decode cX3_member 36 = .ok (.aload_n 0, 1) := dk_42 (dk_at dksX3_member_1 12 rfl rfl)
theorem dX3_member_37 : decode cX3_member 37 = .ok (.iload_n 1, 1) := dk_27 (dk_at dksX3_member_1 13 rfl rfl)
theorem dX3_member_38 : decode cX3_member 38 = .ok (.iload_n 2, 1) := dk_28 (dk_at dksX3_member_1 14 rfl rfl)
theorem dX3_member_39 : decode cX3_member 39 = .ok (.iconst 4, 1) := dk_7 (dk_at dksX3_member_1 15 rfl rfl)
theorem dX3_member_40 : decode cX3_member 40 = .ok (.if_icmp .ne 7, 3) := dk_160 0 7 (dk_at dksX3_member_1 16 rfl rfl)
theorem dX3_member_43 : decode cX3_member 43 = .ok (.iconst 5, 1) := dk_8 (dk_at dksX3_member_1 19 rfl rfl)
theorem dX3_member_44 : decode cX3_member 44 = .ok (.goto 33, 3) := dk_167 0 33 (dk_at dksX3_member_1 20 rfl rfl)
theorem dX3_member_47 : decode cX3_member 47 = .ok (.iload_n 2, 1) := dk_28 (dk_at dksX3_member_1 23 rfl rfl)
theorem dX3_member_48 : decode cX3_member 48 = .ok (.iconst 5, 1) := dk_8 (dk_at dksX3_member_2 0 rfl rfl)
theorem dX3_member_49 : decode cX3_member 49 = .ok (.if_icmp .ne 7, 3) := dk_160 0 7 (dk_at dksX3_member_2 1 rfl rfl)
theorem dX3_member_52 : decode cX3_member 52 = .ok (.iconst 1, 1) := dk_4 (dk_at dksX3_member_2 4 rfl rfl)
theorem dX3_member_53 : decode cX3_member 53 = .ok (.goto 24, 3) := dk_167 0 24 (dk_at dksX3_member_2 5 rfl rfl)
theorem dX3_member_56 : decode cX3_member 56 = .ok (.iload_n 2, 1) := dk_28 (dk_at dksX3_member_2 8 rfl rfl)
theorem dX3_member_57 : decode cX3_member 57 = .ok (.bipush 6, 2) := dk_16 6 (dk_at dksX3_member_2 9 rfl rfl)
theorem dX3_member_59 : decode cX3_member 59 = .ok (.if_icmp .ne 7, 3) := dk_160 0 7 (dk_at dksX3_member_2 11 rfl rfl)
theorem dX3_member_62 : decode cX3_member 62 = .ok (.iconst 2, 1) := dk_5 (dk_at dksX3_member_2 14 rfl rfl)
theorem dX3_member_63 : decode cX3_member 63 = .ok (.goto 14, 3) := dk_167 0 14 (dk_at dksX3_member_2 15 rfl rfl)
theorem dX3_member_66 : decode cX3_member 66 = .ok (.iload_n 2, 1) := dk_28 (dk_at dksX3_member_2 18 rfl rfl)
theorem dX3_member_67 : decode cX3_member 67 = .ok (.bipush 7, 2) := dk_16 7 (dk_at dksX3_member_2 19 rfl rfl)
theorem dX3_member_69 : decode cX3_member 69 = .ok (.if_icmp .ne 7, 3) := dk_160 0 7 (dk_at dksX3_member_2 21 rfl rfl)
theorem dX3_member_72 : decode cX3_member 72 = .ok (.iconst 3, 1) := dk_6 (dk_at dksX3_member_3 0 rfl rfl)
theorem dX3_member_73 : decode cX3_member 73 = .ok (.goto 4, 3) := dk_167 0 4 (dk_at dksX3_member_3 1 rfl rfl)
theorem dX3_member_76 : decode cX3_member 76 = .ok (.iconst 4, 1) := dk_7 (dk_at dksX3_member_3 4 rfl rfl)
theorem dX3_member_77 : decode cX3_member 77 = .ok (.invokevirtual 61, 3) := dk_182 0 61 (dk_at dksX3_member_3 5 rfl rfl)
theorem dX3_member_80 : decode cX3_member 80 = .ok (.ireturn, 1) := dk_172 (dk_at dksX3_member_3 8 rfl rfl)
theorem dX3_member_81 : decode cX3_member 81 = .ok (.aload_n 0, 1) := dk_42 (dk_at dksX3_member_3 9 rfl rfl)
theorem dX3_member_82 : decode cX3_member 82 = .ok (.invokevirtual 111, 3) := dk_182 0 111 (dk_at dksX3_member_3 10 rfl rfl)
theorem dX3_member_85 : decode cX3_member 85 = .ok (.aload_n 0, 1) := dk_42 (dk_at dksX3_member_3 13 rfl rfl)
theorem dX3_member_86 : decode cX3_member 86 = .ok (.getfield 25, 3) := dk_180 0 25 (dk_at dksX3_member_3 14 rfl rfl)
theorem dX3_member_89 : decode cX3_member 89 = .ok (.iload_n 1, 1) := dk_27 (dk_at dksX3_member_3 17 rfl rfl)
theorem dX3_member_90 : decode cX3_member 90 = .ok (.iaload, 1) := dk_46 (dk_at dksX3_member_3 18 rfl rfl)
theorem dX3_member_91 : decode cX3_member 91 = .ok (.istore_n 3, 1) := dk_62 (dk_at dksX3_member_3 19 rfl rfl)
theorem dX3_member_92 : decode cX3_member 92 = .ok (.iload_n 3, 1) := dk_29 (dk_at dksX3_member_3 20 rfl rfl)
theorem dX3_member_93 : decode cX3_member 93 = .ok (.ifCond .ge 8, 3) := dk_156 0 8 (dk_at dksX3_member_3 21 rfl rfl)
theorem dX3_member_96 : decode cX3_member 96 = .ok (.bipush (-5), 2) := dk_16 251 (dk_at dksX3_member_4 0 rfl rfl)
theorem dX3_member_98 : decode cX3_member 98 = .ok (.goto 42, 3) := dk_167 0 42 (dk_at dksX3_member_4 2 rfl rfl)
theorem dX3_member_101 : decode cX3_member 101 = .ok (.iload_n 2, 1) := dk_28 (dk_at dksX3_member_4 5 rfl rfl)
theorem dX3_member_102 : decode cX3_member 102 = .ok (.iconst 1, 1) := dk_4 (dk_at dksX3_member_4 6 rfl rfl)
theorem dX3_member_103 : decode cX3_member 103 = .ok (.if_icmp .ne 7, 3) := dk_160 0 7 (dk_at dksX3_member_4 7 rfl rfl)
theorem dX3_member_106 : decode cX3_member 106 = .ok (.iload_n 3, 1) := dk_29 (dk_at dksX3_member_4 10 rfl rfl)
theorem dX3_member_107 : decode cX3_member 107 = .ok (.goto 33, 3) := dk_167 0 33 (dk_at dksX3_member_4 11 rfl rfl)
theorem dX3_member_110 : decode cX3_member 110 = .ok (.iload_n 2, 1) := dk_28 (dk_at dksX3_member_4 14 rfl rfl)
theorem dX3_member_111 : decode cX3_member 111 = .ok (.iconst 2, 1) := dk_5 (dk_at dksX3_member_4 15 rfl rfl)
theorem dX3_member_112 : decode cX3_member 112 = .ok (.if_icmp .ne 12, 3) := dk_160 0 12 (dk_at dksX3_member_4 16 rfl rfl)
theorem dX3_member_115 : decode cX3_member 115 = .ok (.aload_n 0, 1) := dk_42 (dk_at dksX3_member_4 19 rfl rfl)
theorem dX3_member_116 : decode cX3_member 116 = .ok (.getfield 19, 3) := dk_180 0 19 (dk_at dksX3_member_4 20 rfl rfl)
theorem dX3_member_119 : decode cX3_member 119 = .ok (.iload_n 3, 1) := dk_29 (dk_at dksX3_member_4 23 rfl rfl)
theorem dX3_member_120 : decode cX3_member 120 = .ok (.iaload, 1) := dk_46 (dk_at dksX3_member_5 0 rfl rfl)
theorem dX3_member_121 : decode cX3_member 121 = .ok (.goto 19, 3) := dk_167 0 19 (dk_at dksX3_member_5 1 rfl rfl)
theorem dX3_member_124 : decode cX3_member 124 = .ok (.aload_n 0, 1) := dk_42 (dk_at dksX3_member_5 4 rfl rfl)
theorem dX3_member_125 : decode cX3_member 125 = .ok (.getfield 13, 3) := dk_180 0 13 (dk_at dksX3_member_5 5 rfl rfl)
theorem dX3_member_128 : decode cX3_member 128 = .ok (.bipush 120, 2) := dk_16 120 (dk_at dksX3_member_5 8 rfl rfl)
theorem dX3_member_130 : decode cX3_member 130 = .ok (.iload_n 3, 1) := dk_29 (dk_at dksX3_member_5 10 rfl rfl)
theorem dX3_member_131 : decode cX3_member 131 = .ok (.imul, 1) := dk_104 (dk_at dksX3_member_5 11 rfl rfl)
theorem dX3_member_132 : decode cX3_member 132 = .ok (.aload_n 0, 1) := dk_42 (dk_at dksX3_member_5 12 rfl rfl)
theorem dX3_member_133 : decode cX3_member 133 = .ok (.iload_n 1, 1) := dk_27 (dk_at dksX3_member_5 13 rfl rfl)
theorem dX3_member_134 : decode cX3_member 134 = .ok (.iconst 0, 1) := dk_3 (dk_at dksX3_member_5 14 rfl rfl)
theorem dX3_member_135 : decode cX3_member 135 = .ok (.invokevirtual 61, 3) := dk_182 0 61 (dk_at dksX3_member_5 15 rfl rfl)
theorem dX3_member_138 : decode cX3_member 138 = .ok (.iadd, 1) := dk_96 (dk_at dksX3_member_5 18 rfl rfl)
theorem dX3_member_139 : decode cX3_member 139 = .ok (.iaload, 1) := dk_46 (dk_at dksX3_member_5 19 rfl rfl)
theorem dX3_member_140 : decode cX3_member 140 = .ok (.ireturn, 1) := dk_172 (dk_at dksX3_member_5 20 rfl rfl)
abbrev cX3_swarm : ByteArray := prog_11_method_57_code
def yX3_swarm : MethodName := ⟨RX3, "swarm", "(I)I"⟩
def dkwX3_swarm_7 : List UInt8 := [27, 8, 160, 0, 10, 42, 180, 0, 98, 167, 0, 4, 29, 172]
abbrev dktX3_swarm_7 : List UInt8 := dkwX3_swarm_7 ++ []
def dkwX3_swarm_6 : List UInt8 := [167, 0, 4, 3, 96, 62, 132, 4, 1, 167, 255, 220, 27, 7, 160, 0, 10, 42, 180, 0, 95, 167, 0, 16]
abbrev dktX3_swarm_6 : List UInt8 := dkwX3_swarm_6 ++ dktX3_swarm_7
def dkwX3_swarm_5 : List UInt8 := [42, 180, 0, 9, 6, 46, 182, 0, 101, 162, 0, 27, 29, 42, 180, 0, 19, 21, 4, 46, 155, 0, 7, 4]
abbrev dktX3_swarm_5 : List UInt8 := dkwX3_swarm_5 ++ dktX3_swarm_6
def dkwX3_swarm_4 : List UInt8 := [182, 0, 209, 153, 0, 7, 4, 167, 0, 4, 3, 172, 42, 182, 0, 111, 3, 62, 3, 54, 4, 21, 4, 42]
abbrev dktX3_swarm_4 : List UInt8 := dkwX3_swarm_4 ++ dktX3_swarm_5
def dkwX3_swarm_3 : List UInt8 := [180, 0, 9, 5, 46, 167, 0, 9, 42, 180, 0, 9, 6, 46, 172, 27, 16, 6, 160, 0, 16, 42]
abbrev dktX3_swarm_3 : List UInt8 := dkwX3_swarm_3 ++ dktX3_swarm_4
def dkwX3_swarm_2 : List UInt8 := [28, 167, 0, 37, 27, 5, 160, 0, 26, 42, 180, 0, 9, 5, 46, 156, 0, 8, 16, 251, 167, 0, 18, 42]
abbrev dktX3_swarm_2 : List UInt8 := dkwX3_swarm_2 ++ dktX3_swarm_3
def dkwX3_swarm_1 : List UInt8 := [154, 0, 10, 42, 182, 0, 157, 167, 0, 55, 27, 4, 160, 0, 16, 28, 156, 0, 8, 16, 251, 167, 0, 41]
abbrev dktX3_swarm_1 : List UInt8 := dkwX3_swarm_1 ++ dktX3_swarm_2
def dkwX3_swarm_0 : List UInt8 := [27, 3, 16, 7, 184, 0, 57, 154, 0, 5, 2, 172, 42, 182, 0, 85, 61, 27, 7, 162, 0, 67, 27]
abbrev dktX3_swarm_0 : List UInt8 := dkwX3_swarm_0 ++ dktX3_swarm_1
theorem dksX3_swarm_0 : cX3_swarm.data.toList.drop 0 = dktX3_swarm_0 := by decide +kernel
theorem dksX3_swarm_1 : cX3_swarm.data.toList.drop 23 = dktX3_swarm_1 := dk_seg dksX3_swarm_0 23 rfl rfl
theorem dksX3_swarm_2 : cX3_swarm.data.toList.drop 47 = dktX3_swarm_2 := dk_seg dksX3_swarm_1 24 rfl rfl
theorem dksX3_swarm_3 : cX3_swarm.data.toList.drop 71 = dktX3_swarm_3 := dk_seg dksX3_swarm_2 24 rfl rfl
theorem dksX3_swarm_4 : cX3_swarm.data.toList.drop 93 = dktX3_swarm_4 := dk_seg dksX3_swarm_3 22 rfl rfl
theorem dksX3_swarm_5 : cX3_swarm.data.toList.drop 117 = dktX3_swarm_5 := dk_seg dksX3_swarm_4 24 rfl rfl
theorem dksX3_swarm_6 : cX3_swarm.data.toList.drop 141 = dktX3_swarm_6 := dk_seg dksX3_swarm_5 24 rfl rfl
theorem dksX3_swarm_7 : cX3_swarm.data.toList.drop 165 = dktX3_swarm_7 := dk_seg dksX3_swarm_6 24 rfl rfl
theorem dX3_swarm_0 : decode cX3_swarm 0 = .ok (.iload_n 1, 1) := dk_27 (dk_at dksX3_swarm_0 0 rfl rfl)
theorem dX3_swarm_1 : decode cX3_swarm 1 = .ok (.iconst 0, 1) := dk_3 (dk_at dksX3_swarm_0 1 rfl rfl)
theorem dX3_swarm_2 : decode cX3_swarm 2 = .ok (.bipush 7, 2) := dk_16 7 (dk_at dksX3_swarm_0 2 rfl rfl)
theorem dX3_swarm_4 : decode cX3_swarm 4 = .ok (.invokestatic 57, 3) := dk_184 0 57 (dk_at dksX3_swarm_0 4 rfl rfl)
theorem dX3_swarm_7 : decode cX3_swarm 7 = .ok (.ifCond .ne 5, 3) := dk_154 0 5 (dk_at dksX3_swarm_0 7 rfl rfl)
theorem dX3_swarm_10 : decode cX3_swarm 10 = .ok (.iconst (-1), 1) := dk_2 (dk_at dksX3_swarm_0 10 rfl rfl)
theorem dX3_swarm_11 : decode cX3_swarm 11 = .ok (.ireturn, 1) := dk_172 (dk_at dksX3_swarm_0 11 rfl rfl)
theorem dX3_swarm_12 : decode cX3_swarm 12 = .ok (.aload_n 0, 1) := dk_42 (dk_at dksX3_swarm_0 12 rfl rfl)
theorem dX3_swarm_13 : decode cX3_swarm 13 = .ok (.invokevirtual 85, 3) := dk_182 0 85 (dk_at dksX3_swarm_0 13 rfl rfl)
theorem dX3_swarm_16 : decode cX3_swarm 16 = .ok (.istore_n 2, 1) := dk_61 (dk_at dksX3_swarm_0 16 rfl rfl)
theorem dX3_swarm_17 : decode cX3_swarm 17 = .ok (.iload_n 1, 1) := dk_27 (dk_at dksX3_swarm_0 17 rfl rfl)
theorem dX3_swarm_18 : decode cX3_swarm 18 = .ok (.iconst 4, 1) := dk_7 (dk_at dksX3_swarm_0 18 rfl rfl)
theorem dX3_swarm_19 : decode cX3_swarm 19 = .ok (.if_icmp .ge 67, 3) := dk_162 0 67 (dk_at dksX3_swarm_0 19 rfl rfl)
theorem dX3_swarm_22 : decode cX3_swarm 22 = .ok (.iload_n 1, 1) := dk_27 (dk_at dksX3_swarm_0 22 rfl rfl)
theorem dX3_swarm_23 : decode cX3_swarm 23 = .ok (.ifCond .ne 10, 3) := dk_154 0 10 (dk_at dksX3_swarm_1 0 rfl rfl)
theorem dX3_swarm_26 : decode cX3_swarm 26 = .ok (.aload_n 0, 1) := dk_42 (dk_at dksX3_swarm_1 3 rfl rfl)
theorem dX3_swarm_27 : decode cX3_swarm 27 = .ok (.invokevirtual 157, 3) := dk_182 0 157 (dk_at dksX3_swarm_1 4 rfl rfl)
theorem dX3_swarm_30 : decode cX3_swarm 30 = .ok (.goto 55, 3) := dk_167 0 55 (dk_at dksX3_swarm_1 7 rfl rfl)
theorem dX3_swarm_33 : decode cX3_swarm 33 = .ok (.iload_n 1, 1) := dk_27 (dk_at dksX3_swarm_1 10 rfl rfl)
theorem dX3_swarm_34 : decode cX3_swarm 34 = .ok (.iconst 1, 1) := dk_4 (dk_at dksX3_swarm_1 11 rfl rfl)
theorem dX3_swarm_35 : decode cX3_swarm 35 = .ok (.if_icmp .ne 16, 3) := dk_160 0 16 (dk_at dksX3_swarm_1 12 rfl rfl)
theorem dX3_swarm_38 : decode cX3_swarm 38 = .ok (.iload_n 2, 1) := dk_28 (dk_at dksX3_swarm_1 15 rfl rfl)
theorem dX3_swarm_39 : decode cX3_swarm 39 = .ok (.ifCond .ge 8, 3) := dk_156 0 8 (dk_at dksX3_swarm_1 16 rfl rfl)
theorem dX3_swarm_42 : decode cX3_swarm 42 = .ok (.bipush (-5), 2) := dk_16 251 (dk_at dksX3_swarm_1 19 rfl rfl)
theorem dX3_swarm_44 : decode cX3_swarm 44 = .ok (.goto 41, 3) := dk_167 0 41 (dk_at dksX3_swarm_1 21 rfl rfl)
theorem dX3_swarm_47 : decode cX3_swarm 47 = .ok (.iload_n 2, 1) := dk_28 (dk_at dksX3_swarm_2 0 rfl rfl)
theorem dX3_swarm_48 : decode cX3_swarm 48 = .ok (.goto 37, 3) := dk_167 0 37 (dk_at dksX3_swarm_2 1 rfl rfl)
theorem dX3_swarm_51 : decode cX3_swarm 51 = .ok (.iload_n 1, 1) := dk_27 (dk_at dksX3_swarm_2 4 rfl rfl)
theorem dX3_swarm_52 : decode cX3_swarm 52 = .ok (.iconst 2, 1) := dk_5 (dk_at dksX3_swarm_2 5 rfl rfl)
theorem dX3_swarm_53 : decode cX3_swarm 53 = .ok (.if_icmp .ne 26, 3) := dk_160 0 26 (dk_at dksX3_swarm_2 6 rfl rfl)
theorem dX3_swarm_56 : decode cX3_swarm 56 = .ok (.aload_n 0, 1) := dk_42 (dk_at dksX3_swarm_2 9 rfl rfl)
theorem dX3_swarm_57 : decode cX3_swarm 57 = .ok (.getfield 9, 3) := dk_180 0 9 (dk_at dksX3_swarm_2 10 rfl rfl)
theorem dX3_swarm_60 : decode cX3_swarm 60 = .ok (.iconst 2, 1) := dk_5 (dk_at dksX3_swarm_2 13 rfl rfl)
theorem dX3_swarm_61 : decode cX3_swarm 61 = .ok (.iaload, 1) := dk_46 (dk_at dksX3_swarm_2 14 rfl rfl)
theorem dX3_swarm_62 : decode cX3_swarm 62 = .ok (.ifCond .ge 8, 3) := dk_156 0 8 (dk_at dksX3_swarm_2 15 rfl rfl)
theorem dX3_swarm_65 : decode cX3_swarm 65 = .ok (.bipush (-5), 2) := dk_16 251 (dk_at dksX3_swarm_2 18 rfl rfl)
theorem dX3_swarm_67 : decode cX3_swarm 67 = .ok (.goto 18, 3) := dk_167 0 18 (dk_at dksX3_swarm_2 20 rfl rfl)
theorem dX3_swarm_70 : decode cX3_swarm 70 = .ok (.aload_n 0, 1) := dk_42 (dk_at dksX3_swarm_2 23 rfl rfl)
theorem dX3_swarm_71 : decode cX3_swarm 71 = .ok (.getfield 9, 3) := dk_180 0 9 (dk_at dksX3_swarm_3 0 rfl rfl)
theorem dX3_swarm_74 : decode cX3_swarm 74 = .ok (.iconst 2, 1) := dk_5 (dk_at dksX3_swarm_3 3 rfl rfl)
theorem dX3_swarm_75 : decode cX3_swarm 75 = .ok (.iaload, 1) := dk_46 (dk_at dksX3_swarm_3 4 rfl rfl)
theorem dX3_swarm_76 : decode cX3_swarm 76 = .ok (.goto 9, 3) := dk_167 0 9 (dk_at dksX3_swarm_3 5 rfl rfl)
theorem dX3_swarm_79 : decode cX3_swarm 79 = .ok (.aload_n 0, 1) := dk_42 (dk_at dksX3_swarm_3 8 rfl rfl)
theorem dX3_swarm_80 : decode cX3_swarm 80 = .ok (.getfield 9, 3) := dk_180 0 9 (dk_at dksX3_swarm_3 9 rfl rfl)
theorem dX3_swarm_83 : decode cX3_swarm 83 = .ok (.iconst 3, 1) := dk_6 (dk_at dksX3_swarm_3 12 rfl rfl)
theorem dX3_swarm_84 : decode cX3_swarm 84 = .ok (.iaload, 1) := dk_46 (dk_at dksX3_swarm_3 13 rfl rfl)
theorem dX3_swarm_85 : decode cX3_swarm 85 = .ok (.ireturn, 1) := dk_172 (dk_at dksX3_swarm_3 14 rfl rfl)
theorem dX3_swarm_86 : decode cX3_swarm 86 = .ok (.iload_n 1, 1) := dk_27 (dk_at dksX3_swarm_3 15 rfl rfl)
theorem dX3_swarm_87 : decode cX3_swarm 87 = .ok (.bipush 6, 2) := dk_16 6 (dk_at dksX3_swarm_3 16 rfl rfl)
theorem dX3_swarm_89 : decode cX3_swarm 89 = .ok (.if_icmp .ne 16, 3) := dk_160 0 16 (dk_at dksX3_swarm_3 18 rfl rfl)
theorem dX3_swarm_92 : decode cX3_swarm 92 = .ok (.aload_n 0, 1) := dk_42 (dk_at dksX3_swarm_3 21 rfl rfl)
theorem dX3_swarm_93 : decode cX3_swarm 93 = .ok (.invokevirtual 209, 3) := dk_182 0 209 (dk_at dksX3_swarm_4 0 rfl rfl)
theorem dX3_swarm_96 : decode cX3_swarm 96 = .ok (.ifCond .eq 7, 3) := dk_153 0 7 (dk_at dksX3_swarm_4 3 rfl rfl)
theorem dX3_swarm_99 : decode cX3_swarm 99 = .ok (.iconst 1, 1) := dk_4 (dk_at dksX3_swarm_4 6 rfl rfl)
theorem dX3_swarm_100 : decode cX3_swarm 100 = .ok (.goto 4, 3) := dk_167 0 4 (dk_at dksX3_swarm_4 7 rfl rfl)
theorem dX3_swarm_103 : decode cX3_swarm 103 = .ok (.iconst 0, 1) := dk_3 (dk_at dksX3_swarm_4 10 rfl rfl)
theorem dX3_swarm_104 : decode cX3_swarm 104 = .ok (.ireturn, 1) := dk_172 (dk_at dksX3_swarm_4 11 rfl rfl)
theorem dX3_swarm_105 : decode cX3_swarm 105 = .ok (.aload_n 0, 1) := dk_42 (dk_at dksX3_swarm_4 12 rfl rfl)
theorem dX3_swarm_106 : decode cX3_swarm 106 = .ok (.invokevirtual 111, 3) := dk_182 0 111 (dk_at dksX3_swarm_4 13 rfl rfl)
theorem dX3_swarm_109 : decode cX3_swarm 109 = .ok (.iconst 0, 1) := dk_3 (dk_at dksX3_swarm_4 16 rfl rfl)
theorem dX3_swarm_110 : decode cX3_swarm 110 = .ok (.istore_n 3, 1) := dk_62 (dk_at dksX3_swarm_4 17 rfl rfl)
theorem dX3_swarm_111 : decode cX3_swarm 111 = .ok (.iconst 0, 1) := dk_3 (dk_at dksX3_swarm_4 18 rfl rfl)
theorem dX3_swarm_112 : decode cX3_swarm 112 = .ok (.istore 4, 2) := dk_54 4 (dk_at dksX3_swarm_4 19 rfl rfl)
theorem dX3_swarm_114 : decode cX3_swarm 114 = .ok (.iload 4, 2) := dk_21 4 (dk_at dksX3_swarm_4 21 rfl rfl)
theorem dX3_swarm_116 : decode cX3_swarm 116 = .ok (.aload_n 0, 1) := dk_42 (dk_at dksX3_swarm_4 23 rfl rfl)
theorem dX3_swarm_117 : decode cX3_swarm 117 = .ok (.aload_n 0, 1) := dk_42 (dk_at dksX3_swarm_5 0 rfl rfl)
theorem dX3_swarm_118 : decode cX3_swarm 118 = .ok (.getfield 9, 3) := dk_180 0 9 (dk_at dksX3_swarm_5 1 rfl rfl)
theorem dX3_swarm_121 : decode cX3_swarm 121 = .ok (.iconst 3, 1) := dk_6 (dk_at dksX3_swarm_5 4 rfl rfl)
theorem dX3_swarm_122 : decode cX3_swarm 122 = .ok (.iaload, 1) := dk_46 (dk_at dksX3_swarm_5 5 rfl rfl)
theorem dX3_swarm_123 : decode cX3_swarm 123 = .ok (.invokevirtual 101, 3) := dk_182 0 101 (dk_at dksX3_swarm_5 6 rfl rfl)
theorem dX3_swarm_126 : decode cX3_swarm 126 = .ok (.if_icmp .ge 27, 3) := dk_162 0 27 (dk_at dksX3_swarm_5 9 rfl rfl)
theorem dX3_swarm_129 : decode cX3_swarm 129 = .ok (.iload_n 3, 1) := dk_29 (dk_at dksX3_swarm_5 12 rfl rfl)
theorem dX3_swarm_130 : decode cX3_swarm 130 = .ok (.aload_n 0, 1) := dk_42 (dk_at dksX3_swarm_5 13 rfl rfl)
theorem dX3_swarm_131 : decode cX3_swarm 131 = .ok (.getfield 19, 3) := dk_180 0 19 (dk_at dksX3_swarm_5 14 rfl rfl)
theorem dX3_swarm_134 : decode cX3_swarm 134 = .ok (.iload 4, 2) := dk_21 4 (dk_at dksX3_swarm_5 17 rfl rfl)
theorem dX3_swarm_136 : decode cX3_swarm 136 = .ok (.iaload, 1) := dk_46 (dk_at dksX3_swarm_5 19 rfl rfl)
theorem dX3_swarm_137 : decode cX3_swarm 137 = .ok (.ifCond .lt 7, 3) := dk_155 0 7 (dk_at dksX3_swarm_5 20 rfl rfl)
theorem dX3_swarm_140 : decode cX3_swarm 140 = .ok (.iconst 1, 1) := dk_4 (dk_at dksX3_swarm_5 23 rfl rfl)
theorem dX3_swarm_141 : decode cX3_swarm 141 = .ok (.goto 4, 3) := dk_167 0 4 (dk_at dksX3_swarm_6 0 rfl rfl)
theorem dX3_swarm_144 : decode cX3_swarm 144 = .ok (.iconst 0, 1) := dk_3 (dk_at dksX3_swarm_6 3 rfl rfl)
theorem dX3_swarm_145 : decode cX3_swarm 145 = .ok (.iadd, 1) := dk_96 (dk_at dksX3_swarm_6 4 rfl rfl)
theorem dX3_swarm_146 : decode cX3_swarm 146 = .ok (.istore_n 3, 1) := dk_62 (dk_at dksX3_swarm_6 5 rfl rfl)
theorem dX3_swarm_147 : decode cX3_swarm 147 = .ok (.iinc 4 1, 3) := dk_132 4 1 (dk_at dksX3_swarm_6 6 rfl rfl)
theorem dX3_swarm_150 : decode cX3_swarm 150 = .ok (.goto (-36), 3) := dk_167 255 220 (dk_at dksX3_swarm_6 9 rfl rfl)
theorem dX3_swarm_153 : decode cX3_swarm 153 = .ok (.iload_n 1, 1) := dk_27 (dk_at dksX3_swarm_6 12 rfl rfl)
theorem dX3_swarm_154 : decode cX3_swarm 154 = .ok (.iconst 4, 1) := dk_7 (dk_at dksX3_swarm_6 13 rfl rfl)
theorem dX3_swarm_155 : decode cX3_swarm 155 = .ok (.if_icmp .ne 10, 3) := dk_160 0 10 (dk_at dksX3_swarm_6 14 rfl rfl)
theorem dX3_swarm_158 : decode cX3_swarm 158 = .ok (.aload_n 0, 1) := dk_42 (dk_at dksX3_swarm_6 17 rfl rfl)
theorem dX3_swarm_159 : decode cX3_swarm 159 = .ok (.getfield 95, 3) := dk_180 0 95 (dk_at dksX3_swarm_6 18 rfl rfl)
theorem dX3_swarm_162 : decode cX3_swarm 162 = .ok (.goto 16, 3) := dk_167 0 16 (dk_at dksX3_swarm_6 21 rfl rfl)
theorem dX3_swarm_165 : decode cX3_swarm 165 = .ok (.iload_n 1, 1) := dk_27 (dk_at dksX3_swarm_7 0 rfl rfl)
theorem dX3_swarm_166 : decode cX3_swarm 166 = .ok (.iconst 5, 1) := dk_8 (dk_at dksX3_swarm_7 1 rfl rfl)
theorem dX3_swarm_167 : decode cX3_swarm 167 = .ok (.if_icmp .ne 10, 3) := dk_160 0 10 (dk_at dksX3_swarm_7 2 rfl rfl)
theorem dX3_swarm_170 : decode cX3_swarm 170 = .ok (.aload_n 0, 1) := dk_42 (dk_at dksX3_swarm_7 5 rfl rfl)
theorem dX3_swarm_171 : decode cX3_swarm 171 = .ok (.getfield 98, 3) := dk_180 0 98 (dk_at dksX3_swarm_7 6 rfl rfl)
theorem dX3_swarm_174 : decode cX3_swarm 174 = .ok (.goto 4, 3) := dk_167 0 4 (dk_at dksX3_swarm_7 9 rfl rfl)
theorem dX3_swarm_177 : decode cX3_swarm 177 = .ok (.iload_n 3, 1) := dk_29 (dk_at dksX3_swarm_7 12 rfl rfl)
theorem dX3_swarm_178 : decode cX3_swarm 178 = .ok (.ireturn, 1) := dk_172 (dk_at dksX3_swarm_7 13 rfl rfl)
abbrev cX3_isFormed : ByteArray := prog_11_method_25_code
def yX3_isFormed : MethodName := ⟨RX3, "isFormed", "()Z"⟩
def dkwX3_isFormed_3 : List UInt8 := [46, 159, 0, 5, 3, 172, 132, 2, 1, 167, 255, 216, 4, 172]
abbrev dktX3_isFormed_3 : List UInt8 := dkwX3_isFormed_3 ++ []
def dkwX3_isFormed_2 : List UInt8 := [180, 0, 25, 28, 46, 155, 0, 25, 42, 28, 3, 182, 0, 61, 42, 180, 0, 19, 42, 180, 0, 25, 28, 46]
abbrev dktX3_isFormed_2 : List UInt8 := dkwX3_isFormed_2 ++ dktX3_isFormed_3
def dkwX3_isFormed_1 : List UInt8 := [154, 0, 14, 42, 27, 182, 0, 101, 4, 159, 0, 5, 3, 172, 3, 61, 28, 16, 10, 162, 0, 40, 42]
abbrev dktX3_isFormed_1 : List UInt8 := dkwX3_isFormed_1 ++ dktX3_isFormed_2
def dkwX3_isFormed_0 : List UInt8 := [42, 182, 0, 111, 42, 180, 0, 9, 6, 46, 60, 42, 182, 0, 85, 155, 0, 19, 42, 180, 0, 95]
abbrev dktX3_isFormed_0 : List UInt8 := dkwX3_isFormed_0 ++ dktX3_isFormed_1
theorem dksX3_isFormed_0 : cX3_isFormed.data.toList.drop 0 = dktX3_isFormed_0 := by decide +kernel
theorem dksX3_isFormed_1 : cX3_isFormed.data.toList.drop 22 = dktX3_isFormed_1 := dk_seg dksX3_isFormed_0 22 rfl rfl
theorem dksX3_isFormed_2 : cX3_isFormed.data.toList.drop 45 = dktX3_isFormed_2 := dk_seg dksX3_isFormed_1 23 rfl rfl
theorem dksX3_isFormed_3 : cX3_isFormed.data.toList.drop 69 = dktX3_isFormed_3 := dk_seg dksX3_isFormed_2 24 rfl rfl
theorem dX3_isFormed_0 : decode cX3_isFormed 0 = .ok (.aload_n 0, 1) := dk_42 (dk_at dksX3_isFormed_0 0 rfl rfl)
theorem dX3_isFormed_1 : decode cX3_isFormed 1 = .ok (.invokevirtual 111, 3) := dk_182 0 111 (dk_at dksX3_isFormed_0 1 rfl rfl)
theorem dX3_isFormed_4 : decode cX3_isFormed 4 = .ok (.aload_n 0, 1) := dk_42 (dk_at dksX3_isFormed_0 4 rfl rfl)
theorem dX3_isFormed_5 : decode cX3_isFormed 5 = .ok (.getfield 9, 3) := dk_180 0 9 (dk_at dksX3_isFormed_0 5 rfl rfl)
theorem dX3_isFormed_8 : decode cX3_isFormed 8 = .ok (.iconst 3, 1) := dk_6 (dk_at dksX3_isFormed_0 8 rfl rfl)
theorem dX3_isFormed_9 : decode cX3_isFormed 9 = .ok (.iaload, 1) := dk_46 (dk_at dksX3_isFormed_0 9 rfl rfl)
theorem dX3_isFormed_10 : decode cX3_isFormed 10 = .ok (.istore_n 1, 1) := dk_60 (dk_at dksX3_isFormed_0 10 rfl rfl)
theorem dX3_isFormed_11 : decode cX3_isFormed 11 = .ok (.aload_n 0, 1) := dk_42 (dk_at dksX3_isFormed_0 11 rfl rfl)
theorem dX3_isFormed_12 : decode cX3_isFormed 12 = .ok (.invokevirtual 85, 3) := dk_182 0 85 (dk_at dksX3_isFormed_0 12 rfl rfl)
theorem dX3_isFormed_15 : decode cX3_isFormed 15 = .ok (.ifCond .lt 19, 3) := dk_155 0 19 (dk_at dksX3_isFormed_0 15 rfl rfl)
theorem dX3_isFormed_18 : decode cX3_isFormed 18 = .ok (.aload_n 0, 1) := dk_42 (dk_at dksX3_isFormed_0 18 rfl rfl)
theorem dX3_isFormed_19 : decode cX3_isFormed 19 = .ok (.getfield 95, 3) := dk_180 0 95 (dk_at dksX3_isFormed_0 19 rfl rfl)
theorem dX3_isFormed_22 : decode cX3_isFormed 22 = .ok (.ifCond .ne 14, 3) := dk_154 0 14 (dk_at dksX3_isFormed_1 0 rfl rfl)
theorem dX3_isFormed_25 : decode cX3_isFormed 25 = .ok (.aload_n 0, 1) := dk_42 (dk_at dksX3_isFormed_1 3 rfl rfl)
theorem dX3_isFormed_26 : decode cX3_isFormed 26 = .ok (.iload_n 1, 1) := dk_27 (dk_at dksX3_isFormed_1 4 rfl rfl)
theorem dX3_isFormed_27 : decode cX3_isFormed 27 = .ok (.invokevirtual 101, 3) := dk_182 0 101 (dk_at dksX3_isFormed_1 5 rfl rfl)
theorem dX3_isFormed_30 : decode cX3_isFormed 30 = .ok (.iconst 1, 1) := dk_4 (dk_at dksX3_isFormed_1 8 rfl rfl)
theorem dX3_isFormed_31 : decode cX3_isFormed 31 = .ok (.if_icmp .eq 5, 3) := dk_159 0 5 (dk_at dksX3_isFormed_1 9 rfl rfl)
theorem dX3_isFormed_34 : decode cX3_isFormed 34 = .ok (.iconst 0, 1) := dk_3 (dk_at dksX3_isFormed_1 12 rfl rfl)
theorem dX3_isFormed_35 : decode cX3_isFormed 35 = .ok (.ireturn, 1) := dk_172 (dk_at dksX3_isFormed_1 13 rfl rfl)
theorem dX3_isFormed_36 : decode cX3_isFormed 36 = .ok (.iconst 0, 1) := dk_3 (dk_at dksX3_isFormed_1 14 rfl rfl)
theorem dX3_isFormed_37 : decode cX3_isFormed 37 = .ok (.istore_n 2, 1) := dk_61 (dk_at dksX3_isFormed_1 15 rfl rfl)
theorem dX3_isFormed_38 : decode cX3_isFormed 38 = .ok (.iload_n 2, 1) := dk_28 (dk_at dksX3_isFormed_1 16 rfl rfl)
theorem dX3_isFormed_39 : decode cX3_isFormed 39 = .ok (.bipush 10, 2) := dk_16 10 (dk_at dksX3_isFormed_1 17 rfl rfl)
theorem dX3_isFormed_41 : decode cX3_isFormed 41 = .ok (.if_icmp .ge 40, 3) := dk_162 0 40 (dk_at dksX3_isFormed_1 19 rfl rfl)
theorem dX3_isFormed_44 : decode cX3_isFormed 44 = .ok (.aload_n 0, 1) := dk_42 (dk_at dksX3_isFormed_1 22 rfl rfl)
theorem dX3_isFormed_45 : decode cX3_isFormed 45 = .ok (.getfield 25, 3) := dk_180 0 25 (dk_at dksX3_isFormed_2 0 rfl rfl)
theorem dX3_isFormed_48 : decode cX3_isFormed 48 = .ok (.iload_n 2, 1) := dk_28 (dk_at dksX3_isFormed_2 3 rfl rfl)
theorem dX3_isFormed_49 : decode cX3_isFormed 49 = .ok (.iaload, 1) := dk_46 (dk_at dksX3_isFormed_2 4 rfl rfl)
theorem dX3_isFormed_50 : decode cX3_isFormed 50 = .ok (.ifCond .lt 25, 3) := dk_155 0 25 (dk_at dksX3_isFormed_2 5 rfl rfl)
theorem dX3_isFormed_53 : decode cX3_isFormed 53 = .ok (.aload_n 0, 1) := dk_42 (dk_at dksX3_isFormed_2 8 rfl rfl)
theorem dX3_isFormed_54 : decode cX3_isFormed 54 = .ok (.iload_n 2, 1) := dk_28 (dk_at dksX3_isFormed_2 9 rfl rfl)
theorem dX3_isFormed_55 : decode cX3_isFormed 55 = .ok (.iconst 0, 1) := dk_3 (dk_at dksX3_isFormed_2 10 rfl rfl)
theorem dX3_isFormed_56 : decode cX3_isFormed 56 = .ok (.invokevirtual 61, 3) := dk_182 0 61 (dk_at dksX3_isFormed_2 11 rfl rfl)
theorem dX3_isFormed_59 : decode cX3_isFormed 59 = .ok (.aload_n 0, 1) := dk_42 (dk_at dksX3_isFormed_2 14 rfl rfl)
theorem dX3_isFormed_60 : decode cX3_isFormed 60 = .ok (.getfield 19, 3) := dk_180 0 19 (dk_at dksX3_isFormed_2 15 rfl rfl)
theorem dX3_isFormed_63 : decode cX3_isFormed 63 = .ok (.aload_n 0, 1) := dk_42 (dk_at dksX3_isFormed_2 18 rfl rfl)
theorem dX3_isFormed_64 : decode cX3_isFormed 64 = .ok (.getfield 25, 3) := dk_180 0 25 (dk_at dksX3_isFormed_2 19 rfl rfl)
theorem dX3_isFormed_67 : decode cX3_isFormed 67 = .ok (.iload_n 2, 1) := dk_28 (dk_at dksX3_isFormed_2 22 rfl rfl)
theorem dX3_isFormed_68 : decode cX3_isFormed 68 = .ok (.iaload, 1) := dk_46 (dk_at dksX3_isFormed_2 23 rfl rfl)
theorem dX3_isFormed_69 : decode cX3_isFormed 69 = .ok (.iaload, 1) := dk_46 (dk_at dksX3_isFormed_3 0 rfl rfl)
theorem dX3_isFormed_70 : decode cX3_isFormed 70 = .ok (.if_icmp .eq 5, 3) := dk_159 0 5 (dk_at dksX3_isFormed_3 1 rfl rfl)
theorem dX3_isFormed_73 : decode cX3_isFormed 73 = .ok (.iconst 0, 1) := dk_3 (dk_at dksX3_isFormed_3 4 rfl rfl)
theorem dX3_isFormed_74 : decode cX3_isFormed 74 = .ok (.ireturn, 1) := dk_172 (dk_at dksX3_isFormed_3 5 rfl rfl)
theorem dX3_isFormed_75 : decode cX3_isFormed 75 = .ok (.iinc 2 1, 3) := dk_132 2 1 (dk_at dksX3_isFormed_3 6 rfl rfl)
theorem dX3_isFormed_78 : decode cX3_isFormed 78 = .ok (.goto (-40), 3) := dk_167 255 216 (dk_at dksX3_isFormed_3 9 rfl rfl)
theorem dX3_isFormed_81 : decode cX3_isFormed 81 = .ok (.iconst 1, 1) := dk_4 (dk_at dksX3_isFormed_3 12 rfl rfl)
theorem dX3_isFormed_82 : decode cX3_isFormed 82 = .ok (.ireturn, 1) := dk_172 (dk_at dksX3_isFormed_3 13 rfl rfl)
abbrev cX3_cell : ByteArray := prog_11_method_59_code
def yX3_cell : MethodName := ⟨RX3, "cell", "(II)I"⟩
def dkwX3_cell_6 : List UInt8 := [154, 0, 7, 4, 167, 0, 4, 3, 96, 62, 132, 4, 1, 167, 255, 217, 29, 172]
abbrev dktX3_cell_6 : List UInt8 := dkwX3_cell_6 ++ []
def dkwX3_cell_5 : List UInt8 := [162, 0, 39, 29, 27, 21, 4, 184, 0, 72, 155, 0, 20, 42, 27, 21, 4, 184, 0, 72, 182, 0, 69]
abbrev dktX3_cell_5 : List UInt8 := dkwX3_cell_5 ++ dktX3_cell_6
def dkwX3_cell_4 : List UInt8 := [27, 182, 0, 216, 62, 29, 156, 0, 8, 16, 251, 167, 0, 4, 29, 172, 3, 62, 3, 54, 4, 21, 4, 7]
abbrev dktX3_cell_4 : List UInt8 := dkwX3_cell_4 ++ dktX3_cell_5
def dkwX3_cell_3 : List UInt8 := [160, 0, 40, 42, 182, 0, 85, 156, 0, 7, 2, 167, 0, 17, 42, 42, 42, 182, 0, 85, 3, 182, 0, 61]
abbrev dktX3_cell_3 : List UInt8 := dkwX3_cell_3 ++ dktX3_cell_4
def dkwX3_cell_2 : List UInt8 := [167, 0, 8, 42, 27, 182, 0, 121, 172, 28, 5, 160, 0, 9, 42, 27, 182, 0, 213, 172, 28, 6]
abbrev dktX3_cell_2 : List UInt8 := dkwX3_cell_2 ++ dktX3_cell_3
def dkwX3_cell_1 : List UInt8 := [180, 0, 9, 16, 72, 27, 96, 46, 172, 28, 4, 160, 0, 22, 42, 27, 182, 0, 121, 156, 0, 8, 16, 251]
abbrev dktX3_cell_1 : List UInt8 := dkwX3_cell_1 ++ dktX3_cell_2
def dkwX3_cell_0 : List UInt8 := [27, 184, 0, 166, 153, 0, 12, 28, 3, 7, 184, 0, 57, 154, 0, 5, 2, 172, 28, 154, 0, 13, 42]
abbrev dktX3_cell_0 : List UInt8 := dkwX3_cell_0 ++ dktX3_cell_1
theorem dksX3_cell_0 : cX3_cell.data.toList.drop 0 = dktX3_cell_0 := by decide +kernel
theorem dksX3_cell_1 : cX3_cell.data.toList.drop 23 = dktX3_cell_1 := dk_seg dksX3_cell_0 23 rfl rfl
theorem dksX3_cell_2 : cX3_cell.data.toList.drop 47 = dktX3_cell_2 := dk_seg dksX3_cell_1 24 rfl rfl
theorem dksX3_cell_3 : cX3_cell.data.toList.drop 69 = dktX3_cell_3 := dk_seg dksX3_cell_2 22 rfl rfl
theorem dksX3_cell_4 : cX3_cell.data.toList.drop 93 = dktX3_cell_4 := dk_seg dksX3_cell_3 24 rfl rfl
theorem dksX3_cell_5 : cX3_cell.data.toList.drop 117 = dktX3_cell_5 := dk_seg dksX3_cell_4 24 rfl rfl
theorem dksX3_cell_6 : cX3_cell.data.toList.drop 140 = dktX3_cell_6 := dk_seg dksX3_cell_5 23 rfl rfl
theorem dX3_cell_0 : decode cX3_cell 0 = .ok (.iload_n 1, 1) := dk_27 (dk_at dksX3_cell_0 0 rfl rfl)
theorem dX3_cell_1 : decode cX3_cell 1 = .ok (.invokestatic 166, 3) := dk_184 0 166 (dk_at dksX3_cell_0 1 rfl rfl)
theorem dX3_cell_4 : decode cX3_cell 4 = .ok (.ifCond .eq 12, 3) := dk_153 0 12 (dk_at dksX3_cell_0 4 rfl rfl)
theorem dX3_cell_7 : decode cX3_cell 7 = .ok (.iload_n 2, 1) := dk_28 (dk_at dksX3_cell_0 7 rfl rfl)
theorem dX3_cell_8 : decode cX3_cell 8 = .ok (.iconst 0, 1) := dk_3 (dk_at dksX3_cell_0 8 rfl rfl)
theorem dX3_cell_9 : decode cX3_cell 9 = .ok (.iconst 4, 1) := dk_7 (dk_at dksX3_cell_0 9 rfl rfl)
theorem dX3_cell_10 : decode cX3_cell 10 = .ok (.invokestatic 57, 3) := dk_184 0 57 (dk_at dksX3_cell_0 10 rfl rfl)
theorem dX3_cell_13 : decode cX3_cell 13 = .ok (.ifCond .ne 5, 3) := dk_154 0 5 (dk_at dksX3_cell_0 13 rfl rfl)
theorem dX3_cell_16 : decode cX3_cell 16 = .ok (.iconst (-1), 1) := dk_2 (dk_at dksX3_cell_0 16 rfl rfl)
theorem dX3_cell_17 : decode cX3_cell 17 = .ok (.ireturn, 1) := dk_172 (dk_at dksX3_cell_0 17 rfl rfl)
theorem dX3_cell_18 : decode cX3_cell 18 = .ok (.iload_n 2, 1) := dk_28 (dk_at dksX3_cell_0 18 rfl rfl)
theorem dX3_cell_19 : decode cX3_cell 19 = .ok (.ifCond .ne 13, 3) := dk_154 0 13 (dk_at dksX3_cell_0 19 rfl rfl)
theorem dX3_cell_22 : decode cX3_cell 22 = .ok (.aload_n 0, 1) := dk_42 (dk_at dksX3_cell_0 22 rfl rfl)
theorem dX3_cell_23 : decode cX3_cell 23 = .ok (.getfield 9, 3) := dk_180 0 9 (dk_at dksX3_cell_1 0 rfl rfl)
theorem dX3_cell_26 : decode cX3_cell 26 = .ok (.bipush 72, 2) := dk_16 72 (dk_at dksX3_cell_1 3 rfl rfl)
theorem dX3_cell_28 : decode cX3_cell 28 = .ok (.iload_n 1, 1) := dk_27 (dk_at dksX3_cell_1 5 rfl rfl)
theorem dX3_cell_29 : decode cX3_cell 29 = .ok (.iadd, 1) := dk_96 (dk_at dksX3_cell_1 6 rfl rfl)
theorem dX3_cell_30 : decode cX3_cell 30 = .ok (.iaload, 1) := dk_46 (dk_at dksX3_cell_1 7 rfl rfl)
theorem dX3_cell_31 : decode cX3_cell 31 = .ok (.ireturn, 1) := dk_172 (dk_at dksX3_cell_1 8 rfl rfl)
theorem dX3_cell_32 : decode cX3_cell 32 = .ok (.iload_n 2, 1) := dk_28 (dk_at dksX3_cell_1 9 rfl rfl)
theorem dX3_cell_33 : decode cX3_cell 33 = .ok (.iconst 1, 1) := dk_4 (dk_at dksX3_cell_1 10 rfl rfl)
theorem dX3_cell_34 : decode cX3_cell 34 = .ok (.if_icmp .ne 22, 3) := dk_160 0 22 (dk_at dksX3_cell_1 11 rfl rfl)
theorem dX3_cell_37 : decode cX3_cell 37 = .ok (.aload_n 0, 1) := dk_42 (dk_at dksX3_cell_1 14 rfl rfl)
theorem dX3_cell_38 : decode cX3_cell 38 = .ok (.iload_n 1, 1) := dk_27 (dk_at dksX3_cell_1 15 rfl rfl)
theorem dX3_cell_39 : decode cX3_cell 39 = .ok (.invokevirtual 121, 3) := dk_182 0 121 (dk_at dksX3_cell_1 16 rfl rfl)
theorem dX3_cell_42 : decode cX3_cell 42 = .ok (.ifCond .ge 8, 3) := dk_156 0 8 (dk_at dksX3_cell_1 19 rfl rfl)
theorem dX3_cell_45 : decode cX3_cell 45 = .ok (.bipush (-5), 2) := dk_16 251 (dk_at dksX3_cell_1 22 rfl rfl)
theorem dX3_cell_47 : decode cX3_cell 47 = .ok (.goto 8, 3) := dk_167 0 8 (dk_at dksX3_cell_2 0 rfl rfl)
theorem dX3_cell_50 : decode cX3_cell 50 = .ok (.aload_n 0, 1) := dk_42 (dk_at dksX3_cell_2 3 rfl rfl)
theorem dX3_cell_51 : decode cX3_cell 51 = .ok (.iload_n 1, 1) := dk_27 (dk_at dksX3_cell_2 4 rfl rfl)
theorem dX3_cell_52 : decode cX3_cell 52 = .ok (.invokevirtual 121, 3) := dk_182 0 121 (dk_at dksX3_cell_2 5 rfl rfl)
theorem dX3_cell_55 : decode cX3_cell 55 = .ok (.ireturn, 1) := dk_172 (dk_at dksX3_cell_2 8 rfl rfl)
theorem dX3_cell_56 : decode cX3_cell 56 = .ok (.iload_n 2, 1) := dk_28 (dk_at dksX3_cell_2 9 rfl rfl)
theorem dX3_cell_57 : decode cX3_cell 57 = .ok (.iconst 2, 1) := dk_5 (dk_at dksX3_cell_2 10 rfl rfl)
theorem dX3_cell_58 : decode cX3_cell 58 = .ok (.if_icmp .ne 9, 3) := dk_160 0 9 (dk_at dksX3_cell_2 11 rfl rfl)
theorem dX3_cell_61 : decode cX3_cell 61 = .ok (.aload_n 0, 1) := dk_42 (dk_at dksX3_cell_2 14 rfl rfl)
theorem dX3_cell_62 : decode cX3_cell 62 = .ok (.iload_n 1, 1) := dk_27 (dk_at dksX3_cell_2 15 rfl rfl)
theorem dX3_cell_63 : decode cX3_cell 63 = .ok (.invokevirtual 213, 3) := dk_182 0 213 (dk_at dksX3_cell_2 16 rfl rfl)
theorem dX3_cell_66 : decode cX3_cell 66 = .ok (.ireturn, 1) := dk_172 (dk_at dksX3_cell_2 19 rfl rfl)
theorem dX3_cell_67 : decode cX3_cell 67 = .ok (.iload_n 2, 1) := dk_28 (dk_at dksX3_cell_2 20 rfl rfl)
theorem dX3_cell_68 : decode cX3_cell 68 = .ok (.iconst 3, 1) := dk_6 (dk_at dksX3_cell_2 21 rfl rfl)
theorem dX3_cell_69 : decode cX3_cell 69 = .ok (.if_icmp .ne 40, 3) := dk_160 0 40 (dk_at dksX3_cell_3 0 rfl rfl)
theorem dX3_cell_72 : decode cX3_cell 72 = .ok (.aload_n 0, 1) := dk_42 (dk_at dksX3_cell_3 3 rfl rfl)
theorem dX3_cell_73 : decode cX3_cell 73 = .ok (.invokevirtual 85, 3) := dk_182 0 85 (dk_at dksX3_cell_3 4 rfl rfl)
theorem dX3_cell_76 : decode cX3_cell 76 = .ok (.ifCond .ge 7, 3) := dk_156 0 7 (dk_at dksX3_cell_3 7 rfl rfl)
theorem dX3_cell_79 : decode cX3_cell 79 = .ok (.iconst (-1), 1) := dk_2 (dk_at dksX3_cell_3 10 rfl rfl)
theorem dX3_cell_80 : decode cX3_cell 80 = .ok (.goto 17, 3) := dk_167 0 17 (dk_at dksX3_cell_3 11 rfl rfl)
theorem dX3_cell_83 : decode cX3_cell 83 = .ok (.aload_n 0, 1) := dk_42 (dk_at dksX3_cell_3 14 rfl rfl)
theorem dX3_cell_84 : decode cX3_cell 84 = .ok (.aload_n 0, 1) := dk_42 (dk_at dksX3_cell_3 15 rfl rfl)
theorem dX3_cell_85 : decode cX3_cell 85 = .ok (.aload_n 0, 1) := dk_42 (dk_at dksX3_cell_3 16 rfl rfl)
theorem dX3_cell_86 : decode cX3_cell 86 = .ok (.invokevirtual 85, 3) := dk_182 0 85 (dk_at dksX3_cell_3 17 rfl rfl)
theorem dX3_cell_89 : decode cX3_cell 89 = .ok (.iconst 0, 1) := dk_3 (dk_at dksX3_cell_3 20 rfl rfl)
theorem dX3_cell_90 : decode cX3_cell 90 = .ok (.invokevirtual 61, 3) := dk_182 0 61 (dk_at dksX3_cell_3 21 rfl rfl)
theorem dX3_cell_93 : decode cX3_cell 93 = .ok (.iload_n 1, 1) := dk_27 (dk_at dksX3_cell_4 0 rfl rfl)
theorem dX3_cell_94 : decode cX3_cell 94 = .ok (.invokevirtual 216, 3) := dk_182 0 216 (dk_at dksX3_cell_4 1 rfl rfl)
theorem dX3_cell_97 : decode cX3_cell 97 = .ok (.istore_n 3, 1) := dk_62 (dk_at dksX3_cell_4 4 rfl rfl)
theorem dX3_cell_98 : decode cX3_cell 98 = .ok (.iload_n 3, 1) := dk_29 (dk_at dksX3_cell_4 5 rfl rfl)
theorem dX3_cell_99 : decode cX3_cell 99 = .ok (.ifCond .ge 8, 3) := dk_156 0 8 (dk_at dksX3_cell_4 6 rfl rfl)
theorem dX3_cell_102 : decode cX3_cell 102 = .ok (.bipush (-5), 2) := dk_16 251 (dk_at dksX3_cell_4 9 rfl rfl)
theorem dX3_cell_104 : decode cX3_cell 104 = .ok (.goto 4, 3) := dk_167 0 4 (dk_at dksX3_cell_4 11 rfl rfl)
theorem dX3_cell_107 : decode cX3_cell 107 = .ok (.iload_n 3, 1) := dk_29 (dk_at dksX3_cell_4 14 rfl rfl)
theorem dX3_cell_108 : decode cX3_cell 108 = .ok (.ireturn, 1) := dk_172 (dk_at dksX3_cell_4 15 rfl rfl)
theorem dX3_cell_109 : decode cX3_cell 109 = .ok (.iconst 0, 1) := dk_3 (dk_at dksX3_cell_4 16 rfl rfl)
theorem dX3_cell_110 : decode cX3_cell 110 = .ok (.istore_n 3, 1) := dk_62 (dk_at dksX3_cell_4 17 rfl rfl)
theorem dX3_cell_111 : decode cX3_cell 111 = .ok (.iconst 0, 1) := dk_3 (dk_at dksX3_cell_4 18 rfl rfl)
theorem dX3_cell_112 : decode cX3_cell 112 = .ok (.istore 4, 2) := dk_54 4 (dk_at dksX3_cell_4 19 rfl rfl)
theorem dX3_cell_114 : decode cX3_cell 114 = .ok (.iload 4, 2) := dk_21 4 (dk_at dksX3_cell_4 21 rfl rfl)
theorem dX3_cell_116 : decode cX3_cell 116 = .ok (.iconst 4, 1) := dk_7 (dk_at dksX3_cell_4 23 rfl rfl)
theorem dX3_cell_117 : decode cX3_cell 117 = .ok (.if_icmp .ge 39, 3) := dk_162 0 39 (dk_at dksX3_cell_5 0 rfl rfl)
theorem dX3_cell_120 : decode cX3_cell 120 = .ok (.iload_n 3, 1) := dk_29 (dk_at dksX3_cell_5 3 rfl rfl)
theorem dX3_cell_121 : decode cX3_cell 121 = .ok (.iload_n 1, 1) := dk_27 (dk_at dksX3_cell_5 4 rfl rfl)
theorem dX3_cell_122 : decode cX3_cell 122 = .ok (.iload 4, 2) := dk_21 4 (dk_at dksX3_cell_5 5 rfl rfl)
theorem dX3_cell_124 : decode cX3_cell 124 = .ok (.invokestatic 72, 3) := dk_184 0 72 (dk_at dksX3_cell_5 7 rfl rfl)
theorem dX3_cell_127 : decode cX3_cell 127 = .ok (.ifCond .lt 20, 3) := dk_155 0 20 (dk_at dksX3_cell_5 10 rfl rfl)
theorem dX3_cell_130 : decode cX3_cell 130 = .ok (.aload_n 0, 1) := dk_42 (dk_at dksX3_cell_5 13 rfl rfl)
theorem dX3_cell_131 : decode cX3_cell 131 = .ok (.iload_n 1, 1) := dk_27 (dk_at dksX3_cell_5 14 rfl rfl)
theorem dX3_cell_132 : decode cX3_cell 132 = .ok (.iload 4, 2) := dk_21 4 (dk_at dksX3_cell_5 15 rfl rfl)
theorem dX3_cell_134 : decode cX3_cell 134 = .ok (.invokestatic 72, 3) := dk_184 0 72 (dk_at dksX3_cell_5 17 rfl rfl)
theorem dX3_cell_137 : decode cX3_cell 137 = .ok (.invokevirtual 69, 3) := dk_182 0 69 (dk_at dksX3_cell_5 20 rfl rfl)
theorem dX3_cell_140 : decode cX3_cell 140 = .ok (.ifCond .ne 7, 3) := dk_154 0 7 (dk_at dksX3_cell_6 0 rfl rfl)
theorem dX3_cell_143 : decode cX3_cell 143 = .ok (.iconst 1, 1) := dk_4 (dk_at dksX3_cell_6 3 rfl rfl)
theorem dX3_cell_144 : decode cX3_cell 144 = .ok (.goto 4, 3) := dk_167 0 4 (dk_at dksX3_cell_6 4 rfl rfl)
theorem dX3_cell_147 : decode cX3_cell 147 = .ok (.iconst 0, 1) := dk_3 (dk_at dksX3_cell_6 7 rfl rfl)
theorem dX3_cell_148 : decode cX3_cell 148 = .ok (.iadd, 1) := dk_96 (dk_at dksX3_cell_6 8 rfl rfl)
theorem dX3_cell_149 : decode cX3_cell 149 = .ok (.istore_n 3, 1) := dk_62 (dk_at dksX3_cell_6 9 rfl rfl)
theorem dX3_cell_150 : decode cX3_cell 150 = .ok (.iinc 4 1, 3) := dk_132 4 1 (dk_at dksX3_cell_6 10 rfl rfl)
theorem dX3_cell_153 : decode cX3_cell 153 = .ok (.goto (-39), 3) := dk_167 255 217 (dk_at dksX3_cell_6 13 rfl rfl)
theorem dX3_cell_156 : decode cX3_cell 156 = .ok (.iload_n 3, 1) := dk_29 (dk_at dksX3_cell_6 16 rfl rfl)
theorem dX3_cell_157 : decode cX3_cell 157 = .ok (.ireturn, 1) := dk_172 (dk_at dksX3_cell_6 17 rfl rfl)
abbrev cX3_slotAt : ByteArray := prog_11_method_58_code
def yX3_slotAt : MethodName := ⟨RX3, "slotAt", "(I)I"⟩
def dkwX3_slotAt_1 : List UInt8 := [160, 0, 5, 28, 172, 132, 2, 1, 167, 255, 228, 16, 251, 172]
abbrev dktX3_slotAt_1 : List UInt8 := dkwX3_slotAt_1 ++ []
def dkwX3_slotAt_0 : List UInt8 := [3, 61, 28, 42, 42, 180, 0, 9, 6, 46, 182, 0, 101, 162, 0, 20, 42, 28, 182, 0, 104, 27]
abbrev dktX3_slotAt_0 : List UInt8 := dkwX3_slotAt_0 ++ dktX3_slotAt_1
theorem dksX3_slotAt_0 : cX3_slotAt.data.toList.drop 0 = dktX3_slotAt_0 := by decide +kernel
theorem dksX3_slotAt_1 : cX3_slotAt.data.toList.drop 22 = dktX3_slotAt_1 := dk_seg dksX3_slotAt_0 22 rfl rfl
theorem dX3_slotAt_0 : decode cX3_slotAt 0 = .ok (.iconst 0, 1) := dk_3 (dk_at dksX3_slotAt_0 0 rfl rfl)
theorem dX3_slotAt_1 : decode cX3_slotAt 1 = .ok (.istore_n 2, 1) := dk_61 (dk_at dksX3_slotAt_0 1 rfl rfl)
theorem dX3_slotAt_2 : decode cX3_slotAt 2 = .ok (.iload_n 2, 1) := dk_28 (dk_at dksX3_slotAt_0 2 rfl rfl)
theorem dX3_slotAt_3 : decode cX3_slotAt 3 = .ok (.aload_n 0, 1) := dk_42 (dk_at dksX3_slotAt_0 3 rfl rfl)
theorem dX3_slotAt_4 : decode cX3_slotAt 4 = .ok (.aload_n 0, 1) := dk_42 (dk_at dksX3_slotAt_0 4 rfl rfl)
theorem dX3_slotAt_5 : decode cX3_slotAt 5 = .ok (.getfield 9, 3) := dk_180 0 9 (dk_at dksX3_slotAt_0 5 rfl rfl)
theorem dX3_slotAt_8 : decode cX3_slotAt 8 = .ok (.iconst 3, 1) := dk_6 (dk_at dksX3_slotAt_0 8 rfl rfl)
theorem dX3_slotAt_9 : decode cX3_slotAt 9 = .ok (.iaload, 1) := dk_46 (dk_at dksX3_slotAt_0 9 rfl rfl)
theorem dX3_slotAt_10 : decode cX3_slotAt 10 = .ok (.invokevirtual 101, 3) := dk_182 0 101 (dk_at dksX3_slotAt_0 10 rfl rfl)
theorem dX3_slotAt_13 : decode cX3_slotAt 13 = .ok (.if_icmp .ge 20, 3) := dk_162 0 20 (dk_at dksX3_slotAt_0 13 rfl rfl)
theorem dX3_slotAt_16 : decode cX3_slotAt 16 = .ok (.aload_n 0, 1) := dk_42 (dk_at dksX3_slotAt_0 16 rfl rfl)
theorem dX3_slotAt_17 : decode cX3_slotAt 17 = .ok (.iload_n 2, 1) := dk_28 (dk_at dksX3_slotAt_0 17 rfl rfl)
theorem dX3_slotAt_18 : decode cX3_slotAt 18 = .ok (.invokevirtual 104, 3) := dk_182 0 104 (dk_at dksX3_slotAt_0 18 rfl rfl)
theorem dX3_slotAt_21 : decode cX3_slotAt 21 = .ok (.iload_n 1, 1) := dk_27 (dk_at dksX3_slotAt_0 21 rfl rfl)
theorem dX3_slotAt_22 : decode cX3_slotAt 22 = .ok (.if_icmp .ne 5, 3) := dk_160 0 5 (dk_at dksX3_slotAt_1 0 rfl rfl)
theorem dX3_slotAt_25 : decode cX3_slotAt 25 = .ok (.iload_n 2, 1) := dk_28 (dk_at dksX3_slotAt_1 3 rfl rfl)
theorem dX3_slotAt_26 : decode cX3_slotAt 26 = .ok (.ireturn, 1) := dk_172 (dk_at dksX3_slotAt_1 4 rfl rfl)
theorem dX3_slotAt_27 : decode cX3_slotAt 27 = .ok (.iinc 2 1, 3) := dk_132 2 1 (dk_at dksX3_slotAt_1 5 rfl rfl)
theorem dX3_slotAt_30 : decode cX3_slotAt 30 = .ok (.goto (-28), 3) := dk_167 255 228 (dk_at dksX3_slotAt_1 8 rfl rfl)
theorem dX3_slotAt_33 : decode cX3_slotAt 33 = .ok (.bipush (-5), 2) := dk_16 251 (dk_at dksX3_slotAt_1 11 rfl rfl)
theorem dX3_slotAt_35 : decode cX3_slotAt 35 = .ok (.ireturn, 1) := dk_172 (dk_at dksX3_slotAt_1 13 rfl rfl)
abbrev cX3_distanceOf : ByteArray := prog_11_method_16_code
def yX3_distanceOf : MethodName := ⟨RX3, "distanceOf", "(II)I"⟩
def dkwX3_distanceOf_0 : List UInt8 := [42, 16, 10, 28, 182, 0, 75, 42, 180, 0, 13, 17, 4, 176, 27, 96, 46, 172]
abbrev dktX3_distanceOf_0 : List UInt8 := dkwX3_distanceOf_0 ++ []
theorem dksX3_distanceOf_0 : cX3_distanceOf.data.toList.drop 0 = dktX3_distanceOf_0 := by decide +kernel
theorem dX3_distanceOf_0 : decode cX3_distanceOf 0 = .ok (.aload_n 0, 1) := dk_42 (dk_at dksX3_distanceOf_0 0 rfl rfl)
theorem dX3_distanceOf_1 : decode cX3_distanceOf 1 = .ok (.bipush 10, 2) := dk_16 10 (dk_at dksX3_distanceOf_0 1 rfl rfl)
theorem dX3_distanceOf_3 : decode cX3_distanceOf 3 = .ok (.iload_n 2, 1) := dk_28 (dk_at dksX3_distanceOf_0 3 rfl rfl)
theorem dX3_distanceOf_4 : decode cX3_distanceOf 4 = .ok (.invokevirtual 75, 3) := dk_182 0 75 (dk_at dksX3_distanceOf_0 4 rfl rfl)
theorem dX3_distanceOf_7 : decode cX3_distanceOf 7 = .ok (.aload_n 0, 1) := dk_42 (dk_at dksX3_distanceOf_0 7 rfl rfl)
theorem dX3_distanceOf_8 : decode cX3_distanceOf 8 = .ok (.getfield 13, 3) := dk_180 0 13 (dk_at dksX3_distanceOf_0 8 rfl rfl)
theorem dX3_distanceOf_11 : decode cX3_distanceOf 11 = .ok (.sipush 1200, 3) := dk_17 4 176 (dk_at dksX3_distanceOf_0 11 rfl rfl)
theorem dX3_distanceOf_14 : decode cX3_distanceOf 14 = .ok (.iload_n 1, 1) := dk_27 (dk_at dksX3_distanceOf_0 14 rfl rfl)
theorem dX3_distanceOf_15 : decode cX3_distanceOf 15 = .ok (.iadd, 1) := dk_96 (dk_at dksX3_distanceOf_0 15 rfl rfl)
theorem dX3_distanceOf_16 : decode cX3_distanceOf 16 = .ok (.iaload, 1) := dk_46 (dk_at dksX3_distanceOf_0 16 rfl rfl)
theorem dX3_distanceOf_17 : decode cX3_distanceOf 17 = .ok (.ireturn, 1) := dk_172 (dk_at dksX3_distanceOf_0 17 rfl rfl)
abbrev cX3_distance : ByteArray := prog_11_method_60_code
def yX3_distance : MethodName := ⟨RX3, "distance", "(II)I"⟩
def dkwX3_distance_1 : List UInt8 := [156, 0, 8, 16, 251, 167, 0, 4, 29, 172]
abbrev dktX3_distance_1 : List UInt8 := dkwX3_distance_1 ++ []
def dkwX3_distance_0 : List UInt8 := [27, 184, 0, 166, 153, 0, 10, 28, 184, 0, 166, 154, 0, 5, 2, 172, 42, 27, 28, 182, 0, 216, 62, 29]
abbrev dktX3_distance_0 : List UInt8 := dkwX3_distance_0 ++ dktX3_distance_1
theorem dksX3_distance_0 : cX3_distance.data.toList.drop 0 = dktX3_distance_0 := by decide +kernel
theorem dksX3_distance_1 : cX3_distance.data.toList.drop 24 = dktX3_distance_1 := dk_seg dksX3_distance_0 24 rfl rfl
theorem dX3_distance_0 : decode cX3_distance 0 = .ok (.iload_n 1, 1) := dk_27 (dk_at dksX3_distance_0 0 rfl rfl)
theorem dX3_distance_1 : decode cX3_distance 1 = .ok (.invokestatic 166, 3) := dk_184 0 166 (dk_at dksX3_distance_0 1 rfl rfl)
theorem dX3_distance_4 : decode cX3_distance 4 = .ok (.ifCond .eq 10, 3) := dk_153 0 10 (dk_at dksX3_distance_0 4 rfl rfl)
theorem dX3_distance_7 : decode cX3_distance 7 = .ok (.iload_n 2, 1) := dk_28 (dk_at dksX3_distance_0 7 rfl rfl)
theorem dX3_distance_8 : decode cX3_distance 8 = .ok (.invokestatic 166, 3) := dk_184 0 166 (dk_at dksX3_distance_0 8 rfl rfl)
theorem dX3_distance_11 : decode cX3_distance 11 = .ok (.ifCond .ne 5, 3) := dk_154 0 5 (dk_at dksX3_distance_0 11 rfl rfl)
theorem dX3_distance_14 : decode cX3_distance 14 = .ok (.iconst (-1), 1) := dk_2 (dk_at dksX3_distance_0 14 rfl rfl)
theorem dX3_distance_15 : decode cX3_distance 15 = .ok (.ireturn, 1) := dk_172 (dk_at dksX3_distance_0 15 rfl rfl)
theorem dX3_distance_16 : decode cX3_distance 16 = .ok (.aload_n 0, 1) := dk_42 (dk_at dksX3_distance_0 16 rfl rfl)
theorem dX3_distance_17 : decode cX3_distance 17 = .ok (.iload_n 1, 1) := dk_27 (dk_at dksX3_distance_0 17 rfl rfl)
theorem dX3_distance_18 : decode cX3_distance 18 = .ok (.iload_n 2, 1) := dk_28 (dk_at dksX3_distance_0 18 rfl rfl)
theorem dX3_distance_19 : decode cX3_distance 19 = .ok (.invokevirtual 216, 3) := dk_182 0 216 (dk_at dksX3_distance_0 19 rfl rfl)
theorem dX3_distance_22 : decode cX3_distance 22 = .ok (.istore_n 3, 1) := dk_62 (dk_at dksX3_distance_0 22 rfl rfl)
theorem dX3_distance_23 : decode cX3_distance 23 = .ok (.iload_n 3, 1) := dk_29 (dk_at dksX3_distance_0 23 rfl rfl)
theorem dX3_distance_24 : decode cX3_distance 24 = .ok (.ifCond .ge 8, 3) := dk_156 0 8 (dk_at dksX3_distance_1 0 rfl rfl)
theorem dX3_distance_27 : decode cX3_distance 27 = .ok (.bipush (-5), 2) := dk_16 251 (dk_at dksX3_distance_1 3 rfl rfl)
theorem dX3_distance_29 : decode cX3_distance 29 = .ok (.goto 4, 3) := dk_167 0 4 (dk_at dksX3_distance_1 5 rfl rfl)
theorem dX3_distance_32 : decode cX3_distance 32 = .ok (.iload_n 3, 1) := dk_29 (dk_at dksX3_distance_1 8 rfl rfl)
theorem dX3_distance_33 : decode cX3_distance 33 = .ok (.ireturn, 1) := dk_172 (dk_at dksX3_distance_1 9 rfl rfl)
abbrev cX3_slot : ByteArray := prog_11_method_61_code
def yX3_slot : MethodName := ⟨RX3, "slot", "(II)I"⟩
def dkwX3_slot_4 : List UInt8 := [100, 182, 0, 92, 167, 0, 5, 16, 156, 172]
abbrev dktX3_slot_4 : List UInt8 := dkwX3_slot_4 ++ []
def dkwX3_slot_3 : List UInt8 := [182, 0, 89, 167, 0, 30, 28, 16, 30, 16, 29, 29, 96, 184, 0, 57, 153, 0, 15, 42, 27, 28, 16, 30]
abbrev dktX3_slot_3 : List UInt8 := dkwX3_slot_3 ++ dktX3_slot_4
def dkwX3_slot_2 : List UInt8 := [182, 0, 82, 172, 28, 16, 10, 16, 9, 29, 96, 184, 0, 57, 153, 0, 15, 42, 27, 28, 16, 10, 100]
abbrev dktX3_slot_2 : List UInt8 := dkwX3_slot_2 ++ dktX3_slot_3
def dkwX3_slot_1 : List UInt8 := [182, 0, 101, 62, 28, 3, 4, 184, 0, 57, 153, 0, 17, 28, 154, 0, 7, 29, 167, 0, 8, 42, 27]
abbrev dktX3_slot_1 : List UInt8 := dkwX3_slot_1 ++ dktX3_slot_2
def dkwX3_slot_0 : List UInt8 := [27, 3, 5, 184, 0, 57, 153, 0, 11, 42, 27, 182, 0, 101, 154, 0, 6, 16, 156, 172, 42, 27]
abbrev dktX3_slot_0 : List UInt8 := dkwX3_slot_0 ++ dktX3_slot_1
theorem dksX3_slot_0 : cX3_slot.data.toList.drop 0 = dktX3_slot_0 := by decide +kernel
theorem dksX3_slot_1 : cX3_slot.data.toList.drop 22 = dktX3_slot_1 := dk_seg dksX3_slot_0 22 rfl rfl
theorem dksX3_slot_2 : cX3_slot.data.toList.drop 45 = dktX3_slot_2 := dk_seg dksX3_slot_1 23 rfl rfl
theorem dksX3_slot_3 : cX3_slot.data.toList.drop 68 = dktX3_slot_3 := dk_seg dksX3_slot_2 23 rfl rfl
theorem dksX3_slot_4 : cX3_slot.data.toList.drop 92 = dktX3_slot_4 := dk_seg dksX3_slot_3 24 rfl rfl
theorem dX3_slot_0 : decode cX3_slot 0 = .ok (.iload_n 1, 1) := dk_27 (dk_at dksX3_slot_0 0 rfl rfl)
theorem dX3_slot_1 : decode cX3_slot 1 = .ok (.iconst 0, 1) := dk_3 (dk_at dksX3_slot_0 1 rfl rfl)
theorem dX3_slot_2 : decode cX3_slot 2 = .ok (.iconst 2, 1) := dk_5 (dk_at dksX3_slot_0 2 rfl rfl)
theorem dX3_slot_3 : decode cX3_slot 3 = .ok (.invokestatic 57, 3) := dk_184 0 57 (dk_at dksX3_slot_0 3 rfl rfl)
theorem dX3_slot_6 : decode cX3_slot 6 = .ok (.ifCond .eq 11, 3) := dk_153 0 11 (dk_at dksX3_slot_0 6 rfl rfl)
theorem dX3_slot_9 : decode cX3_slot 9 = .ok (.aload_n 0, 1) := dk_42 (dk_at dksX3_slot_0 9 rfl rfl)
theorem dX3_slot_10 : decode cX3_slot 10 = .ok (.iload_n 1, 1) := dk_27 (dk_at dksX3_slot_0 10 rfl rfl)
theorem dX3_slot_11 : decode cX3_slot 11 = .ok (.invokevirtual 101, 3) := dk_182 0 101 (dk_at dksX3_slot_0 11 rfl rfl)
theorem dX3_slot_14 : decode cX3_slot 14 = .ok (.ifCond .ne 6, 3) := dk_154 0 6 (dk_at dksX3_slot_0 14 rfl rfl)
theorem dX3_slot_17 : decode cX3_slot 17 = .ok (.bipush (-100), 2) := dk_16 156 (dk_at dksX3_slot_0 17 rfl rfl)
theorem dX3_slot_19 : decode cX3_slot 19 = .ok (.ireturn, 1) := dk_172 (dk_at dksX3_slot_0 19 rfl rfl)
theorem dX3_slot_20 : decode cX3_slot 20 = .ok (.aload_n 0, 1) := dk_42 (dk_at dksX3_slot_0 20 rfl rfl)
theorem dX3_slot_21 : decode cX3_slot 21 = .ok (.iload_n 1, 1) := dk_27 (dk_at dksX3_slot_0 21 rfl rfl)
theorem dX3_slot_22 : decode cX3_slot 22 = .ok (.invokevirtual 101, 3) := dk_182 0 101 (dk_at dksX3_slot_1 0 rfl rfl)
theorem dX3_slot_25 : decode cX3_slot 25 = .ok (.istore_n 3, 1) := dk_62 (dk_at dksX3_slot_1 3 rfl rfl)
theorem dX3_slot_26 : decode cX3_slot 26 = .ok (.iload_n 2, 1) := dk_28 (dk_at dksX3_slot_1 4 rfl rfl)
theorem dX3_slot_27 : decode cX3_slot 27 = .ok (.iconst 0, 1) := dk_3 (dk_at dksX3_slot_1 5 rfl rfl)
theorem dX3_slot_28 : decode cX3_slot 28 = .ok (.iconst 1, 1) := dk_4 (dk_at dksX3_slot_1 6 rfl rfl)
theorem dX3_slot_29 : decode cX3_slot 29 = .ok (.invokestatic 57, 3) := dk_184 0 57 (dk_at dksX3_slot_1 7 rfl rfl)
theorem dX3_slot_32 : decode cX3_slot 32 = .ok (.ifCond .eq 17, 3) := dk_153 0 17 (dk_at dksX3_slot_1 10 rfl rfl)
theorem dX3_slot_35 : decode cX3_slot 35 = .ok (.iload_n 2, 1) := dk_28 (dk_at dksX3_slot_1 13 rfl rfl)
theorem dX3_slot_36 : decode cX3_slot 36 = .ok (.ifCond .ne 7, 3) := dk_154 0 7 (dk_at dksX3_slot_1 14 rfl rfl)
theorem dX3_slot_39 : decode cX3_slot 39 = .ok (.iload_n 3, 1) := dk_29 (dk_at dksX3_slot_1 17 rfl rfl)
theorem dX3_slot_40 : decode cX3_slot 40 = .ok (.goto 8, 3) := dk_167 0 8 (dk_at dksX3_slot_1 18 rfl rfl)
theorem dX3_slot_43 : decode cX3_slot 43 = .ok (.aload_n 0, 1) := dk_42 (dk_at dksX3_slot_1 21 rfl rfl)
theorem dX3_slot_44 : decode cX3_slot 44 = .ok (.iload_n 1, 1) := dk_27 (dk_at dksX3_slot_1 22 rfl rfl)
theorem dX3_slot_45 : decode cX3_slot 45 = .ok (.invokevirtual 82, 3) := dk_182 0 82 (dk_at dksX3_slot_2 0 rfl rfl)
theorem dX3_slot_48 : decode cX3_slot 48 = .ok (.ireturn, 1) := dk_172 (dk_at dksX3_slot_2 3 rfl rfl)
theorem dX3_slot_49 : decode cX3_slot 49 = .ok (.iload_n 2, 1) := dk_28 (dk_at dksX3_slot_2 4 rfl rfl)
theorem dX3_slot_50 : decode cX3_slot 50 = .ok (.bipush 10, 2) := dk_16 10 (dk_at dksX3_slot_2 5 rfl rfl)
theorem dX3_slot_52 : decode cX3_slot 52 = .ok (.bipush 9, 2) := dk_16 9 (dk_at dksX3_slot_2 7 rfl rfl)
theorem dX3_slot_54 : decode cX3_slot 54 = .ok (.iload_n 3, 1) := dk_29 (dk_at dksX3_slot_2 9 rfl rfl)
theorem dX3_slot_55 : decode cX3_slot 55 = .ok (.iadd, 1) := dk_96 (dk_at dksX3_slot_2 10 rfl rfl)
theorem dX3_slot_56 : decode cX3_slot 56 = .ok (.invokestatic 57, 3) := dk_184 0 57 (dk_at dksX3_slot_2 11 rfl rfl)
theorem dX3_slot_59 : decode cX3_slot 59 = .ok (.ifCond .eq 15, 3) := dk_153 0 15 (dk_at dksX3_slot_2 14 rfl rfl)
theorem dX3_slot_62 : decode cX3_slot 62 = .ok (.aload_n 0, 1) := dk_42 (dk_at dksX3_slot_2 17 rfl rfl)
theorem dX3_slot_63 : decode cX3_slot 63 = .ok (.iload_n 1, 1) := dk_27 (dk_at dksX3_slot_2 18 rfl rfl)
theorem dX3_slot_64 : decode cX3_slot 64 = .ok (.iload_n 2, 1) := dk_28 (dk_at dksX3_slot_2 19 rfl rfl)
theorem dX3_slot_65 : decode cX3_slot 65 = .ok (.bipush 10, 2) := dk_16 10 (dk_at dksX3_slot_2 20 rfl rfl)
theorem dX3_slot_67 : decode cX3_slot 67 = .ok (.isub, 1) := dk_100 (dk_at dksX3_slot_2 22 rfl rfl)
theorem dX3_slot_68 : decode cX3_slot 68 = .ok (.invokevirtual 89, 3) := dk_182 0 89 (dk_at dksX3_slot_3 0 rfl rfl)
theorem dX3_slot_71 : decode cX3_slot 71 = .ok (.goto 30, 3) := dk_167 0 30 (dk_at dksX3_slot_3 3 rfl rfl)
theorem dX3_slot_74 : decode cX3_slot 74 = .ok (.iload_n 2, 1) := dk_28 (dk_at dksX3_slot_3 6 rfl rfl)
theorem dX3_slot_75 : decode cX3_slot 75 = .ok (.bipush 30, 2) := dk_16 30 (dk_at dksX3_slot_3 7 rfl rfl)
theorem dX3_slot_77 : decode cX3_slot 77 = .ok (.bipush 29, 2) := dk_16 29 (dk_at dksX3_slot_3 9 rfl rfl)
theorem dX3_slot_79 : decode cX3_slot 79 = .ok (.iload_n 3, 1) := dk_29 (dk_at dksX3_slot_3 11 rfl rfl)
theorem dX3_slot_80 : decode cX3_slot 80 = .ok (.iadd, 1) := dk_96 (dk_at dksX3_slot_3 12 rfl rfl)
theorem dX3_slot_81 : decode cX3_slot 81 = .ok (.invokestatic 57, 3) := dk_184 0 57 (dk_at dksX3_slot_3 13 rfl rfl)
theorem dX3_slot_84 : decode cX3_slot 84 = .ok (.ifCond .eq 15, 3) := dk_153 0 15 (dk_at dksX3_slot_3 16 rfl rfl)
theorem dX3_slot_87 : decode cX3_slot 87 = .ok (.aload_n 0, 1) := dk_42 (dk_at dksX3_slot_3 19 rfl rfl)
theorem dX3_slot_88 : decode cX3_slot 88 = .ok (.iload_n 1, 1) := dk_27 (dk_at dksX3_slot_3 20 rfl rfl)
theorem dX3_slot_89 : decode cX3_slot 89 = .ok (.iload_n 2, 1) := dk_28 (dk_at dksX3_slot_3 21 rfl rfl)
theorem dX3_slot_90 : decode cX3_slot 90 = .ok (.bipush 30, 2) := dk_16 30 (dk_at dksX3_slot_3 22 rfl rfl)
theorem dX3_slot_92 : decode cX3_slot 92 = .ok (.isub, 1) := dk_100 (dk_at dksX3_slot_4 0 rfl rfl)
theorem dX3_slot_93 : decode cX3_slot 93 = .ok (.invokevirtual 92, 3) := dk_182 0 92 (dk_at dksX3_slot_4 1 rfl rfl)
theorem dX3_slot_96 : decode cX3_slot 96 = .ok (.goto 5, 3) := dk_167 0 5 (dk_at dksX3_slot_4 4 rfl rfl)
theorem dX3_slot_99 : decode cX3_slot 99 = .ok (.bipush (-100), 2) := dk_16 156 (dk_at dksX3_slot_4 7 rfl rfl)
theorem dX3_slot_101 : decode cX3_slot 101 = .ok (.ireturn, 1) := dk_172 (dk_at dksX3_slot_4 9 rfl rfl)
abbrev cX3_recognized : ByteArray := prog_11_method_64_code
def yX3_recognized : MethodName := ⟨RX3, "recognized", "(I)I"⟩
def dkwX3_recognized_3 : List UInt8 := [132, 3, 1, 167, 255, 227, 132, 2, 1, 167, 255, 201, 16, 251, 172]
abbrev dktX3_recognized_3 : List UInt8 := dkwX3_recognized_3 ++ []
def dkwX3_recognized_2 : List UInt8 := [162, 0, 29, 42, 29, 182, 0, 65, 153, 0, 15, 42, 27, 28, 29, 182, 0, 228, 153, 0, 5, 28, 172]
abbrev dktX3_recognized_2 : List UInt8 := dkwX3_recognized_2 ++ dktX3_recognized_3
def dkwX3_recognized_1 : List UInt8 := [28, 16, 8, 162, 0, 55, 42, 182, 0, 157, 42, 27, 182, 0, 101, 160, 0, 43, 3, 62, 29, 16, 10]
abbrev dktX3_recognized_1 : List UInt8 := dkwX3_recognized_1 ++ dktX3_recognized_2
def dkwX3_recognized_0 : List UInt8 := [27, 3, 5, 184, 0, 57, 154, 0, 5, 2, 172, 42, 27, 182, 0, 101, 154, 0, 6, 16, 253, 172, 3, 61]
abbrev dktX3_recognized_0 : List UInt8 := dkwX3_recognized_0 ++ dktX3_recognized_1
theorem dksX3_recognized_0 : cX3_recognized.data.toList.drop 0 = dktX3_recognized_0 := by decide +kernel
theorem dksX3_recognized_1 : cX3_recognized.data.toList.drop 24 = dktX3_recognized_1 := dk_seg dksX3_recognized_0 24 rfl rfl
theorem dksX3_recognized_2 : cX3_recognized.data.toList.drop 47 = dktX3_recognized_2 := dk_seg dksX3_recognized_1 23 rfl rfl
theorem dksX3_recognized_3 : cX3_recognized.data.toList.drop 70 = dktX3_recognized_3 := dk_seg dksX3_recognized_2 23 rfl rfl
theorem dX3_recognized_0 : decode cX3_recognized 0 = .ok (.iload_n 1, 1) := dk_27 (dk_at dksX3_recognized_0 0 rfl rfl)
theorem dX3_recognized_1 : decode cX3_recognized 1 = .ok (.iconst 0, 1) := dk_3 (dk_at dksX3_recognized_0 1 rfl rfl)
theorem dX3_recognized_2 : decode cX3_recognized 2 = .ok (.iconst 2, 1) := dk_5 (dk_at dksX3_recognized_0 2 rfl rfl)
theorem dX3_recognized_3 : decode cX3_recognized 3 = .ok (.invokestatic 57, 3) := dk_184 0 57 (dk_at dksX3_recognized_0 3 rfl rfl)
theorem dX3_recognized_6 : decode cX3_recognized 6 = .ok (.ifCond .ne 5, 3) := dk_154 0 5 (dk_at dksX3_recognized_0 6 rfl rfl)
theorem dX3_recognized_9 : decode cX3_recognized 9 = .ok (.iconst (-1), 1) := dk_2 (dk_at dksX3_recognized_0 9 rfl rfl)
theorem dX3_recognized_10 : decode cX3_recognized 10 = .ok (.ireturn, 1) := dk_172 (dk_at dksX3_recognized_0 10 rfl rfl)
theorem dX3_recognized_11 : decode cX3_recognized 11 = .ok (.aload_n 0, 1) := dk_42 (dk_at dksX3_recognized_0 11 rfl rfl)
theorem dX3_recognized_12 : decode cX3_recognized 12 = .ok (.iload_n 1, 1) := dk_27 (dk_at dksX3_recognized_0 12 rfl rfl)
theorem dX3_recognized_13 : decode cX3_recognized 13 = .ok (.invokevirtual 101, 3) := dk_182 0 101 (dk_at dksX3_recognized_0 13 rfl rfl)
theorem dX3_recognized_16 : decode cX3_recognized 16 = .ok (.ifCond .ne 6, 3) := dk_154 0 6 (dk_at dksX3_recognized_0 16 rfl rfl)
theorem dX3_recognized_19 : decode cX3_recognized 19 = .ok (.bipush (-3), 2) := dk_16 253 (dk_at dksX3_recognized_0 19 rfl rfl)
theorem dX3_recognized_21 : decode cX3_recognized 21 = .ok (.ireturn, 1) := dk_172 (dk_at dksX3_recognized_0 21 rfl rfl)
theorem dX3_recognized_22 : decode cX3_recognized 22 = .ok (.iconst 0, 1) := dk_3 (dk_at dksX3_recognized_0 22 rfl rfl)
theorem dX3_recognized_23 : decode cX3_recognized 23 = .ok (.istore_n 2, 1) := dk_61 (dk_at dksX3_recognized_0 23 rfl rfl)
theorem dX3_recognized_24 : decode cX3_recognized 24 = .ok (.iload_n 2, 1) := dk_28 (dk_at dksX3_recognized_1 0 rfl rfl)
theorem dX3_recognized_25 : decode cX3_recognized 25 = .ok (.bipush 8, 2) := dk_16 8 (dk_at dksX3_recognized_1 1 rfl rfl)
theorem dX3_recognized_27 : decode cX3_recognized 27 = .ok (.if_icmp .ge 55, 3) := dk_162 0 55 (dk_at dksX3_recognized_1 3 rfl rfl)
theorem dX3_recognized_30 : decode cX3_recognized 30 = .ok (.aload_n 0, 1) := dk_42 (dk_at dksX3_recognized_1 6 rfl rfl)
theorem dX3_recognized_31 : decode cX3_recognized 31 = .ok (.invokevirtual 157, 3) := dk_182 0 157 (dk_at dksX3_recognized_1 7 rfl rfl)
theorem dX3_recognized_34 : decode cX3_recognized 34 = .ok (.aload_n 0, 1) := dk_42 (dk_at dksX3_recognized_1 10 rfl rfl)
theorem dX3_recognized_35 : decode cX3_recognized 35 = .ok (.iload_n 1, 1) := dk_27 (dk_at dksX3_recognized_1 11 rfl rfl)
theorem dX3_recognized_36 : decode cX3_recognized 36 = .ok (.invokevirtual 101, 3) := dk_182 0 101 (dk_at dksX3_recognized_1 12 rfl rfl)
theorem dX3_recognized_39 : decode cX3_recognized 39 = .ok (.if_icmp .ne 43, 3) := dk_160 0 43 (dk_at dksX3_recognized_1 15 rfl rfl)
theorem dX3_recognized_42 : decode cX3_recognized 42 = .ok (.iconst 0, 1) := dk_3 (dk_at dksX3_recognized_1 18 rfl rfl)
theorem dX3_recognized_43 : decode cX3_recognized 43 = .ok (.istore_n 3, 1) := dk_62 (dk_at dksX3_recognized_1 19 rfl rfl)
theorem dX3_recognized_44 : decode cX3_recognized 44 = .ok (.iload_n 3, 1) := dk_29 (dk_at dksX3_recognized_1 20 rfl rfl)
theorem dX3_recognized_45 : decode cX3_recognized 45 = .ok (.bipush 10, 2) := dk_16 10 (dk_at dksX3_recognized_1 21 rfl rfl)
theorem dX3_recognized_47 : decode cX3_recognized 47 = .ok (.if_icmp .ge 29, 3) := dk_162 0 29 (dk_at dksX3_recognized_2 0 rfl rfl)
theorem dX3_recognized_50 : decode cX3_recognized 50 = .ok (.aload_n 0, 1) := dk_42 (dk_at dksX3_recognized_2 3 rfl rfl)
theorem dX3_recognized_51 : decode cX3_recognized 51 = .ok (.iload_n 3, 1) := dk_29 (dk_at dksX3_recognized_2 4 rfl rfl)
theorem dX3_recognized_52 : decode cX3_recognized 52 = .ok (.invokevirtual 65, 3) := dk_182 0 65 (dk_at dksX3_recognized_2 5 rfl rfl)
theorem dX3_recognized_55 : decode cX3_recognized 55 = .ok (.ifCond .eq 15, 3) := dk_153 0 15 (dk_at dksX3_recognized_2 8 rfl rfl)
theorem dX3_recognized_58 : decode cX3_recognized 58 = .ok (.aload_n 0, 1) := dk_42 (dk_at dksX3_recognized_2 11 rfl rfl)
theorem dX3_recognized_59 : decode cX3_recognized 59 = .ok (.iload_n 1, 1) := dk_27 (dk_at dksX3_recognized_2 12 rfl rfl)
theorem dX3_recognized_60 : decode cX3_recognized 60 = .ok (.iload_n 2, 1) := dk_28 (dk_at dksX3_recognized_2 13 rfl rfl)
theorem dX3_recognized_61 : decode cX3_recognized 61 = .ok (.iload_n 3, 1) := dk_29 (dk_at dksX3_recognized_2 14 rfl rfl)
theorem dX3_recognized_62 : decode cX3_recognized 62 = .ok (.invokevirtual 228, 3) := dk_182 0 228 (dk_at dksX3_recognized_2 15 rfl rfl)
theorem dX3_recognized_65 : decode cX3_recognized 65 = .ok (.ifCond .eq 5, 3) := dk_153 0 5 (dk_at dksX3_recognized_2 18 rfl rfl)
theorem dX3_recognized_68 : decode cX3_recognized 68 = .ok (.iload_n 2, 1) := dk_28 (dk_at dksX3_recognized_2 21 rfl rfl)
theorem dX3_recognized_69 : decode cX3_recognized 69 = .ok (.ireturn, 1) := dk_172 (dk_at dksX3_recognized_2 22 rfl rfl)
theorem dX3_recognized_70 : decode cX3_recognized 70 = .ok (.iinc 3 1, 3) := dk_132 3 1 (dk_at dksX3_recognized_3 0 rfl rfl)
theorem dX3_recognized_73 : decode cX3_recognized 73 = .ok (.goto (-29), 3) := dk_167 255 227 (dk_at dksX3_recognized_3 3 rfl rfl)
theorem dX3_recognized_76 : decode cX3_recognized 76 = .ok (.iinc 2 1, 3) := dk_132 2 1 (dk_at dksX3_recognized_3 6 rfl rfl)
theorem dX3_recognized_79 : decode cX3_recognized 79 = .ok (.goto (-55), 3) := dk_167 255 201 (dk_at dksX3_recognized_3 9 rfl rfl)
theorem dX3_recognized_82 : decode cX3_recognized 82 = .ok (.bipush (-5), 2) := dk_16 251 (dk_at dksX3_recognized_3 12 rfl rfl)
theorem dX3_recognized_84 : decode cX3_recognized 84 = .ok (.ireturn, 1) := dk_172 (dk_at dksX3_recognized_3 14 rfl rfl)
abbrev cX3_isLike : ByteArray := prog_11_method_63_code
def yX3_isLike : MethodName := ⟨RX3, "isLike", "(III)Z"⟩
def dkwX3_isLike_5 : List UInt8 := [132, 6, 1, 167, 255, 178, 4, 172]
abbrev dktX3_isLike_5 : List UInt8 := dkwX3_isLike_5 ++ []
def dkwX3_isLike_4 : List UInt8 := [184, 0, 57, 153, 0, 18, 42, 16, 12, 21, 8, 104, 21, 7, 96, 182, 0, 121, 156, 0, 5, 3, 172]
abbrev dktX3_isLike_4 : List UInt8 := dkwX3_isLike_4 ++ dktX3_isLike_5
def dkwX3_isLike_3 : List UInt8 := [180, 0, 222, 21, 5, 96, 54, 8, 21, 7, 3, 16, 11, 184, 0, 57, 153, 0, 29, 21, 8, 3, 16, 9]
abbrev dktX3_isLike_3 : List UInt8 := dkwX3_isLike_3 ++ dktX3_isLike_4
def dkwX3_isLike_2 : List UInt8 := [182, 0, 101, 162, 0, 74, 42, 27, 21, 6, 28, 182, 0, 225, 42, 180, 0, 219, 21, 4, 96, 54, 7, 42]
abbrev dktX3_isLike_2 : List UInt8 := dkwX3_isLike_2 ++ dktX3_isLike_3
def dkwX3_isLike_1 : List UInt8 := [29, 3, 182, 0, 61, 16, 12, 108, 42, 180, 0, 222, 100, 54, 5, 3, 54, 6, 21, 6, 42, 27]
abbrev dktX3_isLike_1 : List UInt8 := dkwX3_isLike_1 ++ dktX3_isLike_2
def dkwX3_isLike_0 : List UInt8 := [42, 27, 3, 28, 182, 0, 225, 42, 29, 3, 182, 0, 61, 16, 12, 112, 42, 180, 0, 219, 100, 54, 4, 42]
abbrev dktX3_isLike_0 : List UInt8 := dkwX3_isLike_0 ++ dktX3_isLike_1
theorem dksX3_isLike_0 : cX3_isLike.data.toList.drop 0 = dktX3_isLike_0 := by decide +kernel
theorem dksX3_isLike_1 : cX3_isLike.data.toList.drop 24 = dktX3_isLike_1 := dk_seg dksX3_isLike_0 24 rfl rfl
theorem dksX3_isLike_2 : cX3_isLike.data.toList.drop 46 = dktX3_isLike_2 := dk_seg dksX3_isLike_1 22 rfl rfl
theorem dksX3_isLike_3 : cX3_isLike.data.toList.drop 70 = dktX3_isLike_3 := dk_seg dksX3_isLike_2 24 rfl rfl
theorem dksX3_isLike_4 : cX3_isLike.data.toList.drop 94 = dktX3_isLike_4 := dk_seg dksX3_isLike_3 24 rfl rfl
theorem dksX3_isLike_5 : cX3_isLike.data.toList.drop 117 = dktX3_isLike_5 := dk_seg dksX3_isLike_4 23 rfl rfl
theorem dX3_isLike_0 : decode cX3_isLike 0 = .ok (.aload_n 0, 1) := dk_42 (dk_at dksX3_isLike_0 0 rfl rfl)
theorem dX3_isLike_1 : decode cX3_isLike 1 = .ok (.iload_n 1, 1) := dk_27 (dk_at dksX3_isLike_0 1 rfl rfl)
theorem dX3_isLike_2 : decode cX3_isLike 2 = .ok (.iconst 0, 1) := dk_3 (dk_at dksX3_isLike_0 2 rfl rfl)
theorem dX3_isLike_3 : decode cX3_isLike 3 = .ok (.iload_n 2, 1) := dk_28 (dk_at dksX3_isLike_0 3 rfl rfl)
theorem dX3_isLike_4 : decode cX3_isLike 4 = .ok (.invokevirtual 225, 3) := dk_182 0 225 (dk_at dksX3_isLike_0 4 rfl rfl)
theorem dX3_isLike_7 : decode cX3_isLike 7 = .ok (.aload_n 0, 1) := dk_42 (dk_at dksX3_isLike_0 7 rfl rfl)
theorem dX3_isLike_8 : decode cX3_isLike 8 = .ok (.iload_n 3, 1) := dk_29 (dk_at dksX3_isLike_0 8 rfl rfl)
theorem dX3_isLike_9 : decode cX3_isLike 9 = .ok (.iconst 0, 1) := dk_3 (dk_at dksX3_isLike_0 9 rfl rfl)
theorem dX3_isLike_10 : decode cX3_isLike 10 = .ok (.invokevirtual 61, 3) := dk_182 0 61 (dk_at dksX3_isLike_0 10 rfl rfl)
theorem dX3_isLike_13 : decode cX3_isLike 13 = .ok (.bipush 12, 2) := dk_16 12 (dk_at dksX3_isLike_0 13 rfl rfl)
theorem dX3_isLike_15 : decode cX3_isLike 15 = .ok (.irem, 1) := dk_112 (dk_at dksX3_isLike_0 15 rfl rfl)
theorem dX3_isLike_16 : decode cX3_isLike 16 = .ok (.aload_n 0, 1) := dk_42 (dk_at dksX3_isLike_0 16 rfl rfl)
theorem dX3_isLike_17 : decode cX3_isLike 17 = .ok (.getfield 219, 3) := dk_180 0 219 (dk_at dksX3_isLike_0 17 rfl rfl)
theorem dX3_isLike_20 : decode cX3_isLike 20 = .ok (.isub, 1) := dk_100 (dk_at dksX3_isLike_0 20 rfl rfl)
theorem dX3_isLike_21 : decode cX3_isLike 21 = .ok (.istore 4, 2) := dk_54 4 (dk_at dksX3_isLike_0 21 rfl rfl)
theorem dX3_isLike_23 : decode cX3_isLike 23 = .ok (.aload_n 0, 1) := dk_42 (dk_at dksX3_isLike_0 23 rfl rfl)
theorem dX3_isLike_24 : decode cX3_isLike 24 = .ok (.iload_n 3, 1) := dk_29 (dk_at dksX3_isLike_1 0 rfl rfl)
theorem dX3_isLike_25 : decode cX3_isLike 25 = .ok (.iconst 0, 1) := dk_3 (dk_at dksX3_isLike_1 1 rfl rfl)
theorem dX3_isLike_26 : decode cX3_isLike 26 = .ok (.invokevirtual 61, 3) := dk_182 0 61 (dk_at dksX3_isLike_1 2 rfl rfl)
theorem dX3_isLike_29 : decode cX3_isLike 29 = .ok (.bipush 12, 2) := dk_16 12 (dk_at dksX3_isLike_1 5 rfl rfl)
theorem dX3_isLike_31 : decode cX3_isLike 31 = .ok (.idiv, 1) := dk_108 (dk_at dksX3_isLike_1 7 rfl rfl)
theorem dX3_isLike_32 : decode cX3_isLike 32 = .ok (.aload_n 0, 1) := dk_42 (dk_at dksX3_isLike_1 8 rfl rfl)
theorem dX3_isLike_33 : decode cX3_isLike 33 = .ok (.getfield 222, 3) := dk_180 0 222 (dk_at dksX3_isLike_1 9 rfl rfl)
theorem dX3_isLike_36 : decode cX3_isLike 36 = .ok (.isub, 1) := dk_100 (dk_at dksX3_isLike_1 12 rfl rfl)
theorem dX3_isLike_37 : decode cX3_isLike 37 = .ok (.istore 5, 2) := dk_54 5 (dk_at dksX3_isLike_1 13 rfl rfl)
theorem dX3_isLike_39 : decode cX3_isLike 39 = .ok (.iconst 0, 1) := dk_3 (dk_at dksX3_isLike_1 15 rfl rfl)
theorem dX3_isLike_40 : decode cX3_isLike 40 = .ok (.istore 6, 2) := dk_54 6 (dk_at dksX3_isLike_1 16 rfl rfl)
theorem dX3_isLike_42 : decode cX3_isLike 42 = .ok (.iload 6, 2) := dk_21 6 (dk_at dksX3_isLike_1 18 rfl rfl)
theorem dX3_isLike_44 : decode cX3_isLike 44 = .ok (.aload_n 0, 1) := dk_42 (dk_at dksX3_isLike_1 20 rfl rfl)
theorem dX3_isLike_45 : decode cX3_isLike 45 = .ok (.iload_n 1, 1) := dk_27 (dk_at dksX3_isLike_1 21 rfl rfl)
theorem dX3_isLike_46 : decode cX3_isLike 46 = .ok (.invokevirtual 101, 3) := dk_182 0 101 (dk_at dksX3_isLike_2 0 rfl rfl)
theorem dX3_isLike_49 : decode cX3_isLike 49 = .ok (.if_icmp .ge 74, 3) := dk_162 0 74 (dk_at dksX3_isLike_2 3 rfl rfl)
theorem dX3_isLike_52 : decode cX3_isLike 52 = .ok (.aload_n 0, 1) := dk_42 (dk_at dksX3_isLike_2 6 rfl rfl)
theorem dX3_isLike_53 : decode cX3_isLike 53 = .ok (.iload_n 1, 1) := dk_27 (dk_at dksX3_isLike_2 7 rfl rfl)
theorem dX3_isLike_54 : decode cX3_isLike 54 = .ok (.iload 6, 2) := dk_21 6 (dk_at dksX3_isLike_2 8 rfl rfl)
theorem dX3_isLike_56 : decode cX3_isLike 56 = .ok (.iload_n 2, 1) := dk_28 (dk_at dksX3_isLike_2 10 rfl rfl)
theorem dX3_isLike_57 : decode cX3_isLike 57 = .ok (.invokevirtual 225, 3) := dk_182 0 225 (dk_at dksX3_isLike_2 11 rfl rfl)
theorem dX3_isLike_60 : decode cX3_isLike 60 = .ok (.aload_n 0, 1) := dk_42 (dk_at dksX3_isLike_2 14 rfl rfl)
theorem dX3_isLike_61 : decode cX3_isLike 61 = .ok (.getfield 219, 3) := dk_180 0 219 (dk_at dksX3_isLike_2 15 rfl rfl)
theorem dX3_isLike_64 : decode cX3_isLike 64 = .ok (.iload 4, 2) := dk_21 4 (dk_at dksX3_isLike_2 18 rfl rfl)
theorem dX3_isLike_66 : decode cX3_isLike 66 = .ok (.iadd, 1) := dk_96 (dk_at dksX3_isLike_2 20 rfl rfl)
theorem dX3_isLike_67 : decode cX3_isLike 67 = .ok (.istore 7, 2) := dk_54 7 (dk_at dksX3_isLike_2 21 rfl rfl)
theorem dX3_isLike_69 : decode cX3_isLike 69 = .ok (.aload_n 0, 1) := dk_42 (dk_at dksX3_isLike_2 23 rfl rfl)
theorem dX3_isLike_70 : decode cX3_isLike 70 = .ok (.getfield 222, 3) := dk_180 0 222 (dk_at dksX3_isLike_3 0 rfl rfl)
theorem dX3_isLike_73 : decode cX3_isLike 73 = .ok (.iload 5, 2) := dk_21 5 (dk_at dksX3_isLike_3 3 rfl rfl)
theorem dX3_isLike_75 : decode cX3_isLike 75 = .ok (.iadd, 1) := dk_96 (dk_at dksX3_isLike_3 5 rfl rfl)
theorem dX3_isLike_76 : decode cX3_isLike 76 = .ok (.istore 8, 2) := dk_54 8 (dk_at dksX3_isLike_3 6 rfl rfl)
theorem dX3_isLike_78 : decode cX3_isLike 78 = .ok (.iload 7, 2) := dk_21 7 (dk_at dksX3_isLike_3 8 rfl rfl)
theorem dX3_isLike_80 : decode cX3_isLike 80 = .ok (.iconst 0, 1) := dk_3 (dk_at dksX3_isLike_3 10 rfl rfl)
theorem dX3_isLike_81 : decode cX3_isLike 81 = .ok (.bipush 11, 2) := dk_16 11 (dk_at dksX3_isLike_3 11 rfl rfl)
theorem dX3_isLike_83 : decode cX3_isLike 83 = .ok (.invokestatic 57, 3) := dk_184 0 57 (dk_at dksX3_isLike_3 13 rfl rfl)
theorem dX3_isLike_86 : decode cX3_isLike 86 = .ok (.ifCond .eq 29, 3) := dk_153 0 29 (dk_at dksX3_isLike_3 16 rfl rfl)
theorem dX3_isLike_89 : decode cX3_isLike 89 = .ok (.iload 8, 2) := dk_21 8 (dk_at dksX3_isLike_3 19 rfl rfl)
theorem dX3_isLike_91 : decode cX3_isLike 91 = .ok (.iconst 0, 1) := dk_3 (dk_at dksX3_isLike_3 21 rfl rfl)
theorem dX3_isLike_92 : decode cX3_isLike 92 = .ok (.bipush 9, 2) := dk_16 9 (dk_at dksX3_isLike_3 22 rfl rfl)
theorem dX3_isLike_94 : decode cX3_isLike 94 = .ok (.invokestatic 57, 3) := dk_184 0 57 (dk_at dksX3_isLike_4 0 rfl rfl)
theorem dX3_isLike_97 : decode cX3_isLike 97 = .ok (.ifCond .eq 18, 3) := dk_153 0 18 (dk_at dksX3_isLike_4 3 rfl rfl)
theorem dX3_isLike_100 : decode cX3_isLike 100 = .ok (.aload_n 0, 1) := dk_42 (dk_at dksX3_isLike_4 6 rfl rfl)
theorem dX3_isLike_101 : decode cX3_isLike 101 = .ok (.bipush 12, 2) := dk_16 12 (dk_at dksX3_isLike_4 7 rfl rfl)
theorem dX3_isLike_103 : decode cX3_isLike 103 = .ok (.iload 8, 2) := dk_21 8 (dk_at dksX3_isLike_4 9 rfl rfl)
theorem dX3_isLike_105 : decode cX3_isLike 105 = .ok (.imul, 1) := dk_104 (dk_at dksX3_isLike_4 11 rfl rfl)
theorem dX3_isLike_106 : decode cX3_isLike 106 = .ok (.iload 7, 2) := dk_21 7 (dk_at dksX3_isLike_4 12 rfl rfl)
theorem dX3_isLike_108 : decode cX3_isLike 108 = .ok (.iadd, 1) := dk_96 (dk_at dksX3_isLike_4 14 rfl rfl)
theorem dX3_isLike_109 : decode cX3_isLike 109 = .ok (.invokevirtual 121, 3) := dk_182 0 121 (dk_at dksX3_isLike_4 15 rfl rfl)
theorem dX3_isLike_112 : decode cX3_isLike 112 = .ok (.ifCond .ge 5, 3) := dk_156 0 5 (dk_at dksX3_isLike_4 18 rfl rfl)
theorem dX3_isLike_115 : decode cX3_isLike 115 = .ok (.iconst 0, 1) := dk_3 (dk_at dksX3_isLike_4 21 rfl rfl)
theorem dX3_isLike_116 : decode cX3_isLike 116 = .ok (.ireturn, 1) := dk_172 (dk_at dksX3_isLike_4 22 rfl rfl)
theorem dX3_isLike_117 : decode cX3_isLike 117 = .ok (.iinc 6 1, 3) := dk_132 6 1 (dk_at dksX3_isLike_5 0 rfl rfl)
theorem dX3_isLike_120 : decode cX3_isLike 120 = .ok (.goto (-78), 3) := dk_167 255 178 (dk_at dksX3_isLike_5 3 rfl rfl)
theorem dX3_isLike_123 : decode cX3_isLike 123 = .ok (.iconst 1, 1) := dk_4 (dk_at dksX3_isLike_5 6 rfl rfl)
theorem dX3_isLike_124 : decode cX3_isLike 124 = .ok (.ireturn, 1) := dk_172 (dk_at dksX3_isLike_5 7 rfl rfl)
abbrev cX3_turnsRound : ByteArray := prog_11_method_62_code
def yX3_turnsRound : MethodName := ⟨RX3, "turnsRound", "(III)V"⟩
def dkwX3_turnsRound_3 : List UInt8 := [167, 255, 224, 177]
abbrev dktX3_turnsRound_3 : List UInt8 := dkwX3_turnsRound_3 ++ []
def dkwX3_turnsRound_2 : List UInt8 := [42, 180, 0, 219, 54, 5, 42, 42, 180, 0, 222, 116, 181, 0, 219, 42, 21, 5, 181, 0, 222, 132, 4, 1]
abbrev dktX3_turnsRound_2 : List UInt8 := dkwX3_turnsRound_2 ++ dktX3_turnsRound_3
def dkwX3_turnsRound_1 : List UInt8 := [181, 0, 219, 42, 42, 27, 28, 182, 0, 92, 181, 0, 222, 3, 54, 4, 21, 4, 29, 7, 112, 162, 0, 30]
abbrev dktX3_turnsRound_1 : List UInt8 := dkwX3_turnsRound_1 ++ dktX3_turnsRound_2
def dkwX3_turnsRound_0 : List UInt8 := [42, 29, 6, 164, 0, 13, 42, 27, 28, 182, 0, 89, 116, 167, 0, 9, 42, 27, 28, 182, 0, 89]
abbrev dktX3_turnsRound_0 : List UInt8 := dkwX3_turnsRound_0 ++ dktX3_turnsRound_1
theorem dksX3_turnsRound_0 : cX3_turnsRound.data.toList.drop 0 = dktX3_turnsRound_0 := by decide +kernel
theorem dksX3_turnsRound_1 : cX3_turnsRound.data.toList.drop 22 = dktX3_turnsRound_1 := dk_seg dksX3_turnsRound_0 22 rfl rfl
theorem dksX3_turnsRound_2 : cX3_turnsRound.data.toList.drop 46 = dktX3_turnsRound_2 := dk_seg dksX3_turnsRound_1 24 rfl rfl
theorem dksX3_turnsRound_3 : cX3_turnsRound.data.toList.drop 70 = dktX3_turnsRound_3 := dk_seg dksX3_turnsRound_2 24 rfl rfl
theorem dX3_turnsRound_0 : decode cX3_turnsRound 0 = .ok (.aload_n 0, 1) := dk_42 (dk_at dksX3_turnsRound_0 0 rfl rfl)
theorem dX3_turnsRound_1 : decode cX3_turnsRound 1 = .ok (.iload_n 3, 1) := dk_29 (dk_at dksX3_turnsRound_0 1 rfl rfl)
theorem dX3_turnsRound_2 : decode cX3_turnsRound 2 = .ok (.iconst 3, 1) := dk_6 (dk_at dksX3_turnsRound_0 2 rfl rfl)
theorem dX3_turnsRound_3 : decode cX3_turnsRound 3 = .ok (.if_icmp .le 13, 3) := dk_164 0 13 (dk_at dksX3_turnsRound_0 3 rfl rfl)
theorem dX3_turnsRound_6 : decode cX3_turnsRound 6 = .ok (.aload_n 0, 1) := dk_42 (dk_at dksX3_turnsRound_0 6 rfl rfl)
theorem dX3_turnsRound_7 : decode cX3_turnsRound 7 = .ok (.iload_n 1, 1) := dk_27 (dk_at dksX3_turnsRound_0 7 rfl rfl)
theorem dX3_turnsRound_8 : decode cX3_turnsRound 8 = .ok (.iload_n 2, 1) := dk_28 (dk_at dksX3_turnsRound_0 8 rfl rfl)
theorem dX3_turnsRound_9 : decode cX3_turnsRound 9 = .ok (.invokevirtual 89, 3) := dk_182 0 89 (dk_at dksX3_turnsRound_0 9 rfl rfl)
theorem dX3_turnsRound_12 : decode cX3_turnsRound 12 = .ok (.ineg, 1) := dk_116 (dk_at dksX3_turnsRound_0 12 rfl rfl)
theorem dX3_turnsRound_13 : decode cX3_turnsRound 13 = .ok (.goto 9, 3) := dk_167 0 9 (dk_at dksX3_turnsRound_0 13 rfl rfl)
theorem dX3_turnsRound_16 : decode cX3_turnsRound 16 = .ok (.aload_n 0, 1) := dk_42 (dk_at dksX3_turnsRound_0 16 rfl rfl)
theorem dX3_turnsRound_17 : decode cX3_turnsRound 17 = .ok (.iload_n 1, 1) := dk_27 (dk_at dksX3_turnsRound_0 17 rfl rfl)
theorem dX3_turnsRound_18 : decode cX3_turnsRound 18 = .ok (.iload_n 2, 1) := dk_28 (dk_at dksX3_turnsRound_0 18 rfl rfl)
theorem dX3_turnsRound_19 : decode cX3_turnsRound 19 = .ok (.invokevirtual 89, 3) := dk_182 0 89 (dk_at dksX3_turnsRound_0 19 rfl rfl)
theorem dX3_turnsRound_22 : decode cX3_turnsRound 22 = .ok (.putfield 219, 3) := dk_181 0 219 (dk_at dksX3_turnsRound_1 0 rfl rfl)
theorem dX3_turnsRound_25 : decode cX3_turnsRound 25 = .ok (.aload_n 0, 1) := dk_42 (dk_at dksX3_turnsRound_1 3 rfl rfl)
theorem dX3_turnsRound_26 : decode cX3_turnsRound 26 = .ok (.aload_n 0, 1) := dk_42 (dk_at dksX3_turnsRound_1 4 rfl rfl)
theorem dX3_turnsRound_27 : decode cX3_turnsRound 27 = .ok (.iload_n 1, 1) := dk_27 (dk_at dksX3_turnsRound_1 5 rfl rfl)
theorem dX3_turnsRound_28 : decode cX3_turnsRound 28 = .ok (.iload_n 2, 1) := dk_28 (dk_at dksX3_turnsRound_1 6 rfl rfl)
theorem dX3_turnsRound_29 : decode cX3_turnsRound 29 = .ok (.invokevirtual 92, 3) := dk_182 0 92 (dk_at dksX3_turnsRound_1 7 rfl rfl)
theorem dX3_turnsRound_32 : decode cX3_turnsRound 32 = .ok (.putfield 222, 3) := dk_181 0 222 (dk_at dksX3_turnsRound_1 10 rfl rfl)
theorem dX3_turnsRound_35 : decode cX3_turnsRound 35 = .ok (.iconst 0, 1) := dk_3 (dk_at dksX3_turnsRound_1 13 rfl rfl)
theorem dX3_turnsRound_36 : decode cX3_turnsRound 36 = .ok (.istore 4, 2) := dk_54 4 (dk_at dksX3_turnsRound_1 14 rfl rfl)
theorem dX3_turnsRound_38 : decode cX3_turnsRound 38 = .ok (.iload 4, 2) := dk_21 4 (dk_at dksX3_turnsRound_1 16 rfl rfl)
theorem dX3_turnsRound_40 : decode cX3_turnsRound 40 = .ok (.iload_n 3, 1) := dk_29 (dk_at dksX3_turnsRound_1 18 rfl rfl)
theorem dX3_turnsRound_41 : decode cX3_turnsRound 41 = .ok (.iconst 4, 1) := dk_7 (dk_at dksX3_turnsRound_1 19 rfl rfl)
theorem dX3_turnsRound_42 : decode cX3_turnsRound 42 = .ok (.irem, 1) := dk_112 (dk_at dksX3_turnsRound_1 20 rfl rfl)
theorem dX3_turnsRound_43 : decode cX3_turnsRound 43 = .ok (.if_icmp .ge 30, 3) := dk_162 0 30 (dk_at dksX3_turnsRound_1 21 rfl rfl)
theorem dX3_turnsRound_46 : decode cX3_turnsRound 46 = .ok (.aload_n 0, 1) := dk_42 (dk_at dksX3_turnsRound_2 0 rfl rfl)
theorem dX3_turnsRound_47 : decode cX3_turnsRound 47 = .ok (.getfield 219, 3) := dk_180 0 219 (dk_at dksX3_turnsRound_2 1 rfl rfl)
theorem dX3_turnsRound_50 : decode cX3_turnsRound 50 = .ok (.istore 5, 2) := dk_54 5 (dk_at dksX3_turnsRound_2 4 rfl rfl)
theorem dX3_turnsRound_52 : decode cX3_turnsRound 52 = .ok (.aload_n 0, 1) := dk_42 (dk_at dksX3_turnsRound_2 6 rfl rfl)
theorem dX3_turnsRound_53 : decode cX3_turnsRound 53 = .ok (.aload_n 0, 1) := dk_42 (dk_at dksX3_turnsRound_2 7 rfl rfl)
theorem dX3_turnsRound_54 : decode cX3_turnsRound 54 = .ok (.getfield 222, 3) := dk_180 0 222 (dk_at dksX3_turnsRound_2 8 rfl rfl)
theorem dX3_turnsRound_57 : decode cX3_turnsRound 57 = .ok (.ineg, 1) := dk_116 (dk_at dksX3_turnsRound_2 11 rfl rfl)
theorem dX3_turnsRound_58 : decode cX3_turnsRound 58 = .ok (.putfield 219, 3) := dk_181 0 219 (dk_at dksX3_turnsRound_2 12 rfl rfl)
theorem dX3_turnsRound_61 : decode cX3_turnsRound 61 = .ok (.aload_n 0, 1) := dk_42 (dk_at dksX3_turnsRound_2 15 rfl rfl)
theorem dX3_turnsRound_62 : decode cX3_turnsRound 62 = .ok (.iload 5, 2) := dk_21 5 (dk_at dksX3_turnsRound_2 16 rfl rfl)
theorem dX3_turnsRound_64 : decode cX3_turnsRound 64 = .ok (.putfield 222, 3) := dk_181 0 222 (dk_at dksX3_turnsRound_2 18 rfl rfl)
theorem dX3_turnsRound_67 : decode cX3_turnsRound 67 = .ok (.iinc 4 1, 3) := dk_132 4 1 (dk_at dksX3_turnsRound_2 21 rfl rfl)
theorem dX3_turnsRound_70 : decode cX3_turnsRound 70 = .ok (.goto (-32), 3) := dk_167 255 224 (dk_at dksX3_turnsRound_3 0 rfl rfl)
theorem dX3_turnsRound_73 : decode cX3_turnsRound 73 = .ok (.return_, 1) := dk_177 (dk_at dksX3_turnsRound_3 3 rfl rfl)
abbrev cX3_healed : ByteArray := prog_11_method_66_code
def yX3_healed : MethodName := ⟨RX3, "healed", "(I)I"⟩
def dkwX3_healed_1 : List UInt8 := [3, 16, 10, 182, 0, 53, 42, 27, 182, 0, 231, 61, 42, 16, 10, 3, 182, 0, 53, 28, 172]
abbrev dktX3_healed_1 : List UInt8 := dkwX3_healed_1 ++ []
def dkwX3_healed_0 : List UInt8 := [27, 3, 16, 40, 184, 0, 57, 154, 0, 6, 16, 254, 172, 42, 182, 0, 85, 156, 0, 6, 16, 253, 172, 42]
abbrev dktX3_healed_0 : List UInt8 := dkwX3_healed_0 ++ dktX3_healed_1
theorem dksX3_healed_0 : cX3_healed.data.toList.drop 0 = dktX3_healed_0 := by decide +kernel
theorem dksX3_healed_1 : cX3_healed.data.toList.drop 24 = dktX3_healed_1 := dk_seg dksX3_healed_0 24 rfl rfl
theorem dX3_healed_0 : decode cX3_healed 0 = .ok (.iload_n 1, 1) := dk_27 (dk_at dksX3_healed_0 0 rfl rfl)
theorem dX3_healed_1 : decode cX3_healed 1 = .ok (.iconst 0, 1) := dk_3 (dk_at dksX3_healed_0 1 rfl rfl)
theorem dX3_healed_2 : decode cX3_healed 2 = .ok (.bipush 40, 2) := dk_16 40 (dk_at dksX3_healed_0 2 rfl rfl)
theorem dX3_healed_4 : decode cX3_healed 4 = .ok (.invokestatic 57, 3) := dk_184 0 57 (dk_at dksX3_healed_0 4 rfl rfl)
theorem dX3_healed_7 : decode cX3_healed 7 = .ok (.ifCond .ne 6, 3) := dk_154 0 6 (dk_at dksX3_healed_0 7 rfl rfl)
theorem dX3_healed_10 : decode cX3_healed 10 = .ok (.bipush (-2), 2) := dk_16 254 (dk_at dksX3_healed_0 10 rfl rfl)
theorem dX3_healed_12 : decode cX3_healed 12 = .ok (.ireturn, 1) := dk_172 (dk_at dksX3_healed_0 12 rfl rfl)
theorem dX3_healed_13 : decode cX3_healed 13 = .ok (.aload_n 0, 1) := dk_42 (dk_at dksX3_healed_0 13 rfl rfl)
theorem dX3_healed_14 : decode cX3_healed 14 = .ok (.invokevirtual 85, 3) := dk_182 0 85 (dk_at dksX3_healed_0 14 rfl rfl)
theorem dX3_healed_17 : decode cX3_healed 17 = .ok (.ifCond .ge 6, 3) := dk_156 0 6 (dk_at dksX3_healed_0 17 rfl rfl)
theorem dX3_healed_20 : decode cX3_healed 20 = .ok (.bipush (-3), 2) := dk_16 253 (dk_at dksX3_healed_0 20 rfl rfl)
theorem dX3_healed_22 : decode cX3_healed 22 = .ok (.ireturn, 1) := dk_172 (dk_at dksX3_healed_0 22 rfl rfl)
theorem dX3_healed_23 : decode cX3_healed 23 = .ok (.aload_n 0, 1) := dk_42 (dk_at dksX3_healed_0 23 rfl rfl)
theorem dX3_healed_24 : decode cX3_healed 24 = .ok (.iconst 0, 1) := dk_3 (dk_at dksX3_healed_1 0 rfl rfl)
theorem dX3_healed_25 : decode cX3_healed 25 = .ok (.bipush 10, 2) := dk_16 10 (dk_at dksX3_healed_1 1 rfl rfl)
theorem dX3_healed_27 : decode cX3_healed 27 = .ok (.invokevirtual 53, 3) := dk_182 0 53 (dk_at dksX3_healed_1 3 rfl rfl)
theorem dX3_healed_30 : decode cX3_healed 30 = .ok (.aload_n 0, 1) := dk_42 (dk_at dksX3_healed_1 6 rfl rfl)
theorem dX3_healed_31 : decode cX3_healed 31 = .ok (.iload_n 1, 1) := dk_27 (dk_at dksX3_healed_1 7 rfl rfl)
theorem dX3_healed_32 : decode cX3_healed 32 = .ok (.invokevirtual 231, 3) := dk_182 0 231 (dk_at dksX3_healed_1 8 rfl rfl)
theorem dX3_healed_35 : decode cX3_healed 35 = .ok (.istore_n 2, 1) := dk_61 (dk_at dksX3_healed_1 11 rfl rfl)
theorem dX3_healed_36 : decode cX3_healed 36 = .ok (.aload_n 0, 1) := dk_42 (dk_at dksX3_healed_1 12 rfl rfl)
theorem dX3_healed_37 : decode cX3_healed 37 = .ok (.bipush 10, 2) := dk_16 10 (dk_at dksX3_healed_1 13 rfl rfl)
theorem dX3_healed_39 : decode cX3_healed 39 = .ok (.iconst 0, 1) := dk_3 (dk_at dksX3_healed_1 15 rfl rfl)
theorem dX3_healed_40 : decode cX3_healed 40 = .ok (.invokevirtual 53, 3) := dk_182 0 53 (dk_at dksX3_healed_1 16 rfl rfl)
theorem dX3_healed_43 : decode cX3_healed 43 = .ok (.iload_n 2, 1) := dk_28 (dk_at dksX3_healed_1 19 rfl rfl)
theorem dX3_healed_44 : decode cX3_healed 44 = .ok (.ireturn, 1) := dk_172 (dk_at dksX3_healed_1 20 rfl rfl)
abbrev cX3_forms : ByteArray := prog_11_method_65_code
def yX3_forms : MethodName := ⟨RX3, "forms", "(I)I"⟩
def dkwX3_forms_1 : List UInt8 := [182, 0, 148, 132, 2, 1, 167, 255, 235, 16, 251, 172]
abbrev dktX3_forms_1 : List UInt8 := dkwX3_forms_1 ++ []
def dkwX3_forms_0 : List UInt8 := [42, 180, 0, 9, 5, 2, 79, 3, 61, 28, 27, 163, 0, 22, 42, 182, 0, 209, 153, 0, 5, 28, 172, 42]
abbrev dktX3_forms_0 : List UInt8 := dkwX3_forms_0 ++ dktX3_forms_1
theorem dksX3_forms_0 : cX3_forms.data.toList.drop 0 = dktX3_forms_0 := by decide +kernel
theorem dksX3_forms_1 : cX3_forms.data.toList.drop 24 = dktX3_forms_1 := dk_seg dksX3_forms_0 24 rfl rfl
theorem dX3_forms_0 : decode cX3_forms 0 = .ok (.aload_n 0, 1) := dk_42 (dk_at dksX3_forms_0 0 rfl rfl)
theorem dX3_forms_1 : decode cX3_forms 1 = .ok (.getfield 9, 3) := dk_180 0 9 (dk_at dksX3_forms_0 1 rfl rfl)
theorem dX3_forms_4 : decode cX3_forms 4 = .ok (.iconst 2, 1) := dk_5 (dk_at dksX3_forms_0 4 rfl rfl)
theorem dX3_forms_5 : decode cX3_forms 5 = .ok (.iconst (-1), 1) := dk_2 (dk_at dksX3_forms_0 5 rfl rfl)
theorem dX3_forms_6 : decode cX3_forms 6 = .ok (.iastore, 1) := dk_79 (dk_at dksX3_forms_0 6 rfl rfl)
theorem dX3_forms_7 : decode cX3_forms 7 = .ok (.iconst 0, 1) := dk_3 (dk_at dksX3_forms_0 7 rfl rfl)
theorem dX3_forms_8 : decode cX3_forms 8 = .ok (.istore_n 2, 1) := dk_61 (dk_at dksX3_forms_0 8 rfl rfl)
theorem dX3_forms_9 : decode cX3_forms 9 = .ok (.iload_n 2, 1) := dk_28 (dk_at dksX3_forms_0 9 rfl rfl)
theorem dX3_forms_10 : decode cX3_forms 10 = .ok (.iload_n 1, 1) := dk_27 (dk_at dksX3_forms_0 10 rfl rfl)
theorem dX3_forms_11 : decode cX3_forms 11 = .ok (.if_icmp .gt 22, 3) := dk_163 0 22 (dk_at dksX3_forms_0 11 rfl rfl)
theorem dX3_forms_14 : decode cX3_forms 14 = .ok (.aload_n 0, 1) := dk_42 (dk_at dksX3_forms_0 14 rfl rfl)
theorem dX3_forms_15 : decode cX3_forms 15 = .ok (.invokevirtual 209, 3) := dk_182 0 209 (dk_at dksX3_forms_0 15 rfl rfl)
theorem dX3_forms_18 : decode cX3_forms 18 = .ok (.ifCond .eq 5, 3) := dk_153 0 5 (dk_at dksX3_forms_0 18 rfl rfl)
theorem dX3_forms_21 : decode cX3_forms 21 = .ok (.iload_n 2, 1) := dk_28 (dk_at dksX3_forms_0 21 rfl rfl)
theorem dX3_forms_22 : decode cX3_forms 22 = .ok (.ireturn, 1) := dk_172 (dk_at dksX3_forms_0 22 rfl rfl)
theorem dX3_forms_23 : decode cX3_forms 23 = .ok (.aload_n 0, 1) := dk_42 (dk_at dksX3_forms_0 23 rfl rfl)
theorem dX3_forms_24 : decode cX3_forms 24 = .ok (.invokevirtual 148, 3) := dk_182 0 148 (dk_at dksX3_forms_1 0 rfl rfl)
theorem dX3_forms_27 : decode cX3_forms 27 = .ok (.iinc 2 1, 3) := dk_132 2 1 (dk_at dksX3_forms_1 3 rfl rfl)
theorem dX3_forms_30 : decode cX3_forms 30 = .ok (.goto (-21), 3) := dk_167 255 235 (dk_at dksX3_forms_1 6 rfl rfl)
theorem dX3_forms_33 : decode cX3_forms 33 = .ok (.bipush (-5), 2) := dk_16 251 (dk_at dksX3_forms_1 9 rfl rfl)
theorem dX3_forms_35 : decode cX3_forms 35 = .ok (.ireturn, 1) := dk_172 (dk_at dksX3_forms_1 11 rfl rfl)
abbrev cX3_healedWithout : ByteArray := prog_11_method_67_code
def yX3_healedWithout : MethodName := ⟨RX3, "healedWithout", "(II)I"⟩
def dkwX3_healedWithout_2 : List UInt8 := [42, 28, 182, 0, 231, 62, 42, 16, 10, 3, 182, 0, 53, 29, 172]
abbrev dktX3_healedWithout_2 : List UInt8 := dkwX3_healedWithout_2 ++ []
def dkwX3_healedWithout_1 : List UInt8 := [182, 0, 157, 4, 160, 0, 6, 16, 253, 172, 42, 3, 16, 10, 182, 0, 53, 42, 27, 3, 2, 182, 0, 114]
abbrev dktX3_healedWithout_1 : List UInt8 := dkwX3_healedWithout_1 ++ dktX3_healedWithout_2
def dkwX3_healedWithout_0 : List UInt8 := [42, 27, 182, 0, 65, 154, 0, 5, 2, 172, 28, 3, 16, 40, 184, 0, 57, 154, 0, 6, 16, 254, 172, 42]
abbrev dktX3_healedWithout_0 : List UInt8 := dkwX3_healedWithout_0 ++ dktX3_healedWithout_1
theorem dksX3_healedWithout_0 : cX3_healedWithout.data.toList.drop 0 = dktX3_healedWithout_0 := by decide +kernel
theorem dksX3_healedWithout_1 : cX3_healedWithout.data.toList.drop 24 = dktX3_healedWithout_1 := dk_seg dksX3_healedWithout_0 24 rfl rfl
theorem dksX3_healedWithout_2 : cX3_healedWithout.data.toList.drop 48 = dktX3_healedWithout_2 := dk_seg dksX3_healedWithout_1 24 rfl rfl
theorem dX3_healedWithout_0 : decode cX3_healedWithout 0 = .ok (.aload_n 0, 1) := dk_42 (dk_at dksX3_healedWithout_0 0 rfl rfl)
theorem dX3_healedWithout_1 : decode cX3_healedWithout 1 = .ok (.iload_n 1, 1) := dk_27 (dk_at dksX3_healedWithout_0 1 rfl rfl)
theorem dX3_healedWithout_2 : decode cX3_healedWithout 2 = .ok (.invokevirtual 65, 3) := dk_182 0 65 (dk_at dksX3_healedWithout_0 2 rfl rfl)
theorem dX3_healedWithout_5 : decode cX3_healedWithout 5 = .ok (.ifCond .ne 5, 3) := dk_154 0 5 (dk_at dksX3_healedWithout_0 5 rfl rfl)
theorem dX3_healedWithout_8 : decode cX3_healedWithout 8 = .ok (.iconst (-1), 1) := dk_2 (dk_at dksX3_healedWithout_0 8 rfl rfl)
theorem dX3_healedWithout_9 : decode cX3_healedWithout 9 = .ok (.ireturn, 1) := dk_172 (dk_at dksX3_healedWithout_0 9 rfl rfl)
theorem dX3_healedWithout_10 : decode cX3_healedWithout 10 = .ok (.iload_n 2, 1) := dk_28 (dk_at dksX3_healedWithout_0 10 rfl rfl)
theorem dX3_healedWithout_11 : decode cX3_healedWithout 11 = .ok (.iconst 0, 1) := dk_3 (dk_at dksX3_healedWithout_0 11 rfl rfl)
theorem dX3_healedWithout_12 : decode cX3_healedWithout 12 = .ok (.bipush 40, 2) := dk_16 40 (dk_at dksX3_healedWithout_0 12 rfl rfl)
theorem dX3_healedWithout_14 : decode cX3_healedWithout 14 = .ok (.invokestatic 57, 3) := dk_184 0 57 (dk_at dksX3_healedWithout_0 14 rfl rfl)
theorem dX3_healedWithout_17 : decode cX3_healedWithout 17 = .ok (.ifCond .ne 6, 3) := dk_154 0 6 (dk_at dksX3_healedWithout_0 17 rfl rfl)
theorem dX3_healedWithout_20 : decode cX3_healedWithout 20 = .ok (.bipush (-2), 2) := dk_16 254 (dk_at dksX3_healedWithout_0 20 rfl rfl)
theorem dX3_healedWithout_22 : decode cX3_healedWithout 22 = .ok (.ireturn, 1) := dk_172 (dk_at dksX3_healedWithout_0 22 rfl rfl)
theorem dX3_healedWithout_23 : decode cX3_healedWithout 23 = .ok (.aload_n 0, 1) := dk_42 (dk_at dksX3_healedWithout_0 23 rfl rfl)
theorem dX3_healedWithout_24 : decode cX3_healedWithout 24 = .ok (.invokevirtual 157, 3) := dk_182 0 157 (dk_at dksX3_healedWithout_1 0 rfl rfl)
theorem dX3_healedWithout_27 : decode cX3_healedWithout 27 = .ok (.iconst 1, 1) := dk_4 (dk_at dksX3_healedWithout_1 3 rfl rfl)
theorem dX3_healedWithout_28 : decode cX3_healedWithout 28 = .ok (.if_icmp .ne 6, 3) := dk_160 0 6 (dk_at dksX3_healedWithout_1 4 rfl rfl)
theorem dX3_healedWithout_31 : decode cX3_healedWithout 31 = .ok (.bipush (-3), 2) := dk_16 253 (dk_at dksX3_healedWithout_1 7 rfl rfl)
theorem dX3_healedWithout_33 : decode cX3_healedWithout 33 = .ok (.ireturn, 1) := dk_172 (dk_at dksX3_healedWithout_1 9 rfl rfl)
theorem dX3_healedWithout_34 : decode cX3_healedWithout 34 = .ok (.aload_n 0, 1) := dk_42 (dk_at dksX3_healedWithout_1 10 rfl rfl)
theorem dX3_healedWithout_35 : decode cX3_healedWithout 35 = .ok (.iconst 0, 1) := dk_3 (dk_at dksX3_healedWithout_1 11 rfl rfl)
theorem dX3_healedWithout_36 : decode cX3_healedWithout 36 = .ok (.bipush 10, 2) := dk_16 10 (dk_at dksX3_healedWithout_1 12 rfl rfl)
theorem dX3_healedWithout_38 : decode cX3_healedWithout 38 = .ok (.invokevirtual 53, 3) := dk_182 0 53 (dk_at dksX3_healedWithout_1 14 rfl rfl)
theorem dX3_healedWithout_41 : decode cX3_healedWithout 41 = .ok (.aload_n 0, 1) := dk_42 (dk_at dksX3_healedWithout_1 17 rfl rfl)
theorem dX3_healedWithout_42 : decode cX3_healedWithout 42 = .ok (.iload_n 1, 1) := dk_27 (dk_at dksX3_healedWithout_1 18 rfl rfl)
theorem dX3_healedWithout_43 : decode cX3_healedWithout 43 = .ok (.iconst 0, 1) := dk_3 (dk_at dksX3_healedWithout_1 19 rfl rfl)
theorem dX3_healedWithout_44 : decode cX3_healedWithout 44 = .ok (.iconst (-1), 1) := dk_2 (dk_at dksX3_healedWithout_1 20 rfl rfl)
theorem dX3_healedWithout_45 : decode cX3_healedWithout 45 = .ok (.invokevirtual 114, 3) := dk_182 0 114 (dk_at dksX3_healedWithout_1 21 rfl rfl)
theorem dX3_healedWithout_48 : decode cX3_healedWithout 48 = .ok (.aload_n 0, 1) := dk_42 (dk_at dksX3_healedWithout_2 0 rfl rfl)
theorem dX3_healedWithout_49 : decode cX3_healedWithout 49 = .ok (.iload_n 2, 1) := dk_28 (dk_at dksX3_healedWithout_2 1 rfl rfl)
theorem dX3_healedWithout_50 : decode cX3_healedWithout 50 = .ok (.invokevirtual 231, 3) := dk_182 0 231 (dk_at dksX3_healedWithout_2 2 rfl rfl)
theorem dX3_healedWithout_53 : decode cX3_healedWithout 53 = .ok (.istore_n 3, 1) := dk_62 (dk_at dksX3_healedWithout_2 5 rfl rfl)
theorem dX3_healedWithout_54 : decode cX3_healedWithout 54 = .ok (.aload_n 0, 1) := dk_42 (dk_at dksX3_healedWithout_2 6 rfl rfl)
theorem dX3_healedWithout_55 : decode cX3_healedWithout 55 = .ok (.bipush 10, 2) := dk_16 10 (dk_at dksX3_healedWithout_2 7 rfl rfl)
theorem dX3_healedWithout_57 : decode cX3_healedWithout 57 = .ok (.iconst 0, 1) := dk_3 (dk_at dksX3_healedWithout_2 9 rfl rfl)
theorem dX3_healedWithout_58 : decode cX3_healedWithout 58 = .ok (.invokevirtual 53, 3) := dk_182 0 53 (dk_at dksX3_healedWithout_2 10 rfl rfl)
theorem dX3_healedWithout_61 : decode cX3_healedWithout 61 = .ok (.iload_n 3, 1) := dk_29 (dk_at dksX3_healedWithout_2 13 rfl rfl)
theorem dX3_healedWithout_62 : decode cX3_healedWithout 62 = .ok (.ireturn, 1) := dk_172 (dk_at dksX3_healedWithout_2 14 rfl rfl)
abbrev cX3_again : ByteArray := prog_11_method_68_code
def yX3_again : MethodName := ⟨RX3, "again", "()I"⟩
def dkwX3_again_0 : List UInt8 := [42, 182, 0, 111, 42, 180, 0, 98, 172]
abbrev dktX3_again_0 : List UInt8 := dkwX3_again_0 ++ []
theorem dksX3_again_0 : cX3_again.data.toList.drop 0 = dktX3_again_0 := by decide +kernel
theorem dX3_again_0 : decode cX3_again 0 = .ok (.aload_n 0, 1) := dk_42 (dk_at dksX3_again_0 0 rfl rfl)
theorem dX3_again_1 : decode cX3_again 1 = .ok (.invokevirtual 111, 3) := dk_182 0 111 (dk_at dksX3_again_0 1 rfl rfl)
theorem dX3_again_4 : decode cX3_again 4 = .ok (.aload_n 0, 1) := dk_42 (dk_at dksX3_again_0 4 rfl rfl)
theorem dX3_again_5 : decode cX3_again 5 = .ok (.getfield 98, 3) := dk_180 0 98 (dk_at dksX3_again_0 5 rfl rfl)
theorem dX3_again_8 : decode cX3_again 8 = .ok (.ireturn, 1) := dk_172 (dk_at dksX3_again_0 8 rfl rfl)
abbrev cX3_account : ByteArray := prog_11_method_69_code
def yX3_account : MethodName := ⟨RX3, "account", "(I)I"⟩
def dkwX3_account_2 : List UInt8 := [167, 0, 11, 42, 180, 0, 9, 7, 27, 96, 46, 172]
abbrev dktX3_account_2 : List UInt8 := dkwX3_account_2 ++ []
def dkwX3_account_1 : List UInt8 := [180, 0, 9, 16, 72, 29, 96, 46, 96, 61, 132, 3, 1, 167, 255, 235, 27, 16, 6, 160, 0, 7, 28]
abbrev dktX3_account_1 : List UInt8 := dkwX3_account_1 ++ dktX3_account_2
def dkwX3_account_0 : List UInt8 := [27, 3, 16, 7, 184, 0, 57, 154, 0, 5, 2, 172, 3, 61, 3, 62, 29, 16, 120, 162, 0, 21, 28, 42]
abbrev dktX3_account_0 : List UInt8 := dkwX3_account_0 ++ dktX3_account_1
theorem dksX3_account_0 : cX3_account.data.toList.drop 0 = dktX3_account_0 := by decide +kernel
theorem dksX3_account_1 : cX3_account.data.toList.drop 24 = dktX3_account_1 := dk_seg dksX3_account_0 24 rfl rfl
theorem dksX3_account_2 : cX3_account.data.toList.drop 47 = dktX3_account_2 := dk_seg dksX3_account_1 23 rfl rfl
theorem dX3_account_0 : decode cX3_account 0 = .ok (.iload_n 1, 1) := dk_27 (dk_at dksX3_account_0 0 rfl rfl)
theorem dX3_account_1 : decode cX3_account 1 = .ok (.iconst 0, 1) := dk_3 (dk_at dksX3_account_0 1 rfl rfl)
theorem dX3_account_2 : decode cX3_account 2 = .ok (.bipush 7, 2) := dk_16 7 (dk_at dksX3_account_0 2 rfl rfl)
theorem dX3_account_4 : decode cX3_account 4 = .ok (.invokestatic 57, 3) := dk_184 0 57 (dk_at dksX3_account_0 4 rfl rfl)
theorem dX3_account_7 : decode cX3_account 7 = .ok (.ifCond .ne 5, 3) := dk_154 0 5 (dk_at dksX3_account_0 7 rfl rfl)
theorem dX3_account_10 : decode cX3_account 10 = .ok (.iconst (-1), 1) := dk_2 (dk_at dksX3_account_0 10 rfl rfl)
theorem dX3_account_11 : decode cX3_account 11 = .ok (.ireturn, 1) := dk_172 (dk_at dksX3_account_0 11 rfl rfl)
theorem dX3_account_12 : decode cX3_account 12 = .ok (.iconst 0, 1) := dk_3 (dk_at dksX3_account_0 12 rfl rfl)
theorem dX3_account_13 : decode cX3_account 13 = .ok (.istore_n 2, 1) := dk_61 (dk_at dksX3_account_0 13 rfl rfl)
theorem dX3_account_14 : decode cX3_account 14 = .ok (.iconst 0, 1) := dk_3 (dk_at dksX3_account_0 14 rfl rfl)
theorem dX3_account_15 : decode cX3_account 15 = .ok (.istore_n 3, 1) := dk_62 (dk_at dksX3_account_0 15 rfl rfl)
theorem dX3_account_16 : decode cX3_account 16 = .ok (.iload_n 3, 1) := dk_29 (dk_at dksX3_account_0 16 rfl rfl)
theorem dX3_account_17 : decode cX3_account 17 = .ok (.bipush 120, 2) := dk_16 120 (dk_at dksX3_account_0 17 rfl rfl)
theorem dX3_account_19 : decode cX3_account 19 = .ok (.if_icmp .ge 21, 3) := dk_162 0 21 (dk_at dksX3_account_0 19 rfl rfl)
theorem dX3_account_22 : decode cX3_account 22 = .ok (.iload_n 2, 1) := dk_28 (dk_at dksX3_account_0 22 rfl rfl)
theorem dX3_account_23 : decode cX3_account 23 = .ok (.aload_n 0, 1) := dk_42 (dk_at dksX3_account_0 23 rfl rfl)
theorem dX3_account_24 : decode cX3_account 24 = .ok (.getfield 9, 3) := dk_180 0 9 (dk_at dksX3_account_1 0 rfl rfl)
theorem dX3_account_27 : decode cX3_account 27 = .ok (.bipush 72, 2) := dk_16 72 (dk_at dksX3_account_1 3 rfl rfl)
theorem dX3_account_29 : decode cX3_account 29 = .ok (.iload_n 3, 1) := dk_29 (dk_at dksX3_account_1 5 rfl rfl)
theorem dX3_account_30 : decode cX3_account 30 = .ok (.iadd, 1) := dk_96 (dk_at dksX3_account_1 6 rfl rfl)
theorem dX3_account_31 : decode cX3_account 31 = .ok (.iaload, 1) := dk_46 (dk_at dksX3_account_1 7 rfl rfl)
theorem dX3_account_32 : decode cX3_account 32 = .ok (.iadd, 1) := dk_96 (dk_at dksX3_account_1 8 rfl rfl)
theorem dX3_account_33 : decode cX3_account 33 = .ok (.istore_n 2, 1) := dk_61 (dk_at dksX3_account_1 9 rfl rfl)
theorem dX3_account_34 : decode cX3_account 34 = .ok (.iinc 3 1, 3) := dk_132 3 1 (dk_at dksX3_account_1 10 rfl rfl)
theorem dX3_account_37 : decode cX3_account 37 = .ok (.goto (-21), 3) := dk_167 255 235 (dk_at dksX3_account_1 13 rfl rfl)
theorem dX3_account_40 : decode cX3_account 40 = .ok (.iload_n 1, 1) := dk_27 (dk_at dksX3_account_1 16 rfl rfl)
theorem dX3_account_41 : decode cX3_account 41 = .ok (.bipush 6, 2) := dk_16 6 (dk_at dksX3_account_1 17 rfl rfl)
theorem dX3_account_43 : decode cX3_account 43 = .ok (.if_icmp .ne 7, 3) := dk_160 0 7 (dk_at dksX3_account_1 19 rfl rfl)
theorem dX3_account_46 : decode cX3_account 46 = .ok (.iload_n 2, 1) := dk_28 (dk_at dksX3_account_1 22 rfl rfl)
theorem dX3_account_47 : decode cX3_account 47 = .ok (.goto 11, 3) := dk_167 0 11 (dk_at dksX3_account_2 0 rfl rfl)
theorem dX3_account_50 : decode cX3_account 50 = .ok (.aload_n 0, 1) := dk_42 (dk_at dksX3_account_2 3 rfl rfl)
theorem dX3_account_51 : decode cX3_account 51 = .ok (.getfield 9, 3) := dk_180 0 9 (dk_at dksX3_account_2 4 rfl rfl)
theorem dX3_account_54 : decode cX3_account 54 = .ok (.iconst 4, 1) := dk_7 (dk_at dksX3_account_2 7 rfl rfl)
theorem dX3_account_55 : decode cX3_account 55 = .ok (.iload_n 1, 1) := dk_27 (dk_at dksX3_account_2 8 rfl rfl)
theorem dX3_account_56 : decode cX3_account 56 = .ok (.iadd, 1) := dk_96 (dk_at dksX3_account_2 9 rfl rfl)
theorem dX3_account_57 : decode cX3_account 57 = .ok (.iaload, 1) := dk_46 (dk_at dksX3_account_2 10 rfl rfl)
theorem dX3_account_58 : decode cX3_account 58 = .ok (.ireturn, 1) := dk_172 (dk_at dksX3_account_2 11 rfl rfl)
abbrev cX3_back : ByteArray := prog_11_method_70_code
def yX3_back : MethodName := ⟨RX3, "back", "()I"⟩
def dkwX3_back_1 : List UInt8 := [4, 100, 181, 0, 49, 42, 180, 0, 49, 172]
abbrev dktX3_back_1 : List UInt8 := dkwX3_back_1 ++ []
def dkwX3_back_0 : List UInt8 := [42, 180, 0, 49, 154, 0, 6, 16, 253, 172, 42, 42, 180, 0, 49, 3, 182, 0, 53, 42, 89, 180, 0, 49]
abbrev dktX3_back_0 : List UInt8 := dkwX3_back_0 ++ dktX3_back_1
theorem dksX3_back_0 : cX3_back.data.toList.drop 0 = dktX3_back_0 := by decide +kernel
theorem dksX3_back_1 : cX3_back.data.toList.drop 24 = dktX3_back_1 := dk_seg dksX3_back_0 24 rfl rfl
theorem dX3_back_0 : decode cX3_back 0 = .ok (.aload_n 0, 1) := dk_42 (dk_at dksX3_back_0 0 rfl rfl)
theorem dX3_back_1 : decode cX3_back 1 = .ok (.getfield 49, 3) := dk_180 0 49 (dk_at dksX3_back_0 1 rfl rfl)
theorem dX3_back_4 : decode cX3_back 4 = .ok (.ifCond .ne 6, 3) := dk_154 0 6 (dk_at dksX3_back_0 4 rfl rfl)
theorem dX3_back_7 : decode cX3_back 7 = .ok (.bipush (-3), 2) := dk_16 253 (dk_at dksX3_back_0 7 rfl rfl)
theorem dX3_back_9 : decode cX3_back 9 = .ok (.ireturn, 1) := dk_172 (dk_at dksX3_back_0 9 rfl rfl)
theorem dX3_back_10 : decode cX3_back 10 = .ok (.aload_n 0, 1) := dk_42 (dk_at dksX3_back_0 10 rfl rfl)
theorem dX3_back_11 : decode cX3_back 11 = .ok (.aload_n 0, 1) := dk_42 (dk_at dksX3_back_0 11 rfl rfl)
theorem dX3_back_12 : decode cX3_back 12 = .ok (.getfield 49, 3) := dk_180 0 49 (dk_at dksX3_back_0 12 rfl rfl)
theorem dX3_back_15 : decode cX3_back 15 = .ok (.iconst 0, 1) := dk_3 (dk_at dksX3_back_0 15 rfl rfl)
theorem dX3_back_16 : decode cX3_back 16 = .ok (.invokevirtual 53, 3) := dk_182 0 53 (dk_at dksX3_back_0 16 rfl rfl)
theorem dX3_back_19 : decode cX3_back 19 = .ok (.aload_n 0, 1) := dk_42 (dk_at dksX3_back_0 19 rfl rfl)
theorem dX3_back_20 : decode cX3_back 20 = .ok (.dup, 1) := dk_89 (dk_at dksX3_back_0 20 rfl rfl)
theorem dX3_back_21 : decode cX3_back 21 = .ok (.getfield 49, 3) := dk_180 0 49 (dk_at dksX3_back_0 21 rfl rfl)
theorem dX3_back_24 : decode cX3_back 24 = .ok (.iconst 1, 1) := dk_4 (dk_at dksX3_back_1 0 rfl rfl)
theorem dX3_back_25 : decode cX3_back 25 = .ok (.isub, 1) := dk_100 (dk_at dksX3_back_1 1 rfl rfl)
theorem dX3_back_26 : decode cX3_back 26 = .ok (.putfield 49, 3) := dk_181 0 49 (dk_at dksX3_back_1 2 rfl rfl)
theorem dX3_back_29 : decode cX3_back 29 = .ok (.aload_n 0, 1) := dk_42 (dk_at dksX3_back_1 5 rfl rfl)
theorem dX3_back_30 : decode cX3_back 30 = .ok (.getfield 49, 3) := dk_180 0 49 (dk_at dksX3_back_1 6 rfl rfl)
theorem dX3_back_33 : decode cX3_back 33 = .ok (.ireturn, 1) := dk_172 (dk_at dksX3_back_1 9 rfl rfl)
abbrev cX3_image : ByteArray := prog_11_method_71_code
def yX3_image : MethodName := ⟨RX3, "image", "()I"⟩
def dkwX3_image_0 : List UInt8 := [42, 4, 181, 0, 234, 42, 3, 16, 9, 182, 0, 53, 42, 182, 0, 157, 172]
abbrev dktX3_image_0 : List UInt8 := dkwX3_image_0 ++ []
theorem dksX3_image_0 : cX3_image.data.toList.drop 0 = dktX3_image_0 := by decide +kernel
theorem dX3_image_0 : decode cX3_image 0 = .ok (.aload_n 0, 1) := dk_42 (dk_at dksX3_image_0 0 rfl rfl)
theorem dX3_image_1 : decode cX3_image 1 = .ok (.iconst 1, 1) := dk_4 (dk_at dksX3_image_0 1 rfl rfl)
theorem dX3_image_2 : decode cX3_image 2 = .ok (.putfield 234, 3) := dk_181 0 234 (dk_at dksX3_image_0 2 rfl rfl)
theorem dX3_image_5 : decode cX3_image 5 = .ok (.aload_n 0, 1) := dk_42 (dk_at dksX3_image_0 5 rfl rfl)
theorem dX3_image_6 : decode cX3_image 6 = .ok (.iconst 0, 1) := dk_3 (dk_at dksX3_image_0 6 rfl rfl)
theorem dX3_image_7 : decode cX3_image 7 = .ok (.bipush 9, 2) := dk_16 9 (dk_at dksX3_image_0 7 rfl rfl)
theorem dX3_image_9 : decode cX3_image 9 = .ok (.invokevirtual 53, 3) := dk_182 0 53 (dk_at dksX3_image_0 9 rfl rfl)
theorem dX3_image_12 : decode cX3_image 12 = .ok (.aload_n 0, 1) := dk_42 (dk_at dksX3_image_0 12 rfl rfl)
theorem dX3_image_13 : decode cX3_image 13 = .ok (.invokevirtual 157, 3) := dk_182 0 157 (dk_at dksX3_image_0 13 rfl rfl)
theorem dX3_image_16 : decode cX3_image 16 = .ok (.ireturn, 1) := dk_172 (dk_at dksX3_image_0 16 rfl rfl)
abbrev cX3_undo : ByteArray := prog_11_method_72_code
def yX3_undo : MethodName := ⟨RX3, "undo", "()I"⟩
def dkwX3_undo_1 : List UInt8 := [182, 0, 157, 172]
abbrev dktX3_undo_1 : List UInt8 := dkwX3_undo_1 ++ []
def dkwX3_undo_0 : List UInt8 := [42, 180, 0, 234, 154, 0, 6, 16, 253, 172, 42, 16, 9, 3, 182, 0, 53, 42, 3, 181, 0, 49, 42]
abbrev dktX3_undo_0 : List UInt8 := dkwX3_undo_0 ++ dktX3_undo_1
theorem dksX3_undo_0 : cX3_undo.data.toList.drop 0 = dktX3_undo_0 := by decide +kernel
theorem dksX3_undo_1 : cX3_undo.data.toList.drop 23 = dktX3_undo_1 := dk_seg dksX3_undo_0 23 rfl rfl
theorem dX3_undo_0 : decode cX3_undo 0 = .ok (.aload_n 0, 1) := dk_42 (dk_at dksX3_undo_0 0 rfl rfl)
theorem dX3_undo_1 : decode cX3_undo 1 = .ok (.getfield 234, 3) := dk_180 0 234 (dk_at dksX3_undo_0 1 rfl rfl)
theorem dX3_undo_4 : decode cX3_undo 4 = .ok (.ifCond .ne 6, 3) := dk_154 0 6 (dk_at dksX3_undo_0 4 rfl rfl)
theorem dX3_undo_7 : decode cX3_undo 7 = .ok (.bipush (-3), 2) := dk_16 253 (dk_at dksX3_undo_0 7 rfl rfl)
theorem dX3_undo_9 : decode cX3_undo 9 = .ok (.ireturn, 1) := dk_172 (dk_at dksX3_undo_0 9 rfl rfl)
theorem dX3_undo_10 : decode cX3_undo 10 = .ok (.aload_n 0, 1) := dk_42 (dk_at dksX3_undo_0 10 rfl rfl)
theorem dX3_undo_11 : decode cX3_undo 11 = .ok (.bipush 9, 2) := dk_16 9 (dk_at dksX3_undo_0 11 rfl rfl)
theorem dX3_undo_13 : decode cX3_undo 13 = .ok (.iconst 0, 1) := dk_3 (dk_at dksX3_undo_0 13 rfl rfl)
theorem dX3_undo_14 : decode cX3_undo 14 = .ok (.invokevirtual 53, 3) := dk_182 0 53 (dk_at dksX3_undo_0 14 rfl rfl)
theorem dX3_undo_17 : decode cX3_undo 17 = .ok (.aload_n 0, 1) := dk_42 (dk_at dksX3_undo_0 17 rfl rfl)
theorem dX3_undo_18 : decode cX3_undo 18 = .ok (.iconst 0, 1) := dk_3 (dk_at dksX3_undo_0 18 rfl rfl)
theorem dX3_undo_19 : decode cX3_undo 19 = .ok (.putfield 49, 3) := dk_181 0 49 (dk_at dksX3_undo_0 19 rfl rfl)
theorem dX3_undo_22 : decode cX3_undo 22 = .ok (.aload_n 0, 1) := dk_42 (dk_at dksX3_undo_0 22 rfl rfl)
theorem dX3_undo_23 : decode cX3_undo 23 = .ok (.invokevirtual 157, 3) := dk_182 0 157 (dk_at dksX3_undo_1 0 rfl rfl)
theorem dX3_undo_26 : decode cX3_undo 26 = .ok (.ireturn, 1) := dk_172 (dk_at dksX3_undo_1 3 rfl rfl)
abbrev cX3_count : ByteArray := prog_11_method_73_code
def yX3_count : MethodName := ⟨RX3, "count", "(I)I"⟩
def dkwX3_count_2 : List UInt8 := [154, 0, 10, 42, 180, 0, 172, 167, 0, 16, 27, 4, 160, 0, 10, 42, 180, 0, 49, 167, 0, 4, 28, 172]
abbrev dktX3_count_2 : List UInt8 := dkwX3_count_2 ++ []
def dkwX3_count_1 : List UInt8 := [182, 0, 101, 158, 0, 9, 4, 29, 120, 167, 0, 4, 3, 128, 61, 132, 3, 1, 167, 255, 230, 27]
abbrev dktX3_count_1 : List UInt8 := dkwX3_count_1 ++ dktX3_count_2
def dkwX3_count_0 : List UInt8 := [27, 3, 5, 184, 0, 57, 154, 0, 5, 2, 172, 3, 61, 3, 62, 29, 6, 162, 0, 27, 28, 42, 29]
abbrev dktX3_count_0 : List UInt8 := dkwX3_count_0 ++ dktX3_count_1
theorem dksX3_count_0 : cX3_count.data.toList.drop 0 = dktX3_count_0 := by decide +kernel
theorem dksX3_count_1 : cX3_count.data.toList.drop 23 = dktX3_count_1 := dk_seg dksX3_count_0 23 rfl rfl
theorem dksX3_count_2 : cX3_count.data.toList.drop 45 = dktX3_count_2 := dk_seg dksX3_count_1 22 rfl rfl
theorem dX3_count_0 : decode cX3_count 0 = .ok (.iload_n 1, 1) := dk_27 (dk_at dksX3_count_0 0 rfl rfl)
theorem dX3_count_1 : decode cX3_count 1 = .ok (.iconst 0, 1) := dk_3 (dk_at dksX3_count_0 1 rfl rfl)
theorem dX3_count_2 : decode cX3_count 2 = .ok (.iconst 2, 1) := dk_5 (dk_at dksX3_count_0 2 rfl rfl)
theorem dX3_count_3 : decode cX3_count 3 = .ok (.invokestatic 57, 3) := dk_184 0 57 (dk_at dksX3_count_0 3 rfl rfl)
theorem dX3_count_6 : decode cX3_count 6 = .ok (.ifCond .ne 5, 3) := dk_154 0 5 (dk_at dksX3_count_0 6 rfl rfl)
theorem dX3_count_9 : decode cX3_count 9 = .ok (.iconst (-1), 1) := dk_2 (dk_at dksX3_count_0 9 rfl rfl)
theorem dX3_count_10 : decode cX3_count 10 = .ok (.ireturn, 1) := dk_172 (dk_at dksX3_count_0 10 rfl rfl)
theorem dX3_count_11 : decode cX3_count 11 = .ok (.iconst 0, 1) := dk_3 (dk_at dksX3_count_0 11 rfl rfl)
theorem dX3_count_12 : decode cX3_count 12 = .ok (.istore_n 2, 1) := dk_61 (dk_at dksX3_count_0 12 rfl rfl)
theorem dX3_count_13 : decode cX3_count 13 = .ok (.iconst 0, 1) := dk_3 (dk_at dksX3_count_0 13 rfl rfl)
theorem dX3_count_14 : decode cX3_count 14 = .ok (.istore_n 3, 1) := dk_62 (dk_at dksX3_count_0 14 rfl rfl)
theorem dX3_count_15 : decode cX3_count 15 = .ok (.iload_n 3, 1) := dk_29 (dk_at dksX3_count_0 15 rfl rfl)
theorem dX3_count_16 : decode cX3_count 16 = .ok (.iconst 3, 1) := dk_6 (dk_at dksX3_count_0 16 rfl rfl)
theorem dX3_count_17 : decode cX3_count 17 = .ok (.if_icmp .ge 27, 3) := dk_162 0 27 (dk_at dksX3_count_0 17 rfl rfl)
theorem dX3_count_20 : decode cX3_count 20 = .ok (.iload_n 2, 1) := dk_28 (dk_at dksX3_count_0 20 rfl rfl)
theorem dX3_count_21 : decode cX3_count 21 = .ok (.aload_n 0, 1) := dk_42 (dk_at dksX3_count_0 21 rfl rfl)
theorem dX3_count_22 : decode cX3_count 22 = .ok (.iload_n 3, 1) := dk_29 (dk_at dksX3_count_0 22 rfl rfl)
theorem dX3_count_23 : decode cX3_count 23 = .ok (.invokevirtual 101, 3) := dk_182 0 101 (dk_at dksX3_count_1 0 rfl rfl)
theorem dX3_count_26 : decode cX3_count 26 = .ok (.ifCond .le 9, 3) := dk_158 0 9 (dk_at dksX3_count_1 3 rfl rfl)
theorem dX3_count_29 : decode cX3_count 29 = .ok (.iconst 1, 1) := dk_4 (dk_at dksX3_count_1 6 rfl rfl)
theorem dX3_count_30 : decode cX3_count 30 = .ok (.iload_n 3, 1) := dk_29 (dk_at dksX3_count_1 7 rfl rfl)
theorem dX3_count_31 : decode cX3_count 31 = .ok (.ishl, 1) := dk_120 (dk_at dksX3_count_1 8 rfl rfl)
theorem dX3_count_32 : decode cX3_count 32 = .ok (.goto 4, 3) := dk_167 0 4 (dk_at dksX3_count_1 9 rfl rfl)
theorem dX3_count_35 : decode cX3_count 35 = .ok (.iconst 0, 1) := dk_3 (dk_at dksX3_count_1 12 rfl rfl)
theorem dX3_count_36 : decode cX3_count 36 = .ok (.ior, 1) := dk_128 (dk_at dksX3_count_1 13 rfl rfl)
theorem dX3_count_37 : decode cX3_count 37 = .ok (.istore_n 2, 1) := dk_61 (dk_at dksX3_count_1 14 rfl rfl)
theorem dX3_count_38 : decode cX3_count 38 = .ok (.iinc 3 1, 3) := dk_132 3 1 (dk_at dksX3_count_1 15 rfl rfl)
theorem dX3_count_41 : decode cX3_count 41 = .ok (.goto (-26), 3) := dk_167 255 230 (dk_at dksX3_count_1 18 rfl rfl)
theorem dX3_count_44 : decode cX3_count 44 = .ok (.iload_n 1, 1) := dk_27 (dk_at dksX3_count_1 21 rfl rfl)
theorem dX3_count_45 : decode cX3_count 45 = .ok (.ifCond .ne 10, 3) := dk_154 0 10 (dk_at dksX3_count_2 0 rfl rfl)
theorem dX3_count_48 : decode cX3_count 48 = .ok (.aload_n 0, 1) := dk_42 (dk_at dksX3_count_2 3 rfl rfl)
theorem dX3_count_49 : decode cX3_count 49 = .ok (.getfield 172, 3) := dk_180 0 172 (dk_at dksX3_count_2 4 rfl rfl)
theorem dX3_count_52 : decode cX3_count 52 = .ok (.goto 16, 3) := dk_167 0 16 (dk_at dksX3_count_2 7 rfl rfl)
theorem dX3_count_55 : decode cX3_count 55 = .ok (.iload_n 1, 1) := dk_27 (dk_at dksX3_count_2 10 rfl rfl)
theorem dX3_count_56 : decode cX3_count 56 = .ok (.iconst 1, 1) := dk_4 (dk_at dksX3_count_2 11 rfl rfl)
theorem dX3_count_57 : decode cX3_count 57 = .ok (.if_icmp .ne 10, 3) := dk_160 0 10 (dk_at dksX3_count_2 12 rfl rfl)
theorem dX3_count_60 : decode cX3_count 60 = .ok (.aload_n 0, 1) := dk_42 (dk_at dksX3_count_2 15 rfl rfl)
theorem dX3_count_61 : decode cX3_count 61 = .ok (.getfield 49, 3) := dk_180 0 49 (dk_at dksX3_count_2 16 rfl rfl)
theorem dX3_count_64 : decode cX3_count 64 = .ok (.goto 4, 3) := dk_167 0 4 (dk_at dksX3_count_2 19 rfl rfl)
theorem dX3_count_67 : decode cX3_count 67 = .ok (.iload_n 2, 1) := dk_28 (dk_at dksX3_count_2 22 rfl rfl)
theorem dX3_count_68 : decode cX3_count 68 = .ok (.ireturn, 1) := dk_172 (dk_at dksX3_count_2 23 rfl rfl)
theorem q110 : (Jvm.Cond.initialized "SwarmPlannerModel") ∈ lw_all := lw_g (lw_at lw_m1 7 rfl) rfl
theorem q406 : (Jvm.Cond.selects "SwarmPlannerModel" ({ cls := "java/lang/Object", name := "getClass", desc := "()Ljava/lang/Class;" } : Jvm.MethodName) ({ cls := "java/lang/Object", name := "getClass", desc := "()Ljava/lang/Class;" } : Jvm.MethodName)) ∈ lw_all := lw_g (lw_at lw_m2 63 rfl) rfl
theorem q1116 : (Jvm.Cond.instantiable "SwarmPlannerModel" (25 : Nat)) ∈ lw_all := lw_g (lw_at lw_m5 53 rfl) rfl
theorem q1118 : (Jvm.Cond.instanceMethod ({ cls := "SwarmPlannerModel", name := "<init>", desc := "()V" } : Jvm.MethodName)) ∈ lw_all := lw_g (lw_at lw_m5 55 rfl) rfl
theorem q1119 : (Jvm.Cond.code ({ cls := "SwarmPlannerModel", name := "<init>", desc := "()V" } : Jvm.MethodName) prog_11_method_1_code (1 : Nat) (Option.none : Option Jvm.ClassFile.FieldType)) ∈ lw_all := lw_g (lw_at lw_m5 56 rfl) rfl
theorem q1120 : (Jvm.Cond.methodLink "SwarmPlannerModel" (3 : Nat) ({ cls := "java/lang/Object", name := "<init>", desc := "()V" } : Jvm.MethodName)) ∈ lw_all := lw_g (lw_at lw_m5 57 rfl) rfl
theorem q1121 : (Jvm.Cond.fieldLink "SwarmPlannerModel" (9 : Nat) "SwarmPlannerModel" "all" "[I") ∈ lw_all := lw_g (lw_at lw_m5 58 rfl) rfl
theorem q1122 : (Jvm.Cond.fieldLink "SwarmPlannerModel" (49 : Nat) "SwarmPlannerModel" "changes" "I") ∈ lw_all := lw_g (lw_at lw_m5 59 rfl) rfl
theorem q1123 : (Jvm.Cond.fieldLink "SwarmPlannerModel" (234 : Nat) "SwarmPlannerModel" "isSaved" "Z") ∈ lw_all := lw_g (lw_at lw_m5 60 rfl) rfl
theorem q1124 : (Jvm.Cond.fieldLink "SwarmPlannerModel" (13 : Nat) "SwarmPlannerModel" "far" "[I") ∈ lw_all := lw_g (lw_at lw_m5 61 rfl) rfl
theorem q1125 : (Jvm.Cond.fieldLink "SwarmPlannerModel" (16 : Nat) "SwarmPlannerModel" "queue" "[I") ∈ lw_all := lw_g (lw_at lw_m5 62 rfl) rfl
theorem q1126 : (Jvm.Cond.fieldLink "SwarmPlannerModel" (19 : Nat) "SwarmPlannerModel" "places" "[I") ∈ lw_all := lw_g (lw_at lw_m5 63 rfl) rfl
theorem q1127 : (Jvm.Cond.fieldLink "SwarmPlannerModel" (22 : Nat) "SwarmPlannerModel" "worths" "[I") ∈ lw_all := lw_g (lw_at lw_m5 64 rfl) rfl
theorem q1128 : (Jvm.Cond.fieldLink "SwarmPlannerModel" (25 : Nat) "SwarmPlannerModel" "slotOf" "[I") ∈ lw_all := lw_g (lw_at lw_m5 65 rfl) rfl
theorem q1129 : (Jvm.Cond.fieldLink "SwarmPlannerModel" (95 : Nat) "SwarmPlannerModel" "given" "I") ∈ lw_all := lw_g (lw_at lw_m5 66 rfl) rfl
theorem q1130 : (Jvm.Cond.fieldLink "SwarmPlannerModel" (98 : Nat) "SwarmPlannerModel" "givenSum" "I") ∈ lw_all := lw_g (lw_at lw_m5 67 rfl) rfl
theorem q1131 : (Jvm.Cond.fieldLink "SwarmPlannerModel" (28 : Nat) "SwarmPlannerModel" "worthOf" "[I") ∈ lw_all := lw_g (lw_at lw_m5 68 rfl) rfl
theorem q1132 : (Jvm.Cond.fieldLink "SwarmPlannerModel" (31 : Nat) "SwarmPlannerModel" "turns" "[I") ∈ lw_all := lw_g (lw_at lw_m5 69 rfl) rfl
theorem q1133 : (Jvm.Cond.fieldLink "SwarmPlannerModel" (34 : Nat) "SwarmPlannerModel" "turnFar" "[I") ∈ lw_all := lw_g (lw_at lw_m5 70 rfl) rfl
theorem q1134 : (Jvm.Cond.fieldLink "SwarmPlannerModel" (37 : Nat) "SwarmPlannerModel" "cellsWere" "[I") ∈ lw_all := lw_g (lw_at lw_m5 71 rfl) rfl
theorem q1135 : (Jvm.Cond.fieldLink "SwarmPlannerModel" (40 : Nat) "SwarmPlannerModel" "tape" "[I") ∈ lw_all := lw_g (lw_at lw_m5 72 rfl) rfl
theorem q1136 : (Jvm.Cond.fieldLink "SwarmPlannerModel" (172 : Nat) "SwarmPlannerModel" "taped" "I") ∈ lw_all := lw_g (lw_at lw_m5 73 rfl) rfl
theorem q1137 : (Jvm.Cond.fieldLink "SwarmPlannerModel" (175 : Nat) "SwarmPlannerModel" "at" "I") ∈ lw_all := lw_g (lw_at lw_m5 74 rfl) rfl
theorem q1138 : (Jvm.Cond.fieldLink "SwarmPlannerModel" (178 : Nat) "SwarmPlannerModel" "fault" "I") ∈ lw_all := lw_g (lw_at lw_m5 75 rfl) rfl
theorem q1139 : (Jvm.Cond.fieldLink "SwarmPlannerModel" (43 : Nat) "SwarmPlannerModel" "read" "[I") ∈ lw_all := lw_g (lw_at lw_m5 76 rfl) rfl
theorem q1140 : (Jvm.Cond.fieldLink "SwarmPlannerModel" (46 : Nat) "SwarmPlannerModel" "orders" "[I") ∈ lw_all := lw_g (lw_at lw_m5 77 rfl) rfl
theorem q1141 : (Jvm.Cond.fieldLink "SwarmPlannerModel" (187 : Nat) "SwarmPlannerModel" "orderMany" "I") ∈ lw_all := lw_g (lw_at lw_m5 78 rfl) rfl
theorem q1142 : (Jvm.Cond.fieldLink "SwarmPlannerModel" (200 : Nat) "SwarmPlannerModel" "refusedWhy" "I") ∈ lw_all := lw_g (lw_at lw_m5 79 rfl) rfl
theorem q1143 : (Jvm.Cond.fieldLink "SwarmPlannerModel" (203 : Nat) "SwarmPlannerModel" "refusedAt" "I") ∈ lw_all := lw_g (lw_at lw_m5 80 rfl) rfl
theorem q1144 : (Jvm.Cond.fieldLink "SwarmPlannerModel" (219 : Nat) "SwarmPlannerModel" "turnedX" "I") ∈ lw_all := lw_g (lw_at lw_m5 81 rfl) rfl
theorem q1145 : (Jvm.Cond.fieldLink "SwarmPlannerModel" (222 : Nat) "SwarmPlannerModel" "turnedY" "I") ∈ lw_all := lw_g (lw_at lw_m5 82 rfl) rfl
theorem q1146 : (Jvm.Cond.laysFinal "SwarmPlannerModel" "SwarmPlannerModel" "all" "[I") ∈ lw_all := lw_g (lw_at lw_m5 83 rfl) rfl
theorem q1147 : (Jvm.Cond.soleField "SwarmPlannerModel" "all") ∈ lw_all := lw_g (lw_at lw_m5 84 rfl) rfl
theorem q1148 : (Jvm.Cond.lays "SwarmPlannerModel" "SwarmPlannerModel" "changes" "I") ∈ lw_all := lw_g (lw_at lw_m5 85 rfl) rfl
theorem q1149 : (Jvm.Cond.soleField "SwarmPlannerModel" "changes") ∈ lw_all := lw_g (lw_at lw_m5 86 rfl) rfl
theorem q1150 : (Jvm.Cond.lays "SwarmPlannerModel" "SwarmPlannerModel" "isSaved" "Z") ∈ lw_all := lw_g (lw_at lw_m5 87 rfl) rfl
theorem q1151 : (Jvm.Cond.soleField "SwarmPlannerModel" "isSaved") ∈ lw_all := lw_g (lw_at lw_m5 88 rfl) rfl
theorem q1152 : (Jvm.Cond.laysFinal "SwarmPlannerModel" "SwarmPlannerModel" "far" "[I") ∈ lw_all := lw_g (lw_at lw_m5 89 rfl) rfl
theorem q1153 : (Jvm.Cond.soleField "SwarmPlannerModel" "far") ∈ lw_all := lw_g (lw_at lw_m5 90 rfl) rfl
theorem q1154 : (Jvm.Cond.laysFinal "SwarmPlannerModel" "SwarmPlannerModel" "queue" "[I") ∈ lw_all := lw_g (lw_at lw_m5 91 rfl) rfl
theorem q1155 : (Jvm.Cond.soleField "SwarmPlannerModel" "queue") ∈ lw_all := lw_g (lw_at lw_m5 92 rfl) rfl
theorem q1156 : (Jvm.Cond.laysFinal "SwarmPlannerModel" "SwarmPlannerModel" "places" "[I") ∈ lw_all := lw_g (lw_at lw_m5 93 rfl) rfl
theorem q1157 : (Jvm.Cond.soleField "SwarmPlannerModel" "places") ∈ lw_all := lw_g (lw_at lw_m5 94 rfl) rfl
theorem q1158 : (Jvm.Cond.laysFinal "SwarmPlannerModel" "SwarmPlannerModel" "worths" "[I") ∈ lw_all := lw_g (lw_at lw_m5 95 rfl) rfl
theorem q1159 : (Jvm.Cond.soleField "SwarmPlannerModel" "worths") ∈ lw_all := lw_g (lw_at lw_m5 96 rfl) rfl
theorem q1160 : (Jvm.Cond.laysFinal "SwarmPlannerModel" "SwarmPlannerModel" "slotOf" "[I") ∈ lw_all := lw_g (lw_at lw_m5 97 rfl) rfl
theorem q1161 : (Jvm.Cond.soleField "SwarmPlannerModel" "slotOf") ∈ lw_all := lw_g (lw_at lw_m5 98 rfl) rfl
theorem q1162 : (Jvm.Cond.lays "SwarmPlannerModel" "SwarmPlannerModel" "given" "I") ∈ lw_all := lw_g (lw_at lw_m5 99 rfl) rfl
theorem q1163 : (Jvm.Cond.soleField "SwarmPlannerModel" "given") ∈ lw_all := lw_g (lw_at lw_m5 100 rfl) rfl
theorem q1164 : (Jvm.Cond.lays "SwarmPlannerModel" "SwarmPlannerModel" "givenSum" "I") ∈ lw_all := lw_g (lw_at lw_m5 101 rfl) rfl
theorem q1165 : (Jvm.Cond.soleField "SwarmPlannerModel" "givenSum") ∈ lw_all := lw_g (lw_at lw_m5 102 rfl) rfl
theorem q1166 : (Jvm.Cond.laysFinal "SwarmPlannerModel" "SwarmPlannerModel" "worthOf" "[I") ∈ lw_all := lw_g (lw_at lw_m5 103 rfl) rfl
theorem q1167 : (Jvm.Cond.soleField "SwarmPlannerModel" "worthOf") ∈ lw_all := lw_g (lw_at lw_m5 104 rfl) rfl
theorem q1168 : (Jvm.Cond.laysFinal "SwarmPlannerModel" "SwarmPlannerModel" "turns" "[I") ∈ lw_all := lw_g (lw_at lw_m5 105 rfl) rfl
theorem q1169 : (Jvm.Cond.soleField "SwarmPlannerModel" "turns") ∈ lw_all := lw_g (lw_at lw_m5 106 rfl) rfl
theorem q1170 : (Jvm.Cond.laysFinal "SwarmPlannerModel" "SwarmPlannerModel" "turnFar" "[I") ∈ lw_all := lw_g (lw_at lw_m5 107 rfl) rfl
theorem q1171 : (Jvm.Cond.soleField "SwarmPlannerModel" "turnFar") ∈ lw_all := lw_g (lw_at lw_m5 108 rfl) rfl
theorem q1172 : (Jvm.Cond.laysFinal "SwarmPlannerModel" "SwarmPlannerModel" "cellsWere" "[I") ∈ lw_all := lw_g (lw_at lw_m5 109 rfl) rfl
theorem q1173 : (Jvm.Cond.soleField "SwarmPlannerModel" "cellsWere") ∈ lw_all := lw_g (lw_at lw_m5 110 rfl) rfl
theorem q1174 : (Jvm.Cond.laysFinal "SwarmPlannerModel" "SwarmPlannerModel" "tape" "[I") ∈ lw_all := lw_g (lw_at lw_m5 111 rfl) rfl
theorem q1175 : (Jvm.Cond.soleField "SwarmPlannerModel" "tape") ∈ lw_all := lw_g (lw_at lw_m5 112 rfl) rfl
theorem q1176 : (Jvm.Cond.lays "SwarmPlannerModel" "SwarmPlannerModel" "taped" "I") ∈ lw_all := lw_g (lw_at lw_m5 113 rfl) rfl
theorem q1177 : (Jvm.Cond.soleField "SwarmPlannerModel" "taped") ∈ lw_all := lw_g (lw_at lw_m5 114 rfl) rfl
theorem q1178 : (Jvm.Cond.lays "SwarmPlannerModel" "SwarmPlannerModel" "at" "I") ∈ lw_all := lw_g (lw_at lw_m5 115 rfl) rfl
theorem q1179 : (Jvm.Cond.soleField "SwarmPlannerModel" "at") ∈ lw_all := lw_g (lw_at lw_m5 116 rfl) rfl
theorem q1180 : (Jvm.Cond.lays "SwarmPlannerModel" "SwarmPlannerModel" "fault" "I") ∈ lw_all := lw_g (lw_at lw_m5 117 rfl) rfl
theorem q1181 : (Jvm.Cond.soleField "SwarmPlannerModel" "fault") ∈ lw_all := lw_g (lw_at lw_m5 118 rfl) rfl
theorem q1182 : (Jvm.Cond.laysFinal "SwarmPlannerModel" "SwarmPlannerModel" "read" "[I") ∈ lw_all := lw_g (lw_at lw_m5 119 rfl) rfl
theorem q1183 : (Jvm.Cond.soleField "SwarmPlannerModel" "read") ∈ lw_all := lw_g (lw_at lw_m5 120 rfl) rfl
theorem q1184 : (Jvm.Cond.laysFinal "SwarmPlannerModel" "SwarmPlannerModel" "orders" "[I") ∈ lw_all := lw_g (lw_at lw_m5 121 rfl) rfl
theorem q1185 : (Jvm.Cond.soleField "SwarmPlannerModel" "orders") ∈ lw_all := lw_g (lw_at lw_m5 122 rfl) rfl
theorem q1186 : (Jvm.Cond.lays "SwarmPlannerModel" "SwarmPlannerModel" "orderMany" "I") ∈ lw_all := lw_g (lw_at lw_m5 123 rfl) rfl
theorem q1187 : (Jvm.Cond.soleField "SwarmPlannerModel" "orderMany") ∈ lw_all := lw_g (lw_at lw_m5 124 rfl) rfl
theorem q1188 : (Jvm.Cond.lays "SwarmPlannerModel" "SwarmPlannerModel" "refusedWhy" "I") ∈ lw_all := lw_g (lw_at lw_m5 125 rfl) rfl
theorem q1189 : (Jvm.Cond.soleField "SwarmPlannerModel" "refusedWhy") ∈ lw_all := lw_g (lw_at lw_m5 126 rfl) rfl
theorem q1190 : (Jvm.Cond.lays "SwarmPlannerModel" "SwarmPlannerModel" "refusedAt" "I") ∈ lw_all := lw_g (lw_at lw_m5 127 rfl) rfl
theorem q1191 : (Jvm.Cond.soleField "SwarmPlannerModel" "refusedAt") ∈ lw_all := lw_g (lw_at lw_m5 128 rfl) rfl
theorem q1192 : (Jvm.Cond.lays "SwarmPlannerModel" "SwarmPlannerModel" "turnedX" "I") ∈ lw_all := lw_g (lw_at lw_m5 129 rfl) rfl
theorem q1193 : (Jvm.Cond.soleField "SwarmPlannerModel" "turnedX") ∈ lw_all := lw_g (lw_at lw_m5 130 rfl) rfl
theorem q1194 : (Jvm.Cond.lays "SwarmPlannerModel" "SwarmPlannerModel" "turnedY" "I") ∈ lw_all := lw_g (lw_at lw_m5 131 rfl) rfl
theorem q1195 : (Jvm.Cond.soleField "SwarmPlannerModel" "turnedY") ∈ lw_all := lw_g (lw_at lw_m5 132 rfl) rfl
theorem q1196 : (Jvm.Cond.superclass "SwarmPlannerModel" "java/lang/Object") ∈ lw_all := lw_g (lw_at lw_m5 133 rfl) rfl
theorem q1198 : (Jvm.Cond.instanceMethod ({ cls := "SwarmPlannerModel", name := "rounds", desc := "(I)I" } : Jvm.MethodName)) ∈ lw_all := lw_g (lw_at lw_m5 135 rfl) rfl
theorem q1199 : (Jvm.Cond.selects "SwarmPlannerModel" ({ cls := "SwarmPlannerModel", name := "rounds", desc := "(I)I" } : Jvm.MethodName) ({ cls := "SwarmPlannerModel", name := "rounds", desc := "(I)I" } : Jvm.MethodName)) ∈ lw_all := lw_g (lw_at lw_m5 136 rfl) rfl
theorem q1200 : (Jvm.Cond.code ({ cls := "SwarmPlannerModel", name := "rounds", desc := "(I)I" } : Jvm.MethodName) prog_11_method_36_code (2 : Nat) (Option.some Jvm.ClassFile.FieldType.int)) ∈ lw_all := lw_g (lw_at lw_m5 137 rfl) rfl
theorem q1201 : (Jvm.Cond.methodLink "SwarmPlannerModel" (57 : Nat) ({ cls := "SwarmPlannerModel", name := "in", desc := "(III)Z" } : Jvm.MethodName)) ∈ lw_all := lw_g (lw_at lw_m5 138 rfl) rfl
theorem q1202 : (Jvm.Cond.static ({ cls := "SwarmPlannerModel", name := "in", desc := "(III)Z" } : Jvm.MethodName)) ∈ lw_all := lw_g (lw_at lw_m5 139 rfl) rfl
theorem q1203 : (Jvm.Cond.code ({ cls := "SwarmPlannerModel", name := "in", desc := "(III)Z" } : Jvm.MethodName) prog_11_method_2_code (3 : Nat) (Option.some Jvm.ClassFile.FieldType.boolean)) ∈ lw_all := lw_g (lw_at lw_m5 140 rfl) rfl
theorem q1204 : (Jvm.Cond.methodLink "SwarmPlannerModel" (85 : Nat) ({ cls := "SwarmPlannerModel", name := "leader", desc := "()I" } : Jvm.MethodName)) ∈ lw_all := lw_g (lw_at lw_m5 141 rfl) rfl
theorem q1205 : (Jvm.Cond.privateMethod ({ cls := "SwarmPlannerModel", name := "leader", desc := "()I" } : Jvm.MethodName)) ∈ lw_tbl := lw_at lw_m5 142 rfl
theorem q1206 : (Jvm.Cond.instanceMethod ({ cls := "SwarmPlannerModel", name := "leader", desc := "()I" } : Jvm.MethodName)) ∈ lw_all := lw_g (lw_at lw_m5 143 rfl) rfl
theorem q1207 : (Jvm.Cond.code ({ cls := "SwarmPlannerModel", name := "leader", desc := "()I" } : Jvm.MethodName) prog_11_method_12_code (2 : Nat) (Option.some Jvm.ClassFile.FieldType.int)) ∈ lw_all := lw_g (lw_at lw_m5 144 rfl) rfl
theorem q1208 : (Jvm.Cond.methodLink "SwarmPlannerModel" (65 : Nat) ({ cls := "SwarmPlannerModel", name := "isMember", desc := "(I)Z" } : Jvm.MethodName)) ∈ lw_all := lw_g (lw_at lw_m5 145 rfl) rfl
theorem q1209 : (Jvm.Cond.privateMethod ({ cls := "SwarmPlannerModel", name := "isMember", desc := "(I)Z" } : Jvm.MethodName)) ∈ lw_tbl := lw_at lw_m5 146 rfl
theorem q1210 : (Jvm.Cond.instanceMethod ({ cls := "SwarmPlannerModel", name := "isMember", desc := "(I)Z" } : Jvm.MethodName)) ∈ lw_all := lw_g (lw_at lw_m5 147 rfl) rfl
theorem q1211 : (Jvm.Cond.code ({ cls := "SwarmPlannerModel", name := "isMember", desc := "(I)Z" } : Jvm.MethodName) prog_11_method_7_code (2 : Nat) (Option.some Jvm.ClassFile.FieldType.boolean)) ∈ lw_all := lw_g (lw_at lw_m5 148 rfl) rfl
theorem q1212 : (Jvm.Cond.methodLink "SwarmPlannerModel" (61 : Nat) ({ cls := "SwarmPlannerModel", name := "of", desc := "(II)I" } : Jvm.MethodName)) ∈ lw_all := lw_g (lw_at lw_m5 149 rfl) rfl
theorem q1213 : (Jvm.Cond.privateMethod ({ cls := "SwarmPlannerModel", name := "of", desc := "(II)I" } : Jvm.MethodName)) ∈ lw_tbl := lw_at lw_m5 150 rfl
theorem q1214 : (Jvm.Cond.instanceMethod ({ cls := "SwarmPlannerModel", name := "of", desc := "(II)I" } : Jvm.MethodName)) ∈ lw_all := lw_g (lw_at lw_m5 151 rfl) rfl
theorem q1215 : (Jvm.Cond.code ({ cls := "SwarmPlannerModel", name := "of", desc := "(II)I" } : Jvm.MethodName) prog_11_method_5_code (3 : Nat) (Option.some Jvm.ClassFile.FieldType.int)) ∈ lw_all := lw_g (lw_at lw_m5 152 rfl) rfl
theorem q1216 : (Jvm.Cond.methodLink "SwarmPlannerModel" (151 : Nat) ({ cls := "SwarmPlannerModel", name := "keeps", desc := "()V" } : Jvm.MethodName)) ∈ lw_all := lw_g (lw_at lw_m5 153 rfl) rfl
theorem q1217 : (Jvm.Cond.privateMethod ({ cls := "SwarmPlannerModel", name := "keeps", desc := "()V" } : Jvm.MethodName)) ∈ lw_tbl := lw_at lw_m5 154 rfl
theorem q1218 : (Jvm.Cond.instanceMethod ({ cls := "SwarmPlannerModel", name := "keeps", desc := "()V" } : Jvm.MethodName)) ∈ lw_all := lw_g (lw_at lw_m5 155 rfl) rfl
theorem q1219 : (Jvm.Cond.code ({ cls := "SwarmPlannerModel", name := "keeps", desc := "()V" } : Jvm.MethodName) prog_11_method_4_code (2 : Nat) (Option.none : Option Jvm.ClassFile.FieldType)) ∈ lw_all := lw_g (lw_at lw_m5 156 rfl) rfl
theorem q1220 : (Jvm.Cond.methodLink "SwarmPlannerModel" (53 : Nat) ({ cls := "SwarmPlannerModel", name := "copies", desc := "(II)V" } : Jvm.MethodName)) ∈ lw_all := lw_g (lw_at lw_m5 157 rfl) rfl
theorem q1221 : (Jvm.Cond.privateMethod ({ cls := "SwarmPlannerModel", name := "copies", desc := "(II)V" } : Jvm.MethodName)) ∈ lw_tbl := lw_at lw_m5 158 rfl
theorem q1222 : (Jvm.Cond.instanceMethod ({ cls := "SwarmPlannerModel", name := "copies", desc := "(II)V" } : Jvm.MethodName)) ∈ lw_all := lw_g (lw_at lw_m5 159 rfl) rfl
theorem q1223 : (Jvm.Cond.code ({ cls := "SwarmPlannerModel", name := "copies", desc := "(II)V" } : Jvm.MethodName) prog_11_method_3_code (4 : Nat) (Option.none : Option Jvm.ClassFile.FieldType)) ∈ lw_all := lw_g (lw_at lw_m5 160 rfl) rfl
theorem q1224 : (Jvm.Cond.methodLink "SwarmPlannerModel" (154 : Nat) ({ cls := "SwarmPlannerModel", name := "makes", desc := "(I)I" } : Jvm.MethodName)) ∈ lw_all := lw_g (lw_at lw_m5 161 rfl) rfl
theorem q1225 : (Jvm.Cond.privateMethod ({ cls := "SwarmPlannerModel", name := "makes", desc := "(I)I" } : Jvm.MethodName)) ∈ lw_tbl := lw_at lw_m5 162 rfl
theorem q1226 : (Jvm.Cond.instanceMethod ({ cls := "SwarmPlannerModel", name := "makes", desc := "(I)I" } : Jvm.MethodName)) ∈ lw_all := lw_g (lw_at lw_m5 163 rfl) rfl
theorem q1227 : (Jvm.Cond.code ({ cls := "SwarmPlannerModel", name := "makes", desc := "(I)I" } : Jvm.MethodName) prog_11_method_35_code (4 : Nat) (Option.some Jvm.ClassFile.FieldType.int)) ∈ lw_all := lw_g (lw_at lw_m5 164 rfl) rfl
theorem q1228 : (Jvm.Cond.methodLink "SwarmPlannerModel" (148 : Nat) ({ cls := "SwarmPlannerModel", name := "round", desc := "()V" } : Jvm.MethodName)) ∈ lw_all := lw_g (lw_at lw_m5 165 rfl) rfl
theorem q1229 : (Jvm.Cond.privateMethod ({ cls := "SwarmPlannerModel", name := "round", desc := "()V" } : Jvm.MethodName)) ∈ lw_tbl := lw_at lw_m5 166 rfl
theorem q1230 : (Jvm.Cond.instanceMethod ({ cls := "SwarmPlannerModel", name := "round", desc := "()V" } : Jvm.MethodName)) ∈ lw_all := lw_g (lw_at lw_m5 167 rfl) rfl
theorem q1231 : (Jvm.Cond.code ({ cls := "SwarmPlannerModel", name := "round", desc := "()V" } : Jvm.MethodName) prog_11_method_34_code (5 : Nat) (Option.none : Option Jvm.ClassFile.FieldType)) ∈ lw_all := lw_g (lw_at lw_m5 168 rfl) rfl
theorem q1232 : (Jvm.Cond.methodLink "SwarmPlannerModel" (118 : Nat) ({ cls := "SwarmPlannerModel", name := "counts", desc := "(II)V" } : Jvm.MethodName)) ∈ lw_all := lw_g (lw_at lw_m5 169 rfl) rfl
theorem q1233 : (Jvm.Cond.privateMethod ({ cls := "SwarmPlannerModel", name := "counts", desc := "(II)V" } : Jvm.MethodName)) ∈ lw_tbl := lw_at lw_m5 170 rfl
theorem q1234 : (Jvm.Cond.instanceMethod ({ cls := "SwarmPlannerModel", name := "counts", desc := "(II)V" } : Jvm.MethodName)) ∈ lw_all := lw_g (lw_at lw_m5 171 rfl) rfl
theorem q1235 : (Jvm.Cond.code ({ cls := "SwarmPlannerModel", name := "counts", desc := "(II)V" } : Jvm.MethodName) prog_11_method_13_code (3 : Nat) (Option.none : Option Jvm.ClassFile.FieldType)) ∈ lw_all := lw_g (lw_at lw_m5 172 rfl) rfl
theorem q1236 : (Jvm.Cond.methodLink "SwarmPlannerModel" (142 : Nat) ({ cls := "SwarmPlannerModel", name := "leads", desc := "()V" } : Jvm.MethodName)) ∈ lw_all := lw_g (lw_at lw_m5 173 rfl) rfl
theorem q1237 : (Jvm.Cond.privateMethod ({ cls := "SwarmPlannerModel", name := "leads", desc := "()V" } : Jvm.MethodName)) ∈ lw_tbl := lw_at lw_m5 174 rfl
theorem q1238 : (Jvm.Cond.instanceMethod ({ cls := "SwarmPlannerModel", name := "leads", desc := "()V" } : Jvm.MethodName)) ∈ lw_all := lw_g (lw_at lw_m5 175 rfl) rfl
theorem q1239 : (Jvm.Cond.code ({ cls := "SwarmPlannerModel", name := "leads", desc := "()V" } : Jvm.MethodName) prog_11_method_28_code (6 : Nat) (Option.none : Option Jvm.ClassFile.FieldType)) ∈ lw_all := lw_g (lw_at lw_m5 176 rfl) rfl
theorem q1240 : (Jvm.Cond.methodLink "SwarmPlannerModel" (114 : Nat) ({ cls := "SwarmPlannerModel", name := "lays", desc := "(III)V" } : Jvm.MethodName)) ∈ lw_all := lw_g (lw_at lw_m5 177 rfl) rfl
theorem q1241 : (Jvm.Cond.privateMethod ({ cls := "SwarmPlannerModel", name := "lays", desc := "(III)V" } : Jvm.MethodName)) ∈ lw_tbl := lw_at lw_m5 178 rfl
theorem q1242 : (Jvm.Cond.instanceMethod ({ cls := "SwarmPlannerModel", name := "lays", desc := "(III)V" } : Jvm.MethodName)) ∈ lw_all := lw_g (lw_at lw_m5 179 rfl) rfl
theorem q1243 : (Jvm.Cond.code ({ cls := "SwarmPlannerModel", name := "lays", desc := "(III)V" } : Jvm.MethodName) prog_11_method_6_code (4 : Nat) (Option.none : Option Jvm.ClassFile.FieldType)) ∈ lw_all := lw_g (lw_at lw_m5 180 rfl) rfl
theorem q1244 : (Jvm.Cond.methodLink "SwarmPlannerModel" (75 : Nat) ({ cls := "SwarmPlannerModel", name := "floods", desc := "(II)V" } : Jvm.MethodName)) ∈ lw_all := lw_g (lw_at lw_m5 181 rfl) rfl
theorem q1245 : (Jvm.Cond.privateMethod ({ cls := "SwarmPlannerModel", name := "floods", desc := "(II)V" } : Jvm.MethodName)) ∈ lw_tbl := lw_at lw_m5 182 rfl
theorem q1246 : (Jvm.Cond.instanceMethod ({ cls := "SwarmPlannerModel", name := "floods", desc := "(II)V" } : Jvm.MethodName)) ∈ lw_all := lw_g (lw_at lw_m5 183 rfl) rfl
theorem q1247 : (Jvm.Cond.code ({ cls := "SwarmPlannerModel", name := "floods", desc := "(II)V" } : Jvm.MethodName) prog_11_method_15_code (9 : Nat) (Option.none : Option Jvm.ClassFile.FieldType)) ∈ lw_all := lw_g (lw_at lw_m5 184 rfl) rfl
theorem q1248 : (Jvm.Cond.methodLink "SwarmPlannerModel" (69 : Nat) ({ cls := "SwarmPlannerModel", name := "isBlocked", desc := "(I)Z" } : Jvm.MethodName)) ∈ lw_all := lw_g (lw_at lw_m5 185 rfl) rfl
theorem q1249 : (Jvm.Cond.privateMethod ({ cls := "SwarmPlannerModel", name := "isBlocked", desc := "(I)Z" } : Jvm.MethodName)) ∈ lw_tbl := lw_at lw_m5 186 rfl
theorem q1250 : (Jvm.Cond.instanceMethod ({ cls := "SwarmPlannerModel", name := "isBlocked", desc := "(I)Z" } : Jvm.MethodName)) ∈ lw_all := lw_g (lw_at lw_m5 187 rfl) rfl
theorem q1251 : (Jvm.Cond.code ({ cls := "SwarmPlannerModel", name := "isBlocked", desc := "(I)Z" } : Jvm.MethodName) prog_11_method_9_code (2 : Nat) (Option.some Jvm.ClassFile.FieldType.boolean)) ∈ lw_all := lw_g (lw_at lw_m5 188 rfl) rfl
theorem q1252 : (Jvm.Cond.methodLink "SwarmPlannerModel" (72 : Nat) ({ cls := "SwarmPlannerModel", name := "beside", desc := "(II)I" } : Jvm.MethodName)) ∈ lw_all := lw_g (lw_at lw_m5 189 rfl) rfl
theorem q1253 : (Jvm.Cond.static ({ cls := "SwarmPlannerModel", name := "beside", desc := "(II)I" } : Jvm.MethodName)) ∈ lw_all := lw_g (lw_at lw_m5 190 rfl) rfl
theorem q1254 : (Jvm.Cond.code ({ cls := "SwarmPlannerModel", name := "beside", desc := "(II)I" } : Jvm.MethodName) prog_11_method_14_code (4 : Nat) (Option.some Jvm.ClassFile.FieldType.int)) ∈ lw_all := lw_g (lw_at lw_m5 191 rfl) rfl
theorem q1255 : (Jvm.Cond.methodLink "SwarmPlannerModel" (121 : Nat) ({ cls := "SwarmPlannerModel", name := "on", desc := "(I)I" } : Jvm.MethodName)) ∈ lw_all := lw_g (lw_at lw_m5 192 rfl) rfl
theorem q1256 : (Jvm.Cond.privateMethod ({ cls := "SwarmPlannerModel", name := "on", desc := "(I)I" } : Jvm.MethodName)) ∈ lw_tbl := lw_at lw_m5 193 rfl
theorem q1257 : (Jvm.Cond.instanceMethod ({ cls := "SwarmPlannerModel", name := "on", desc := "(I)I" } : Jvm.MethodName)) ∈ lw_all := lw_g (lw_at lw_m5 194 rfl) rfl
theorem q1258 : (Jvm.Cond.code ({ cls := "SwarmPlannerModel", name := "on", desc := "(I)I" } : Jvm.MethodName) prog_11_method_11_code (3 : Nat) (Option.some Jvm.ClassFile.FieldType.int)) ∈ lw_all := lw_g (lw_at lw_m5 195 rfl) rfl
theorem q1259 : (Jvm.Cond.methodLink "SwarmPlannerModel" (124 : Nat) ({ cls := "SwarmPlannerModel", name := "waits", desc := "(I)V" } : Jvm.MethodName)) ∈ lw_all := lw_g (lw_at lw_m5 196 rfl) rfl
theorem q1260 : (Jvm.Cond.privateMethod ({ cls := "SwarmPlannerModel", name := "waits", desc := "(I)V" } : Jvm.MethodName)) ∈ lw_tbl := lw_at lw_m5 197 rfl
theorem q1261 : (Jvm.Cond.instanceMethod ({ cls := "SwarmPlannerModel", name := "waits", desc := "(I)V" } : Jvm.MethodName)) ∈ lw_all := lw_g (lw_at lw_m5 198 rfl) rfl
theorem q1262 : (Jvm.Cond.code ({ cls := "SwarmPlannerModel", name := "waits", desc := "(I)V" } : Jvm.MethodName) prog_11_method_27_code (2 : Nat) (Option.none : Option Jvm.ClassFile.FieldType)) ∈ lw_all := lw_g (lw_at lw_m5 199 rfl) rfl
theorem q1263 : (Jvm.Cond.methodLink "SwarmPlannerModel" (127 : Nat) ({ cls := "SwarmPlannerModel", name := "goes", desc := "(II)V" } : Jvm.MethodName)) ∈ lw_all := lw_g (lw_at lw_m5 200 rfl) rfl
theorem q1264 : (Jvm.Cond.privateMethod ({ cls := "SwarmPlannerModel", name := "goes", desc := "(II)V" } : Jvm.MethodName)) ∈ lw_tbl := lw_at lw_m5 201 rfl
theorem q1265 : (Jvm.Cond.instanceMethod ({ cls := "SwarmPlannerModel", name := "goes", desc := "(II)V" } : Jvm.MethodName)) ∈ lw_all := lw_g (lw_at lw_m5 202 rfl) rfl
theorem q1266 : (Jvm.Cond.code ({ cls := "SwarmPlannerModel", name := "goes", desc := "(II)V" } : Jvm.MethodName) prog_11_method_26_code (3 : Nat) (Option.none : Option Jvm.ClassFile.FieldType)) ∈ lw_all := lw_g (lw_at lw_m5 203 rfl) rfl
theorem q1267 : (Jvm.Cond.methodLink "SwarmPlannerModel" (111 : Nat) ({ cls := "SwarmPlannerModel", name := "gives", desc := "()V" } : Jvm.MethodName)) ∈ lw_all := lw_g (lw_at lw_m5 204 rfl) rfl
theorem q1268 : (Jvm.Cond.privateMethod ({ cls := "SwarmPlannerModel", name := "gives", desc := "()V" } : Jvm.MethodName)) ∈ lw_tbl := lw_at lw_m5 205 rfl
theorem q1269 : (Jvm.Cond.instanceMethod ({ cls := "SwarmPlannerModel", name := "gives", desc := "()V" } : Jvm.MethodName)) ∈ lw_all := lw_g (lw_at lw_m5 206 rfl) rfl
theorem q1270 : (Jvm.Cond.code ({ cls := "SwarmPlannerModel", name := "gives", desc := "()V" } : Jvm.MethodName) prog_11_method_24_code (9 : Nat) (Option.none : Option Jvm.ClassFile.FieldType)) ∈ lw_all := lw_g (lw_at lw_m5 207 rfl) rfl
theorem q1271 : (Jvm.Cond.methodLink "SwarmPlannerModel" (101 : Nat) ({ cls := "SwarmPlannerModel", name := "slots", desc := "(I)I" } : Jvm.MethodName)) ∈ lw_all := lw_g (lw_at lw_m5 208 rfl) rfl
theorem q1272 : (Jvm.Cond.privateMethod ({ cls := "SwarmPlannerModel", name := "slots", desc := "(I)I" } : Jvm.MethodName)) ∈ lw_tbl := lw_at lw_m5 209 rfl
theorem q1273 : (Jvm.Cond.instanceMethod ({ cls := "SwarmPlannerModel", name := "slots", desc := "(I)I" } : Jvm.MethodName)) ∈ lw_all := lw_g (lw_at lw_m5 210 rfl) rfl
theorem q1274 : (Jvm.Cond.code ({ cls := "SwarmPlannerModel", name := "slots", desc := "(I)I" } : Jvm.MethodName) prog_11_method_18_code (2 : Nat) (Option.some Jvm.ClassFile.FieldType.int)) ∈ lw_all := lw_g (lw_at lw_m5 211 rfl) rfl
theorem q1275 : (Jvm.Cond.methodLink "SwarmPlannerModel" (78 : Nat) ({ cls := "SwarmPlannerModel", name := "shapeAt", desc := "(I)I" } : Jvm.MethodName)) ∈ lw_all := lw_g (lw_at lw_m5 212 rfl) rfl
theorem q1276 : (Jvm.Cond.static ({ cls := "SwarmPlannerModel", name := "shapeAt", desc := "(I)I" } : Jvm.MethodName)) ∈ lw_all := lw_g (lw_at lw_m5 213 rfl) rfl
theorem q1277 : (Jvm.Cond.code ({ cls := "SwarmPlannerModel", name := "shapeAt", desc := "(I)I" } : Jvm.MethodName) prog_11_method_17_code (1 : Nat) (Option.some Jvm.ClassFile.FieldType.int)) ∈ lw_all := lw_g (lw_at lw_m5 214 rfl) rfl
theorem q1278 : (Jvm.Cond.methodLink "SwarmPlannerModel" (82 : Nat) ({ cls := "SwarmPlannerModel", name := "anchor", desc := "(I)I" } : Jvm.MethodName)) ∈ lw_all := lw_g (lw_at lw_m5 215 rfl) rfl
theorem q1279 : (Jvm.Cond.privateMethod ({ cls := "SwarmPlannerModel", name := "anchor", desc := "(I)I" } : Jvm.MethodName)) ∈ lw_tbl := lw_at lw_m5 216 rfl
theorem q1280 : (Jvm.Cond.instanceMethod ({ cls := "SwarmPlannerModel", name := "anchor", desc := "(I)I" } : Jvm.MethodName)) ∈ lw_all := lw_g (lw_at lw_m5 217 rfl) rfl
theorem q1281 : (Jvm.Cond.code ({ cls := "SwarmPlannerModel", name := "anchor", desc := "(I)I" } : Jvm.MethodName) prog_11_method_19_code (2 : Nat) (Option.some Jvm.ClassFile.FieldType.int)) ∈ lw_all := lw_g (lw_at lw_m5 218 rfl) rfl
theorem q1282 : (Jvm.Cond.methodLink "SwarmPlannerModel" (104 : Nat) ({ cls := "SwarmPlannerModel", name := "placeOf", desc := "(I)I" } : Jvm.MethodName)) ∈ lw_all := lw_g (lw_at lw_m5 219 rfl) rfl
theorem q1283 : (Jvm.Cond.privateMethod ({ cls := "SwarmPlannerModel", name := "placeOf", desc := "(I)I" } : Jvm.MethodName)) ∈ lw_tbl := lw_at lw_m5 220 rfl
theorem q1284 : (Jvm.Cond.instanceMethod ({ cls := "SwarmPlannerModel", name := "placeOf", desc := "(I)I" } : Jvm.MethodName)) ∈ lw_all := lw_g (lw_at lw_m5 221 rfl) rfl
theorem q1285 : (Jvm.Cond.code ({ cls := "SwarmPlannerModel", name := "placeOf", desc := "(I)I" } : Jvm.MethodName) prog_11_method_22_code (5 : Nat) (Option.some Jvm.ClassFile.FieldType.int)) ∈ lw_all := lw_g (lw_at lw_m5 222 rfl) rfl
theorem q1286 : (Jvm.Cond.methodLink "SwarmPlannerModel" (89 : Nat) ({ cls := "SwarmPlannerModel", name := "column", desc := "(II)I" } : Jvm.MethodName)) ∈ lw_all := lw_g (lw_at lw_m5 223 rfl) rfl
theorem q1287 : (Jvm.Cond.privateMethod ({ cls := "SwarmPlannerModel", name := "column", desc := "(II)I" } : Jvm.MethodName)) ∈ lw_tbl := lw_at lw_m5 224 rfl
theorem q1288 : (Jvm.Cond.instanceMethod ({ cls := "SwarmPlannerModel", name := "column", desc := "(II)I" } : Jvm.MethodName)) ∈ lw_all := lw_g (lw_at lw_m5 225 rfl) rfl
theorem q1289 : (Jvm.Cond.code ({ cls := "SwarmPlannerModel", name := "column", desc := "(II)I" } : Jvm.MethodName) prog_11_method_20_code (3 : Nat) (Option.some Jvm.ClassFile.FieldType.int)) ∈ lw_all := lw_g (lw_at lw_m5 226 rfl) rfl
theorem q1290 : (Jvm.Cond.methodLink "SwarmPlannerModel" (92 : Nat) ({ cls := "SwarmPlannerModel", name := "rowOf", desc := "(II)I" } : Jvm.MethodName)) ∈ lw_all := lw_g (lw_at lw_m5 227 rfl) rfl
theorem q1291 : (Jvm.Cond.privateMethod ({ cls := "SwarmPlannerModel", name := "rowOf", desc := "(II)I" } : Jvm.MethodName)) ∈ lw_tbl := lw_at lw_m5 228 rfl
theorem q1292 : (Jvm.Cond.instanceMethod ({ cls := "SwarmPlannerModel", name := "rowOf", desc := "(II)I" } : Jvm.MethodName)) ∈ lw_all := lw_g (lw_at lw_m5 229 rfl) rfl
theorem q1293 : (Jvm.Cond.code ({ cls := "SwarmPlannerModel", name := "rowOf", desc := "(II)I" } : Jvm.MethodName) prog_11_method_21_code (3 : Nat) (Option.some Jvm.ClassFile.FieldType.int)) ∈ lw_all := lw_g (lw_at lw_m5 230 rfl) rfl
theorem q1294 : (Jvm.Cond.methodLink "SwarmPlannerModel" (107 : Nat) ({ cls := "SwarmPlannerModel", name := "reckons", desc := "(I)V" } : Jvm.MethodName)) ∈ lw_all := lw_g (lw_at lw_m5 231 rfl) rfl
theorem q1295 : (Jvm.Cond.privateMethod ({ cls := "SwarmPlannerModel", name := "reckons", desc := "(I)V" } : Jvm.MethodName)) ∈ lw_tbl := lw_at lw_m5 232 rfl
theorem q1296 : (Jvm.Cond.instanceMethod ({ cls := "SwarmPlannerModel", name := "reckons", desc := "(I)V" } : Jvm.MethodName)) ∈ lw_all := lw_g (lw_at lw_m5 233 rfl) rfl
theorem q1297 : (Jvm.Cond.code ({ cls := "SwarmPlannerModel", name := "reckons", desc := "(I)V" } : Jvm.MethodName) prog_11_method_23_code (6 : Nat) (Option.none : Option Jvm.ClassFile.FieldType)) ∈ lw_all := lw_g (lw_at lw_m5 234 rfl) rfl
theorem q1298 : (Jvm.Cond.methodLink "SwarmPlannerModel" (145 : Nat) ({ cls := "SwarmPlannerModel", name := "acts", desc := "(I)V" } : Jvm.MethodName)) ∈ lw_all := lw_g (lw_at lw_m5 235 rfl) rfl
theorem q1299 : (Jvm.Cond.privateMethod ({ cls := "SwarmPlannerModel", name := "acts", desc := "(I)V" } : Jvm.MethodName)) ∈ lw_tbl := lw_at lw_m5 236 rfl
theorem q1300 : (Jvm.Cond.instanceMethod ({ cls := "SwarmPlannerModel", name := "acts", desc := "(I)V" } : Jvm.MethodName)) ∈ lw_all := lw_g (lw_at lw_m5 237 rfl) rfl
theorem q1301 : (Jvm.Cond.code ({ cls := "SwarmPlannerModel", name := "acts", desc := "(I)V" } : Jvm.MethodName) prog_11_method_33_code (4 : Nat) (Option.none : Option Jvm.ClassFile.FieldType)) ∈ lw_all := lw_g (lw_at lw_m5 238 rfl) rfl
theorem q1302 : (Jvm.Cond.methodLink "SwarmPlannerModel" (133 : Nat) ({ cls := "SwarmPlannerModel", name := "steps", desc := "(III)Z" } : Jvm.MethodName)) ∈ lw_all := lw_g (lw_at lw_m5 239 rfl) rfl
theorem q1303 : (Jvm.Cond.privateMethod ({ cls := "SwarmPlannerModel", name := "steps", desc := "(III)Z" } : Jvm.MethodName)) ∈ lw_tbl := lw_at lw_m6 0 rfl
theorem q1304 : (Jvm.Cond.instanceMethod ({ cls := "SwarmPlannerModel", name := "steps", desc := "(III)Z" } : Jvm.MethodName)) ∈ lw_all := lw_g (lw_at lw_m6 1 rfl) rfl
theorem q1305 : (Jvm.Cond.code ({ cls := "SwarmPlannerModel", name := "steps", desc := "(III)Z" } : Jvm.MethodName) prog_11_method_30_code (6 : Nat) (Option.some Jvm.ClassFile.FieldType.boolean)) ∈ lw_all := lw_g (lw_at lw_m6 2 rfl) rfl
theorem q1306 : (Jvm.Cond.methodLink "SwarmPlannerModel" (136 : Nat) ({ cls := "SwarmPlannerModel", name := "exchanges", desc := "(III)Z" } : Jvm.MethodName)) ∈ lw_all := lw_g (lw_at lw_m6 3 rfl) rfl
theorem q1307 : (Jvm.Cond.privateMethod ({ cls := "SwarmPlannerModel", name := "exchanges", desc := "(III)Z" } : Jvm.MethodName)) ∈ lw_tbl := lw_at lw_m6 4 rfl
theorem q1308 : (Jvm.Cond.instanceMethod ({ cls := "SwarmPlannerModel", name := "exchanges", desc := "(III)Z" } : Jvm.MethodName)) ∈ lw_all := lw_g (lw_at lw_m6 5 rfl) rfl
theorem q1309 : (Jvm.Cond.code ({ cls := "SwarmPlannerModel", name := "exchanges", desc := "(III)Z" } : Jvm.MethodName) prog_11_method_31_code (8 : Nat) (Option.some Jvm.ClassFile.FieldType.boolean)) ∈ lw_all := lw_g (lw_at lw_m6 6 rfl) rfl
theorem q1310 : (Jvm.Cond.methodLink "SwarmPlannerModel" (130 : Nat) ({ cls := "SwarmPlannerModel", name := "mayExchange", desc := "(III)Z" } : Jvm.MethodName)) ∈ lw_all := lw_g (lw_at lw_m6 7 rfl) rfl
theorem q1311 : (Jvm.Cond.privateMethod ({ cls := "SwarmPlannerModel", name := "mayExchange", desc := "(III)Z" } : Jvm.MethodName)) ∈ lw_tbl := lw_at lw_m6 8 rfl
theorem q1312 : (Jvm.Cond.instanceMethod ({ cls := "SwarmPlannerModel", name := "mayExchange", desc := "(III)Z" } : Jvm.MethodName)) ∈ lw_all := lw_g (lw_at lw_m6 9 rfl) rfl
theorem q1313 : (Jvm.Cond.code ({ cls := "SwarmPlannerModel", name := "mayExchange", desc := "(III)Z" } : Jvm.MethodName) prog_11_method_29_code (4 : Nat) (Option.some Jvm.ClassFile.FieldType.boolean)) ∈ lw_all := lw_g (lw_at lw_m6 10 rfl) rfl
theorem q1314 : (Jvm.Cond.methodLink "SwarmPlannerModel" (139 : Nat) ({ cls := "SwarmPlannerModel", name := "stepsAside", desc := "(I)Z" } : Jvm.MethodName)) ∈ lw_all := lw_g (lw_at lw_m6 11 rfl) rfl
theorem q1315 : (Jvm.Cond.privateMethod ({ cls := "SwarmPlannerModel", name := "stepsAside", desc := "(I)Z" } : Jvm.MethodName)) ∈ lw_tbl := lw_at lw_m6 12 rfl
theorem q1316 : (Jvm.Cond.instanceMethod ({ cls := "SwarmPlannerModel", name := "stepsAside", desc := "(I)Z" } : Jvm.MethodName)) ∈ lw_all := lw_g (lw_at lw_m6 13 rfl) rfl
theorem q1317 : (Jvm.Cond.code ({ cls := "SwarmPlannerModel", name := "stepsAside", desc := "(I)Z" } : Jvm.MethodName) prog_11_method_32_code (4 : Nat) (Option.some Jvm.ClassFile.FieldType.boolean)) ∈ lw_all := lw_g (lw_at lw_m6 14 rfl) rfl
theorem q1319 : (Jvm.Cond.instanceMethod ({ cls := "SwarmPlannerModel", name := "add", desc := "(II)I" } : Jvm.MethodName)) ∈ lw_all := lw_g (lw_at lw_m6 16 rfl) rfl
theorem q1320 : (Jvm.Cond.selects "SwarmPlannerModel" ({ cls := "SwarmPlannerModel", name := "add", desc := "(II)I" } : Jvm.MethodName) ({ cls := "SwarmPlannerModel", name := "add", desc := "(II)I" } : Jvm.MethodName)) ∈ lw_all := lw_g (lw_at lw_m6 17 rfl) rfl
theorem q1321 : (Jvm.Cond.code ({ cls := "SwarmPlannerModel", name := "add", desc := "(II)I" } : Jvm.MethodName) prog_11_method_40_code (4 : Nat) (Option.some Jvm.ClassFile.FieldType.int)) ∈ lw_all := lw_g (lw_at lw_m6 18 rfl) rfl
theorem q1322 : (Jvm.Cond.methodLink "SwarmPlannerModel" (160 : Nat) ({ cls := "SwarmPlannerModel", name := "opens", desc := "(I)I" } : Jvm.MethodName)) ∈ lw_all := lw_g (lw_at lw_m6 19 rfl) rfl
theorem q1323 : (Jvm.Cond.privateMethod ({ cls := "SwarmPlannerModel", name := "opens", desc := "(I)I" } : Jvm.MethodName)) ∈ lw_tbl := lw_at lw_m6 20 rfl
theorem q1324 : (Jvm.Cond.instanceMethod ({ cls := "SwarmPlannerModel", name := "opens", desc := "(I)I" } : Jvm.MethodName)) ∈ lw_all := lw_g (lw_at lw_m6 21 rfl) rfl
theorem q1325 : (Jvm.Cond.code ({ cls := "SwarmPlannerModel", name := "opens", desc := "(I)I" } : Jvm.MethodName) prog_11_method_37_code (4 : Nat) (Option.some Jvm.ClassFile.FieldType.int)) ∈ lw_all := lw_g (lw_at lw_m6 22 rfl) rfl
theorem q1327 : (Jvm.Cond.instanceMethod ({ cls := "SwarmPlannerModel", name := "lose", desc := "(I)I" } : Jvm.MethodName)) ∈ lw_all := lw_g (lw_at lw_m6 24 rfl) rfl
theorem q1328 : (Jvm.Cond.selects "SwarmPlannerModel" ({ cls := "SwarmPlannerModel", name := "lose", desc := "(I)I" } : Jvm.MethodName) ({ cls := "SwarmPlannerModel", name := "lose", desc := "(I)I" } : Jvm.MethodName)) ∈ lw_all := lw_g (lw_at lw_m6 25 rfl) rfl
theorem q1329 : (Jvm.Cond.code ({ cls := "SwarmPlannerModel", name := "lose", desc := "(I)I" } : Jvm.MethodName) prog_11_method_41_code (2 : Nat) (Option.some Jvm.ClassFile.FieldType.int)) ∈ lw_all := lw_g (lw_at lw_m6 26 rfl) rfl
theorem q1330 : (Jvm.Cond.methodLink "SwarmPlannerModel" (163 : Nat) ({ cls := "SwarmPlannerModel", name := "goesLost", desc := "(I)I" } : Jvm.MethodName)) ∈ lw_all := lw_g (lw_at lw_m6 27 rfl) rfl
theorem q1331 : (Jvm.Cond.privateMethod ({ cls := "SwarmPlannerModel", name := "goesLost", desc := "(I)I" } : Jvm.MethodName)) ∈ lw_tbl := lw_at lw_m6 28 rfl
theorem q1332 : (Jvm.Cond.instanceMethod ({ cls := "SwarmPlannerModel", name := "goesLost", desc := "(I)I" } : Jvm.MethodName)) ∈ lw_all := lw_g (lw_at lw_m6 29 rfl) rfl
theorem q1333 : (Jvm.Cond.code ({ cls := "SwarmPlannerModel", name := "goesLost", desc := "(I)I" } : Jvm.MethodName) prog_11_method_38_code (2 : Nat) (Option.some Jvm.ClassFile.FieldType.int)) ∈ lw_all := lw_g (lw_at lw_m6 30 rfl) rfl
theorem q1334 : (Jvm.Cond.methodLink "SwarmPlannerModel" (157 : Nat) ({ cls := "SwarmPlannerModel", name := "members", desc := "()I" } : Jvm.MethodName)) ∈ lw_all := lw_g (lw_at lw_m6 31 rfl) rfl
theorem q1335 : (Jvm.Cond.privateMethod ({ cls := "SwarmPlannerModel", name := "members", desc := "()I" } : Jvm.MethodName)) ∈ lw_tbl := lw_at lw_m6 32 rfl
theorem q1336 : (Jvm.Cond.instanceMethod ({ cls := "SwarmPlannerModel", name := "members", desc := "()I" } : Jvm.MethodName)) ∈ lw_all := lw_g (lw_at lw_m6 33 rfl) rfl
theorem q1337 : (Jvm.Cond.code ({ cls := "SwarmPlannerModel", name := "members", desc := "()I" } : Jvm.MethodName) prog_11_method_10_code (3 : Nat) (Option.some Jvm.ClassFile.FieldType.int)) ∈ lw_all := lw_g (lw_at lw_m6 34 rfl) rfl
theorem q1339 : (Jvm.Cond.instanceMethod ({ cls := "SwarmPlannerModel", name := "lead", desc := "(I)I" } : Jvm.MethodName)) ∈ lw_all := lw_g (lw_at lw_m6 36 rfl) rfl
theorem q1340 : (Jvm.Cond.selects "SwarmPlannerModel" ({ cls := "SwarmPlannerModel", name := "lead", desc := "(I)I" } : Jvm.MethodName) ({ cls := "SwarmPlannerModel", name := "lead", desc := "(I)I" } : Jvm.MethodName)) ∈ lw_all := lw_g (lw_at lw_m6 37 rfl) rfl
theorem q1341 : (Jvm.Cond.code ({ cls := "SwarmPlannerModel", name := "lead", desc := "(I)I" } : Jvm.MethodName) prog_11_method_42_code (3 : Nat) (Option.some Jvm.ClassFile.FieldType.int)) ∈ lw_all := lw_g (lw_at lw_m6 38 rfl) rfl
theorem q1343 : (Jvm.Cond.instanceMethod ({ cls := "SwarmPlannerModel", name := "target", desc := "(I)I" } : Jvm.MethodName)) ∈ lw_all := lw_g (lw_at lw_m6 40 rfl) rfl
theorem q1344 : (Jvm.Cond.selects "SwarmPlannerModel" ({ cls := "SwarmPlannerModel", name := "target", desc := "(I)I" } : Jvm.MethodName) ({ cls := "SwarmPlannerModel", name := "target", desc := "(I)I" } : Jvm.MethodName)) ∈ lw_all := lw_g (lw_at lw_m6 41 rfl) rfl
theorem q1345 : (Jvm.Cond.code ({ cls := "SwarmPlannerModel", name := "target", desc := "(I)I" } : Jvm.MethodName) prog_11_method_43_code (3 : Nat) (Option.some Jvm.ClassFile.FieldType.int)) ∈ lw_all := lw_g (lw_at lw_m6 42 rfl) rfl
theorem q1347 : (Jvm.Cond.instanceMethod ({ cls := "SwarmPlannerModel", name := "obstacle", desc := "(I)I" } : Jvm.MethodName)) ∈ lw_all := lw_g (lw_at lw_m6 44 rfl) rfl
theorem q1348 : (Jvm.Cond.selects "SwarmPlannerModel" ({ cls := "SwarmPlannerModel", name := "obstacle", desc := "(I)I" } : Jvm.MethodName) ({ cls := "SwarmPlannerModel", name := "obstacle", desc := "(I)I" } : Jvm.MethodName)) ∈ lw_all := lw_g (lw_at lw_m6 45 rfl) rfl
theorem q1349 : (Jvm.Cond.code ({ cls := "SwarmPlannerModel", name := "obstacle", desc := "(I)I" } : Jvm.MethodName) prog_11_method_44_code (2 : Nat) (Option.some Jvm.ClassFile.FieldType.int)) ∈ lw_all := lw_g (lw_at lw_m6 46 rfl) rfl
theorem q1350 : (Jvm.Cond.methodLink "SwarmPlannerModel" (166 : Nat) ({ cls := "SwarmPlannerModel", name := "isCell", desc := "(I)Z" } : Jvm.MethodName)) ∈ lw_all := lw_g (lw_at lw_m6 47 rfl) rfl
theorem q1351 : (Jvm.Cond.static ({ cls := "SwarmPlannerModel", name := "isCell", desc := "(I)Z" } : Jvm.MethodName)) ∈ lw_all := lw_g (lw_at lw_m6 48 rfl) rfl
theorem q1352 : (Jvm.Cond.code ({ cls := "SwarmPlannerModel", name := "isCell", desc := "(I)Z" } : Jvm.MethodName) prog_11_method_8_code (1 : Nat) (Option.some Jvm.ClassFile.FieldType.boolean)) ∈ lw_all := lw_g (lw_at lw_m6 49 rfl) rfl
theorem q1353 : (Jvm.Cond.methodLink "SwarmPlannerModel" (169 : Nat) ({ cls := "SwarmPlannerModel", name := "turnsBlocked", desc := "(I)I" } : Jvm.MethodName)) ∈ lw_all := lw_g (lw_at lw_m6 50 rfl) rfl
theorem q1354 : (Jvm.Cond.privateMethod ({ cls := "SwarmPlannerModel", name := "turnsBlocked", desc := "(I)I" } : Jvm.MethodName)) ∈ lw_tbl := lw_at lw_m6 51 rfl
theorem q1355 : (Jvm.Cond.instanceMethod ({ cls := "SwarmPlannerModel", name := "turnsBlocked", desc := "(I)I" } : Jvm.MethodName)) ∈ lw_all := lw_g (lw_at lw_m6 52 rfl) rfl
theorem q1356 : (Jvm.Cond.code ({ cls := "SwarmPlannerModel", name := "turnsBlocked", desc := "(I)I" } : Jvm.MethodName) prog_11_method_39_code (2 : Nat) (Option.some Jvm.ClassFile.FieldType.int)) ∈ lw_all := lw_g (lw_at lw_m6 53 rfl) rfl
theorem q1358 : (Jvm.Cond.instanceMethod ({ cls := "SwarmPlannerModel", name := "feed", desc := "(IIIIII)I" } : Jvm.MethodName)) ∈ lw_all := lw_g (lw_at lw_m6 55 rfl) rfl
theorem q1359 : (Jvm.Cond.selects "SwarmPlannerModel" ({ cls := "SwarmPlannerModel", name := "feed", desc := "(IIIIII)I" } : Jvm.MethodName) ({ cls := "SwarmPlannerModel", name := "feed", desc := "(IIIIII)I" } : Jvm.MethodName)) ∈ lw_all := lw_g (lw_at lw_m6 56 rfl) rfl
theorem q1360 : (Jvm.Cond.code ({ cls := "SwarmPlannerModel", name := "feed", desc := "(IIIIII)I" } : Jvm.MethodName) prog_11_method_45_code (8 : Nat) (Option.some Jvm.ClassFile.FieldType.int)) ∈ lw_all := lw_g (lw_at lw_m6 57 rfl) rfl
theorem q1362 : (Jvm.Cond.instanceMethod ({ cls := "SwarmPlannerModel", name := "shape", desc := "(I)I" } : Jvm.MethodName)) ∈ lw_all := lw_g (lw_at lw_m6 59 rfl) rfl
theorem q1363 : (Jvm.Cond.selects "SwarmPlannerModel" ({ cls := "SwarmPlannerModel", name := "shape", desc := "(I)I" } : Jvm.MethodName) ({ cls := "SwarmPlannerModel", name := "shape", desc := "(I)I" } : Jvm.MethodName)) ∈ lw_all := lw_g (lw_at lw_m6 60 rfl) rfl
theorem q1364 : (Jvm.Cond.code ({ cls := "SwarmPlannerModel", name := "shape", desc := "(I)I" } : Jvm.MethodName) prog_11_method_48_code (3 : Nat) (Option.some Jvm.ClassFile.FieldType.int)) ∈ lw_all := lw_g (lw_at lw_m6 61 rfl) rfl
theorem q1365 : (Jvm.Cond.methodLink "SwarmPlannerModel" (184 : Nat) ({ cls := "SwarmPlannerModel", name := "readsShape", desc := "()V" } : Jvm.MethodName)) ∈ lw_all := lw_g (lw_at lw_m6 62 rfl) rfl
theorem q1366 : (Jvm.Cond.privateMethod ({ cls := "SwarmPlannerModel", name := "readsShape", desc := "()V" } : Jvm.MethodName)) ∈ lw_tbl := lw_at lw_m6 63 rfl
theorem q1367 : (Jvm.Cond.instanceMethod ({ cls := "SwarmPlannerModel", name := "readsShape", desc := "()V" } : Jvm.MethodName)) ∈ lw_all := lw_g (lw_at lw_m6 64 rfl) rfl
theorem q1368 : (Jvm.Cond.code ({ cls := "SwarmPlannerModel", name := "readsShape", desc := "()V" } : Jvm.MethodName) prog_11_method_47_code (5 : Nat) (Option.none : Option Jvm.ClassFile.FieldType)) ∈ lw_all := lw_g (lw_at lw_m6 65 rfl) rfl
theorem q1369 : (Jvm.Cond.methodLink "SwarmPlannerModel" (181 : Nat) ({ cls := "SwarmPlannerModel", name := "here", desc := "()I" } : Jvm.MethodName)) ∈ lw_all := lw_g (lw_at lw_m6 66 rfl) rfl
theorem q1370 : (Jvm.Cond.privateMethod ({ cls := "SwarmPlannerModel", name := "here", desc := "()I" } : Jvm.MethodName)) ∈ lw_tbl := lw_at lw_m6 67 rfl
theorem q1371 : (Jvm.Cond.instanceMethod ({ cls := "SwarmPlannerModel", name := "here", desc := "()I" } : Jvm.MethodName)) ∈ lw_all := lw_g (lw_at lw_m6 68 rfl) rfl
theorem q1372 : (Jvm.Cond.code ({ cls := "SwarmPlannerModel", name := "here", desc := "()I" } : Jvm.MethodName) prog_11_method_46_code (1 : Nat) (Option.some Jvm.ClassFile.FieldType.int)) ∈ lw_all := lw_g (lw_at lw_m6 69 rfl) rfl
theorem q1374 : (Jvm.Cond.instanceMethod ({ cls := "SwarmPlannerModel", name := "choose", desc := "(I)I" } : Jvm.MethodName)) ∈ lw_all := lw_g (lw_at lw_m6 71 rfl) rfl
theorem q1375 : (Jvm.Cond.selects "SwarmPlannerModel" ({ cls := "SwarmPlannerModel", name := "choose", desc := "(I)I" } : Jvm.MethodName) ({ cls := "SwarmPlannerModel", name := "choose", desc := "(I)I" } : Jvm.MethodName)) ∈ lw_all := lw_g (lw_at lw_m6 72 rfl) rfl
theorem q1376 : (Jvm.Cond.code ({ cls := "SwarmPlannerModel", name := "choose", desc := "(I)I" } : Jvm.MethodName) prog_11_method_49_code (3 : Nat) (Option.some Jvm.ClassFile.FieldType.int)) ∈ lw_all := lw_g (lw_at lw_m6 73 rfl) rfl
theorem q1378 : (Jvm.Cond.instanceMethod ({ cls := "SwarmPlannerModel", name := "execute", desc := "()I" } : Jvm.MethodName)) ∈ lw_all := lw_g (lw_at lw_m6 75 rfl) rfl
theorem q1379 : (Jvm.Cond.selects "SwarmPlannerModel" ({ cls := "SwarmPlannerModel", name := "execute", desc := "()I" } : Jvm.MethodName) ({ cls := "SwarmPlannerModel", name := "execute", desc := "()I" } : Jvm.MethodName)) ∈ lw_all := lw_g (lw_at lw_m6 76 rfl) rfl
theorem q1380 : (Jvm.Cond.code ({ cls := "SwarmPlannerModel", name := "execute", desc := "()I" } : Jvm.MethodName) prog_11_method_54_code (3 : Nat) (Option.some Jvm.ClassFile.FieldType.int)) ∈ lw_all := lw_g (lw_at lw_m6 77 rfl) rfl
theorem q1381 : (Jvm.Cond.methodLink "SwarmPlannerModel" (193 : Nat) ({ cls := "SwarmPlannerModel", name := "order", desc := "()V" } : Jvm.MethodName)) ∈ lw_all := lw_g (lw_at lw_m6 78 rfl) rfl
theorem q1382 : (Jvm.Cond.privateMethod ({ cls := "SwarmPlannerModel", name := "order", desc := "()V" } : Jvm.MethodName)) ∈ lw_tbl := lw_at lw_m6 79 rfl
theorem q1383 : (Jvm.Cond.instanceMethod ({ cls := "SwarmPlannerModel", name := "order", desc := "()V" } : Jvm.MethodName)) ∈ lw_all := lw_g (lw_at lw_m6 80 rfl) rfl
theorem q1384 : (Jvm.Cond.code ({ cls := "SwarmPlannerModel", name := "order", desc := "()V" } : Jvm.MethodName) prog_11_method_51_code (3 : Nat) (Option.none : Option Jvm.ClassFile.FieldType)) ∈ lw_all := lw_g (lw_at lw_m6 81 rfl) rfl
theorem q1385 : (Jvm.Cond.methodLink "SwarmPlannerModel" (190 : Nat) ({ cls := "SwarmPlannerModel", name := "number", desc := "()I" } : Jvm.MethodName)) ∈ lw_all := lw_g (lw_at lw_m6 82 rfl) rfl
theorem q1386 : (Jvm.Cond.privateMethod ({ cls := "SwarmPlannerModel", name := "number", desc := "()I" } : Jvm.MethodName)) ∈ lw_tbl := lw_at lw_m6 83 rfl
theorem q1387 : (Jvm.Cond.instanceMethod ({ cls := "SwarmPlannerModel", name := "number", desc := "()I" } : Jvm.MethodName)) ∈ lw_all := lw_g (lw_at lw_m6 84 rfl) rfl
theorem q1388 : (Jvm.Cond.code ({ cls := "SwarmPlannerModel", name := "number", desc := "()I" } : Jvm.MethodName) prog_11_method_50_code (3 : Nat) (Option.some Jvm.ClassFile.FieldType.int)) ∈ lw_all := lw_g (lw_at lw_m6 85 rfl) rfl
theorem q1389 : (Jvm.Cond.methodLink "SwarmPlannerModel" (196 : Nat) ({ cls := "SwarmPlannerModel", name := "refusal", desc := "(III)I" } : Jvm.MethodName)) ∈ lw_all := lw_g (lw_at lw_m6 86 rfl) rfl
theorem q1390 : (Jvm.Cond.privateMethod ({ cls := "SwarmPlannerModel", name := "refusal", desc := "(III)I" } : Jvm.MethodName)) ∈ lw_tbl := lw_at lw_m6 87 rfl
theorem q1391 : (Jvm.Cond.instanceMethod ({ cls := "SwarmPlannerModel", name := "refusal", desc := "(III)I" } : Jvm.MethodName)) ∈ lw_all := lw_g (lw_at lw_m6 88 rfl) rfl
theorem q1392 : (Jvm.Cond.code ({ cls := "SwarmPlannerModel", name := "refusal", desc := "(III)I" } : Jvm.MethodName) prog_11_method_52_code (5 : Nat) (Option.some Jvm.ClassFile.FieldType.int)) ∈ lw_all := lw_g (lw_at lw_m6 89 rfl) rfl
theorem q1393 : (Jvm.Cond.methodLink "SwarmPlannerModel" (206 : Nat) ({ cls := "SwarmPlannerModel", name := "carries", desc := "(III)V" } : Jvm.MethodName)) ∈ lw_all := lw_g (lw_at lw_m6 90 rfl) rfl
theorem q1394 : (Jvm.Cond.privateMethod ({ cls := "SwarmPlannerModel", name := "carries", desc := "(III)V" } : Jvm.MethodName)) ∈ lw_tbl := lw_at lw_m6 91 rfl
theorem q1395 : (Jvm.Cond.instanceMethod ({ cls := "SwarmPlannerModel", name := "carries", desc := "(III)V" } : Jvm.MethodName)) ∈ lw_all := lw_g (lw_at lw_m6 92 rfl) rfl
theorem q1396 : (Jvm.Cond.code ({ cls := "SwarmPlannerModel", name := "carries", desc := "(III)V" } : Jvm.MethodName) prog_11_method_53_code (6 : Nat) (Option.none : Option Jvm.ClassFile.FieldType)) ∈ lw_all := lw_g (lw_at lw_m6 93 rfl) rfl
theorem q1398 : (Jvm.Cond.instanceMethod ({ cls := "SwarmPlannerModel", name := "refusal", desc := "(I)I" } : Jvm.MethodName)) ∈ lw_all := lw_g (lw_at lw_m6 95 rfl) rfl
theorem q1399 : (Jvm.Cond.selects "SwarmPlannerModel" ({ cls := "SwarmPlannerModel", name := "refusal", desc := "(I)I" } : Jvm.MethodName) ({ cls := "SwarmPlannerModel", name := "refusal", desc := "(I)I" } : Jvm.MethodName)) ∈ lw_all := lw_g (lw_at lw_m6 96 rfl) rfl
theorem q1400 : (Jvm.Cond.code ({ cls := "SwarmPlannerModel", name := "refusal", desc := "(I)I" } : Jvm.MethodName) prog_11_method_55_code (2 : Nat) (Option.some Jvm.ClassFile.FieldType.int)) ∈ lw_all := lw_g (lw_at lw_m6 97 rfl) rfl
theorem q1402 : (Jvm.Cond.instanceMethod ({ cls := "SwarmPlannerModel", name := "member", desc := "(II)I" } : Jvm.MethodName)) ∈ lw_all := lw_g (lw_at lw_m6 99 rfl) rfl
theorem q1403 : (Jvm.Cond.selects "SwarmPlannerModel" ({ cls := "SwarmPlannerModel", name := "member", desc := "(II)I" } : Jvm.MethodName) ({ cls := "SwarmPlannerModel", name := "member", desc := "(II)I" } : Jvm.MethodName)) ∈ lw_all := lw_g (lw_at lw_m6 100 rfl) rfl
theorem q1404 : (Jvm.Cond.code ({ cls := "SwarmPlannerModel", name := "member", desc := "(II)I" } : Jvm.MethodName) prog_11_method_56_code (4 : Nat) (Option.some Jvm.ClassFile.FieldType.int)) ∈ lw_all := lw_g (lw_at lw_m6 101 rfl) rfl
theorem q1406 : (Jvm.Cond.instanceMethod ({ cls := "SwarmPlannerModel", name := "swarm", desc := "(I)I" } : Jvm.MethodName)) ∈ lw_all := lw_g (lw_at lw_m6 103 rfl) rfl
theorem q1407 : (Jvm.Cond.selects "SwarmPlannerModel" ({ cls := "SwarmPlannerModel", name := "swarm", desc := "(I)I" } : Jvm.MethodName) ({ cls := "SwarmPlannerModel", name := "swarm", desc := "(I)I" } : Jvm.MethodName)) ∈ lw_all := lw_g (lw_at lw_m6 104 rfl) rfl
theorem q1408 : (Jvm.Cond.code ({ cls := "SwarmPlannerModel", name := "swarm", desc := "(I)I" } : Jvm.MethodName) prog_11_method_57_code (5 : Nat) (Option.some Jvm.ClassFile.FieldType.int)) ∈ lw_all := lw_g (lw_at lw_m6 105 rfl) rfl
theorem q1409 : (Jvm.Cond.methodLink "SwarmPlannerModel" (209 : Nat) ({ cls := "SwarmPlannerModel", name := "isFormed", desc := "()Z" } : Jvm.MethodName)) ∈ lw_all := lw_g (lw_at lw_m6 106 rfl) rfl
theorem q1410 : (Jvm.Cond.privateMethod ({ cls := "SwarmPlannerModel", name := "isFormed", desc := "()Z" } : Jvm.MethodName)) ∈ lw_tbl := lw_at lw_m6 107 rfl
theorem q1411 : (Jvm.Cond.instanceMethod ({ cls := "SwarmPlannerModel", name := "isFormed", desc := "()Z" } : Jvm.MethodName)) ∈ lw_all := lw_g (lw_at lw_m6 108 rfl) rfl
theorem q1412 : (Jvm.Cond.code ({ cls := "SwarmPlannerModel", name := "isFormed", desc := "()Z" } : Jvm.MethodName) prog_11_method_25_code (3 : Nat) (Option.some Jvm.ClassFile.FieldType.boolean)) ∈ lw_all := lw_g (lw_at lw_m6 109 rfl) rfl
theorem q1414 : (Jvm.Cond.instanceMethod ({ cls := "SwarmPlannerModel", name := "cell", desc := "(II)I" } : Jvm.MethodName)) ∈ lw_all := lw_g (lw_at lw_m6 111 rfl) rfl
theorem q1415 : (Jvm.Cond.selects "SwarmPlannerModel" ({ cls := "SwarmPlannerModel", name := "cell", desc := "(II)I" } : Jvm.MethodName) ({ cls := "SwarmPlannerModel", name := "cell", desc := "(II)I" } : Jvm.MethodName)) ∈ lw_all := lw_g (lw_at lw_m6 112 rfl) rfl
theorem q1416 : (Jvm.Cond.code ({ cls := "SwarmPlannerModel", name := "cell", desc := "(II)I" } : Jvm.MethodName) prog_11_method_59_code (5 : Nat) (Option.some Jvm.ClassFile.FieldType.int)) ∈ lw_all := lw_g (lw_at lw_m6 113 rfl) rfl
theorem q1417 : (Jvm.Cond.methodLink "SwarmPlannerModel" (213 : Nat) ({ cls := "SwarmPlannerModel", name := "slotAt", desc := "(I)I" } : Jvm.MethodName)) ∈ lw_all := lw_g (lw_at lw_m6 114 rfl) rfl
theorem q1418 : (Jvm.Cond.privateMethod ({ cls := "SwarmPlannerModel", name := "slotAt", desc := "(I)I" } : Jvm.MethodName)) ∈ lw_tbl := lw_at lw_m6 115 rfl
theorem q1419 : (Jvm.Cond.instanceMethod ({ cls := "SwarmPlannerModel", name := "slotAt", desc := "(I)I" } : Jvm.MethodName)) ∈ lw_all := lw_g (lw_at lw_m6 116 rfl) rfl
theorem q1420 : (Jvm.Cond.code ({ cls := "SwarmPlannerModel", name := "slotAt", desc := "(I)I" } : Jvm.MethodName) prog_11_method_58_code (3 : Nat) (Option.some Jvm.ClassFile.FieldType.int)) ∈ lw_all := lw_g (lw_at lw_m6 117 rfl) rfl
theorem q1421 : (Jvm.Cond.methodLink "SwarmPlannerModel" (216 : Nat) ({ cls := "SwarmPlannerModel", name := "distanceOf", desc := "(II)I" } : Jvm.MethodName)) ∈ lw_all := lw_g (lw_at lw_m6 118 rfl) rfl
theorem q1422 : (Jvm.Cond.privateMethod ({ cls := "SwarmPlannerModel", name := "distanceOf", desc := "(II)I" } : Jvm.MethodName)) ∈ lw_tbl := lw_at lw_m6 119 rfl
theorem q1423 : (Jvm.Cond.instanceMethod ({ cls := "SwarmPlannerModel", name := "distanceOf", desc := "(II)I" } : Jvm.MethodName)) ∈ lw_all := lw_g (lw_at lw_m6 120 rfl) rfl
theorem q1424 : (Jvm.Cond.code ({ cls := "SwarmPlannerModel", name := "distanceOf", desc := "(II)I" } : Jvm.MethodName) prog_11_method_16_code (3 : Nat) (Option.some Jvm.ClassFile.FieldType.int)) ∈ lw_all := lw_g (lw_at lw_m6 121 rfl) rfl
theorem q1426 : (Jvm.Cond.instanceMethod ({ cls := "SwarmPlannerModel", name := "distance", desc := "(II)I" } : Jvm.MethodName)) ∈ lw_all := lw_g (lw_at lw_m6 123 rfl) rfl
theorem q1427 : (Jvm.Cond.selects "SwarmPlannerModel" ({ cls := "SwarmPlannerModel", name := "distance", desc := "(II)I" } : Jvm.MethodName) ({ cls := "SwarmPlannerModel", name := "distance", desc := "(II)I" } : Jvm.MethodName)) ∈ lw_all := lw_g (lw_at lw_m6 124 rfl) rfl
theorem q1428 : (Jvm.Cond.code ({ cls := "SwarmPlannerModel", name := "distance", desc := "(II)I" } : Jvm.MethodName) prog_11_method_60_code (4 : Nat) (Option.some Jvm.ClassFile.FieldType.int)) ∈ lw_all := lw_g (lw_at lw_m6 125 rfl) rfl
theorem q1430 : (Jvm.Cond.instanceMethod ({ cls := "SwarmPlannerModel", name := "slot", desc := "(II)I" } : Jvm.MethodName)) ∈ lw_all := lw_g (lw_at lw_m6 127 rfl) rfl
theorem q1431 : (Jvm.Cond.selects "SwarmPlannerModel" ({ cls := "SwarmPlannerModel", name := "slot", desc := "(II)I" } : Jvm.MethodName) ({ cls := "SwarmPlannerModel", name := "slot", desc := "(II)I" } : Jvm.MethodName)) ∈ lw_all := lw_g (lw_at lw_m6 128 rfl) rfl
theorem q1432 : (Jvm.Cond.code ({ cls := "SwarmPlannerModel", name := "slot", desc := "(II)I" } : Jvm.MethodName) prog_11_method_61_code (4 : Nat) (Option.some Jvm.ClassFile.FieldType.int)) ∈ lw_all := lw_g (lw_at lw_m6 129 rfl) rfl
theorem q1434 : (Jvm.Cond.instanceMethod ({ cls := "SwarmPlannerModel", name := "recognized", desc := "(I)I" } : Jvm.MethodName)) ∈ lw_all := lw_g (lw_at lw_m6 131 rfl) rfl
theorem q1435 : (Jvm.Cond.selects "SwarmPlannerModel" ({ cls := "SwarmPlannerModel", name := "recognized", desc := "(I)I" } : Jvm.MethodName) ({ cls := "SwarmPlannerModel", name := "recognized", desc := "(I)I" } : Jvm.MethodName)) ∈ lw_all := lw_g (lw_at lw_m6 132 rfl) rfl
theorem q1436 : (Jvm.Cond.code ({ cls := "SwarmPlannerModel", name := "recognized", desc := "(I)I" } : Jvm.MethodName) prog_11_method_64_code (4 : Nat) (Option.some Jvm.ClassFile.FieldType.int)) ∈ lw_all := lw_g (lw_at lw_m6 133 rfl) rfl
theorem q1437 : (Jvm.Cond.methodLink "SwarmPlannerModel" (228 : Nat) ({ cls := "SwarmPlannerModel", name := "isLike", desc := "(III)Z" } : Jvm.MethodName)) ∈ lw_all := lw_g (lw_at lw_m6 134 rfl) rfl
theorem q1438 : (Jvm.Cond.privateMethod ({ cls := "SwarmPlannerModel", name := "isLike", desc := "(III)Z" } : Jvm.MethodName)) ∈ lw_tbl := lw_at lw_m6 135 rfl
theorem q1439 : (Jvm.Cond.instanceMethod ({ cls := "SwarmPlannerModel", name := "isLike", desc := "(III)Z" } : Jvm.MethodName)) ∈ lw_all := lw_g (lw_at lw_m6 136 rfl) rfl
theorem q1440 : (Jvm.Cond.code ({ cls := "SwarmPlannerModel", name := "isLike", desc := "(III)Z" } : Jvm.MethodName) prog_11_method_63_code (9 : Nat) (Option.some Jvm.ClassFile.FieldType.boolean)) ∈ lw_all := lw_g (lw_at lw_m6 137 rfl) rfl
theorem q1441 : (Jvm.Cond.methodLink "SwarmPlannerModel" (225 : Nat) ({ cls := "SwarmPlannerModel", name := "turnsRound", desc := "(III)V" } : Jvm.MethodName)) ∈ lw_all := lw_g (lw_at lw_m6 138 rfl) rfl
theorem q1442 : (Jvm.Cond.privateMethod ({ cls := "SwarmPlannerModel", name := "turnsRound", desc := "(III)V" } : Jvm.MethodName)) ∈ lw_tbl := lw_at lw_m6 139 rfl
theorem q1443 : (Jvm.Cond.instanceMethod ({ cls := "SwarmPlannerModel", name := "turnsRound", desc := "(III)V" } : Jvm.MethodName)) ∈ lw_all := lw_g (lw_at lw_m6 140 rfl) rfl
theorem q1444 : (Jvm.Cond.code ({ cls := "SwarmPlannerModel", name := "turnsRound", desc := "(III)V" } : Jvm.MethodName) prog_11_method_62_code (6 : Nat) (Option.none : Option Jvm.ClassFile.FieldType)) ∈ lw_all := lw_g (lw_at lw_m6 141 rfl) rfl
theorem q1446 : (Jvm.Cond.instanceMethod ({ cls := "SwarmPlannerModel", name := "healed", desc := "(I)I" } : Jvm.MethodName)) ∈ lw_all := lw_g (lw_at lw_m6 143 rfl) rfl
theorem q1447 : (Jvm.Cond.selects "SwarmPlannerModel" ({ cls := "SwarmPlannerModel", name := "healed", desc := "(I)I" } : Jvm.MethodName) ({ cls := "SwarmPlannerModel", name := "healed", desc := "(I)I" } : Jvm.MethodName)) ∈ lw_all := lw_g (lw_at lw_m6 144 rfl) rfl
theorem q1448 : (Jvm.Cond.code ({ cls := "SwarmPlannerModel", name := "healed", desc := "(I)I" } : Jvm.MethodName) prog_11_method_66_code (3 : Nat) (Option.some Jvm.ClassFile.FieldType.int)) ∈ lw_all := lw_g (lw_at lw_m6 145 rfl) rfl
theorem q1449 : (Jvm.Cond.methodLink "SwarmPlannerModel" (231 : Nat) ({ cls := "SwarmPlannerModel", name := "forms", desc := "(I)I" } : Jvm.MethodName)) ∈ lw_all := lw_g (lw_at lw_m6 146 rfl) rfl
theorem q1450 : (Jvm.Cond.privateMethod ({ cls := "SwarmPlannerModel", name := "forms", desc := "(I)I" } : Jvm.MethodName)) ∈ lw_tbl := lw_at lw_m6 147 rfl
theorem q1451 : (Jvm.Cond.instanceMethod ({ cls := "SwarmPlannerModel", name := "forms", desc := "(I)I" } : Jvm.MethodName)) ∈ lw_all := lw_g (lw_at lw_m6 148 rfl) rfl
theorem q1452 : (Jvm.Cond.code ({ cls := "SwarmPlannerModel", name := "forms", desc := "(I)I" } : Jvm.MethodName) prog_11_method_65_code (3 : Nat) (Option.some Jvm.ClassFile.FieldType.int)) ∈ lw_all := lw_g (lw_at lw_m6 149 rfl) rfl
theorem q1454 : (Jvm.Cond.instanceMethod ({ cls := "SwarmPlannerModel", name := "healedWithout", desc := "(II)I" } : Jvm.MethodName)) ∈ lw_all := lw_g (lw_at lw_m6 151 rfl) rfl
theorem q1455 : (Jvm.Cond.selects "SwarmPlannerModel" ({ cls := "SwarmPlannerModel", name := "healedWithout", desc := "(II)I" } : Jvm.MethodName) ({ cls := "SwarmPlannerModel", name := "healedWithout", desc := "(II)I" } : Jvm.MethodName)) ∈ lw_all := lw_g (lw_at lw_m6 152 rfl) rfl
theorem q1456 : (Jvm.Cond.code ({ cls := "SwarmPlannerModel", name := "healedWithout", desc := "(II)I" } : Jvm.MethodName) prog_11_method_67_code (4 : Nat) (Option.some Jvm.ClassFile.FieldType.int)) ∈ lw_all := lw_g (lw_at lw_m6 153 rfl) rfl
theorem q1458 : (Jvm.Cond.instanceMethod ({ cls := "SwarmPlannerModel", name := "again", desc := "()I" } : Jvm.MethodName)) ∈ lw_all := lw_g (lw_at lw_m6 155 rfl) rfl
theorem q1459 : (Jvm.Cond.selects "SwarmPlannerModel" ({ cls := "SwarmPlannerModel", name := "again", desc := "()I" } : Jvm.MethodName) ({ cls := "SwarmPlannerModel", name := "again", desc := "()I" } : Jvm.MethodName)) ∈ lw_all := lw_g (lw_at lw_m6 156 rfl) rfl
theorem q1460 : (Jvm.Cond.code ({ cls := "SwarmPlannerModel", name := "again", desc := "()I" } : Jvm.MethodName) prog_11_method_68_code (1 : Nat) (Option.some Jvm.ClassFile.FieldType.int)) ∈ lw_all := lw_g (lw_at lw_m6 157 rfl) rfl
theorem q1462 : (Jvm.Cond.instanceMethod ({ cls := "SwarmPlannerModel", name := "account", desc := "(I)I" } : Jvm.MethodName)) ∈ lw_all := lw_g (lw_at lw_m6 159 rfl) rfl
theorem q1463 : (Jvm.Cond.selects "SwarmPlannerModel" ({ cls := "SwarmPlannerModel", name := "account", desc := "(I)I" } : Jvm.MethodName) ({ cls := "SwarmPlannerModel", name := "account", desc := "(I)I" } : Jvm.MethodName)) ∈ lw_all := lw_g (lw_at lw_m6 160 rfl) rfl
theorem q1464 : (Jvm.Cond.code ({ cls := "SwarmPlannerModel", name := "account", desc := "(I)I" } : Jvm.MethodName) prog_11_method_69_code (4 : Nat) (Option.some Jvm.ClassFile.FieldType.int)) ∈ lw_all := lw_g (lw_at lw_m6 161 rfl) rfl
theorem q1466 : (Jvm.Cond.instanceMethod ({ cls := "SwarmPlannerModel", name := "back", desc := "()I" } : Jvm.MethodName)) ∈ lw_all := lw_g (lw_at lw_m6 163 rfl) rfl
theorem q1467 : (Jvm.Cond.selects "SwarmPlannerModel" ({ cls := "SwarmPlannerModel", name := "back", desc := "()I" } : Jvm.MethodName) ({ cls := "SwarmPlannerModel", name := "back", desc := "()I" } : Jvm.MethodName)) ∈ lw_all := lw_g (lw_at lw_m6 164 rfl) rfl
theorem q1468 : (Jvm.Cond.code ({ cls := "SwarmPlannerModel", name := "back", desc := "()I" } : Jvm.MethodName) prog_11_method_70_code (1 : Nat) (Option.some Jvm.ClassFile.FieldType.int)) ∈ lw_all := lw_g (lw_at lw_m6 165 rfl) rfl
theorem q1470 : (Jvm.Cond.instanceMethod ({ cls := "SwarmPlannerModel", name := "image", desc := "()I" } : Jvm.MethodName)) ∈ lw_all := lw_g (lw_at lw_m6 167 rfl) rfl
theorem q1471 : (Jvm.Cond.selects "SwarmPlannerModel" ({ cls := "SwarmPlannerModel", name := "image", desc := "()I" } : Jvm.MethodName) ({ cls := "SwarmPlannerModel", name := "image", desc := "()I" } : Jvm.MethodName)) ∈ lw_all := lw_g (lw_at lw_m6 168 rfl) rfl
theorem q1472 : (Jvm.Cond.code ({ cls := "SwarmPlannerModel", name := "image", desc := "()I" } : Jvm.MethodName) prog_11_method_71_code (1 : Nat) (Option.some Jvm.ClassFile.FieldType.int)) ∈ lw_all := lw_g (lw_at lw_m6 169 rfl) rfl
theorem q1474 : (Jvm.Cond.instanceMethod ({ cls := "SwarmPlannerModel", name := "undo", desc := "()I" } : Jvm.MethodName)) ∈ lw_all := lw_g (lw_at lw_m6 171 rfl) rfl
theorem q1475 : (Jvm.Cond.selects "SwarmPlannerModel" ({ cls := "SwarmPlannerModel", name := "undo", desc := "()I" } : Jvm.MethodName) ({ cls := "SwarmPlannerModel", name := "undo", desc := "()I" } : Jvm.MethodName)) ∈ lw_all := lw_g (lw_at lw_m6 172 rfl) rfl
theorem q1476 : (Jvm.Cond.code ({ cls := "SwarmPlannerModel", name := "undo", desc := "()I" } : Jvm.MethodName) prog_11_method_72_code (1 : Nat) (Option.some Jvm.ClassFile.FieldType.int)) ∈ lw_all := lw_g (lw_at lw_m6 173 rfl) rfl
theorem q1478 : (Jvm.Cond.instanceMethod ({ cls := "SwarmPlannerModel", name := "count", desc := "(I)I" } : Jvm.MethodName)) ∈ lw_all := lw_g (lw_at lw_m6 175 rfl) rfl
theorem q1479 : (Jvm.Cond.selects "SwarmPlannerModel" ({ cls := "SwarmPlannerModel", name := "count", desc := "(I)I" } : Jvm.MethodName) ({ cls := "SwarmPlannerModel", name := "count", desc := "(I)I" } : Jvm.MethodName)) ∈ lw_all := lw_g (lw_at lw_m6 176 rfl) rfl
theorem q1480 : (Jvm.Cond.code ({ cls := "SwarmPlannerModel", name := "count", desc := "(I)I" } : Jvm.MethodName) prog_11_method_73_code (4 : Nat) (Option.some Jvm.ClassFile.FieldType.int)) ∈ lw_all := lw_g (lw_at lw_m6 177 rfl) rfl
theorem q1489 : (Jvm.Cond.castable "SwarmPlannerModel" "java/lang/Object") ∈ lw_tbl := lw_at lw_m6 186 rfl
theorem in_X3 : ∀ w ∈ wsX30, w ∈ lw_all := lw_in wsX30 [1146, 1148, 1150, 1152, 1154, 1156, 1158, 1160, 1162, 1164, 1166, 1168, 1170, 1172, 1174, 1176, 1178, 1180, 1182, 1184, 1186, 1188, 1190, 1192, 1194] (by decide +kernel) (by decide +kernel)
