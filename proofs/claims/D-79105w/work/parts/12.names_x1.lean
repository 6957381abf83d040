/-! SwarmPlanner$World -/
set_option maxRecDepth 100000
def RX1 : String := "SwarmPlanner$World"
def TX1 : u_T := fun k => match k with
  | 0 => ("SwarmPlanner$World", "isObstacle", "[Z", true)
  | 1 => ("SwarmPlanner$World", "memberAt", "[I", true)
  | 2 => ("SwarmPlanner$World", "members", "[LSwarmPlanner$Member;", true)
  | 3 => ("SwarmPlanner$World", "shapes", "[LSwarmPlanner$Shape;", true)
  | 4 => ("SwarmPlanner$World", "accounts", "[I", true)
  | 5 => ("SwarmPlanner$World", "leader", "I", false)
  | 6 => ("SwarmPlanner$World", "target", "I", false)
  | _ => ("SwarmPlanner$World", "shape", "I", false)
def tyX1 : Nat → FieldType := fun k => match k with
  | 0 => .array .boolean
  | 1 => .array .int
  | 2 => .array (.object "SwarmPlanner$Member")
  | 3 => .array (.object "SwarmPlanner$Shape")
  | 4 => .array .int
  | 5 => .int
  | 6 => .int
  | _ => .int
abbrev wsX10 : List Cond := u_ws RX1 TX1 8
theorem nmX1 : ∀ a, a < 8 → ∀ b, b < 8 → a ≠ b → (TX1 a).2.1 ≠ (TX1 b).2.1 := by decide +kernel
theorem tyX1_ok : ∀ k, k < 8 → parseFieldDescriptor (TX1 k).2.2.1 = some (tyX1 k) := by decide +kernel
abbrev cX1_init : ByteArray := prog_8_method_1_code
def yX1_init : MethodName := ⟨RX1, "<init>", "()V"⟩
def dkwX1_init_3 : List UInt8 := [2, 79, 132, 1, 1, 167, 255, 240, 177]
abbrev dktX1_init_3 : List UInt8 := dkwX1_init_3 ++ []
def dkwX1_init_2 : List UInt8 := [16, 251, 181, 0, 34, 42, 16, 251, 181, 0, 38, 3, 60, 27, 16, 120, 162, 0, 16, 42, 180, 0, 15, 27]
abbrev dktX1_init_2 : List UInt8 := dkwX1_init_2 ++ dktX1_init_3
def dkwX1_init_1 : List UInt8 := [189, 0, 19, 181, 0, 21, 42, 6, 189, 0, 25, 181, 0, 27, 42, 16, 8, 188, 10, 181, 0, 31, 42]
abbrev dktX1_init_1 : List UInt8 := dkwX1_init_1 ++ dktX1_init_2
def dkwX1_init_0 : List UInt8 := [42, 183, 0, 3, 42, 16, 120, 188, 4, 181, 0, 9, 42, 16, 120, 188, 10, 181, 0, 15, 42, 16, 10]
abbrev dktX1_init_0 : List UInt8 := dkwX1_init_0 ++ dktX1_init_1
theorem dksX1_init_0 : cX1_init.data.toList.drop 0 = dktX1_init_0 := by decide +kernel
theorem dksX1_init_1 : cX1_init.data.toList.drop 23 = dktX1_init_1 := dk_seg dksX1_init_0 23 rfl rfl
theorem dksX1_init_2 : cX1_init.data.toList.drop 46 = dktX1_init_2 := dk_seg dksX1_init_1 23 rfl rfl
theorem dksX1_init_3 : cX1_init.data.toList.drop 70 = dktX1_init_3 := dk_seg dksX1_init_2 24 rfl rfl
theorem dX1_init_0 : decode cX1_init 0 = .ok (.aload_n 0, 1) := dk_42 (dk_at dksX1_init_0 0 rfl rfl)
theorem dX1_init_1 : decode cX1_init 1 = .ok (.invokespecial 3, 3) := dk_183 0 3 (dk_at dksX1_init_0 1 rfl rfl)
theorem dX1_init_4 : decode cX1_init 4 = .ok (.aload_n 0, 1) := dk_42 (dk_at dksX1_init_0 4 rfl rfl)
theorem dX1_init_5 : decode cX1_init 5 = .ok (.bipush 120, 2) := dk_16 120 (dk_at dksX1_init_0 5 rfl rfl)
theorem dX1_init_7 : decode cX1_init 7 = .ok (.newarray .boolean, 2) := dk_188_4 (dk_at dksX1_init_0 7 rfl rfl)
theorem dX1_init_9 : decode cX1_init 9 = .ok (.putfield 9, 3) := dk_181 0 9 (dk_at dksX1_init_0 9 rfl rfl)
theorem dX1_init_12 : decode cX1_init 12 = .ok (.aload_n 0, 1) := dk_42 (dk_at dksX1_init_0 12 rfl rfl)
theorem dX1_init_13 : decode cX1_init 13 = .ok (.bipush 120, 2) := dk_16 120 (dk_at dksX1_init_0 13 rfl rfl)
theorem dX1_init_15 : decode cX1_init 15 = .ok (.newarray .int, 2) := dk_188_10 (dk_at dksX1_init_0 15 rfl rfl)
theorem dX1_init_17 : decode cX1_init 17 = .ok (.putfield 15, 3) := dk_181 0 15 (dk_at dksX1_init_0 17 rfl rfl)
theorem dX1_init_20 : decode cX1_init 20 = .ok (.aload_n 0, 1) := dk_42 (dk_at dksX1_init_0 20 rfl rfl)
theorem dX1_init_21 : decode cX1_init 21 = .ok (.bipush 10, 2) := dk_16 10 (dk_at dksX1_init_0 21 rfl rfl)
theorem dX1_init_23 : decode cX1_init 23 = .ok (.anewarray 19, 3) := dk_189 0 19 (dk_at dksX1_init_1 0 rfl rfl)
theorem dX1_init_26 : decode cX1_init 26 = .ok (.putfield 21, 3) := dk_181 0 21 (dk_at dksX1_init_1 3 rfl rfl)
theorem dX1_init_29 : decode cX1_init 29 = .ok (.aload_n 0, 1) := dk_42 (dk_at dksX1_init_1 6 rfl rfl)
theorem dX1_init_30 : decode cX1_init 30 = .ok (.iconst 3, 1) := dk_6 (dk_at dksX1_init_1 7 rfl rfl)
theorem dX1_init_31 : decode cX1_init 31 = .ok (.anewarray 25, 3) := dk_189 0 25 (dk_at dksX1_init_1 8 rfl rfl)
theorem dX1_init_34 : decode cX1_init 34 = .ok (.putfield 27, 3) := dk_181 0 27 (dk_at dksX1_init_1 11 rfl rfl)
theorem dX1_init_37 : decode cX1_init 37 = .ok (.aload_n 0, 1) := dk_42 (dk_at dksX1_init_1 14 rfl rfl)
theorem dX1_init_38 : decode cX1_init 38 = .ok (.bipush 8, 2) := dk_16 8 (dk_at dksX1_init_1 15 rfl rfl)
theorem dX1_init_40 : decode cX1_init 40 = .ok (.newarray .int, 2) := dk_188_10 (dk_at dksX1_init_1 17 rfl rfl)
theorem dX1_init_42 : decode cX1_init 42 = .ok (.putfield 31, 3) := dk_181 0 31 (dk_at dksX1_init_1 19 rfl rfl)
theorem dX1_init_45 : decode cX1_init 45 = .ok (.aload_n 0, 1) := dk_42 (dk_at dksX1_init_1 22 rfl rfl)
theorem dX1_init_46 : decode cX1_init 46 = .ok (.bipush (-5), 2) := dk_16 251 (dk_at dksX1_init_2 0 rfl rfl)
theorem dX1_init_48 : decode cX1_init 48 = .ok (.putfield 34, 3) := dk_181 0 34 (dk_at dksX1_init_2 2 rfl rfl)
theorem dX1_init_51 : decode cX1_init 51 = .ok (.aload_n 0, 1) := dk_42 (dk_at dksX1_init_2 5 rfl rfl)
theorem dX1_init_52 : decode cX1_init 52 = .ok (.bipush (-5), 2) := dk_16 251 (dk_at dksX1_init_2 6 rfl rfl)
theorem dX1_init_54 : decode cX1_init 54 = .ok (.putfield 38, 3) := dk_181 0 38 (dk_at dksX1_init_2 8 rfl rfl)
theorem dX1_init_57 : decode cX1_init 57 = .ok (.iconst 0, 1) := dk_3 (dk_at dksX1_init_2 11 rfl rfl)
theorem dX1_init_58 : decode cX1_init 58 = .ok (.istore_n 1, 1) := dk_60 (dk_at dksX1_init_2 12 rfl rfl)
theorem dX1_init_59 : decode cX1_init 59 = .ok (.iload_n 1, 1) := dk_27 (dk_at dksX1_init_2 13 rfl rfl)
theorem dX1_init_60 : decode cX1_init 60 = .ok (.bipush 120, 2) := dk_16 120 (dk_at dksX1_init_2 14 rfl rfl)
theorem dX1_init_62 : decode cX1_init 62 = .ok (.if_icmp .ge 16, 3) := dk_162 0 16 (dk_at dksX1_init_2 16 rfl rfl)
theorem dX1_init_65 : decode cX1_init 65 = .ok (.aload_n 0, 1) := dk_42 (dk_at dksX1_init_2 19 rfl rfl)
theorem dX1_init_66 : decode cX1_init 66 = .ok (.getfield 15, 3) := dk_180 0 15 (dk_at dksX1_init_2 20 rfl rfl)
theorem dX1_init_69 : decode cX1_init 69 = .ok (.iload_n 1, 1) := dk_27 (dk_at dksX1_init_2 23 rfl rfl)
theorem dX1_init_70 : decode cX1_init 70 = .ok (.iconst (-1), 1) := dk_2 (dk_at dksX1_init_3 0 rfl rfl)
theorem dX1_init_71 : decode cX1_init 71 = .ok (.iastore, 1) := dk_79 (dk_at dksX1_init_3 1 rfl rfl)
theorem dX1_init_72 : decode cX1_init 72 = .ok (.iinc 1 1, 3) := dk_132 1 1 (dk_at dksX1_init_3 2 rfl rfl)
theorem dX1_init_75 : decode cX1_init 75 = .ok (.goto (-16), 3) := dk_167 255 240 (dk_at dksX1_init_3 5 rfl rfl)
theorem dX1_init_78 : decode cX1_init 78 = .ok (.return_, 1) := dk_177 (dk_at dksX1_init_3 8 rfl rfl)
abbrev cX1_init_2 : ByteArray := prog_8_method_2_code
def yX1_init_2 : MethodName := ⟨RX1, "<init>", "(LSwarmPlanner$World;)V"⟩
def dkwX1_init_2_0 : List UInt8 := [42, 183, 0, 41, 42, 43, 182, 0, 42, 177]
abbrev dktX1_init_2_0 : List UInt8 := dkwX1_init_2_0 ++ []
theorem dksX1_init_2_0 : cX1_init_2.data.toList.drop 0 = dktX1_init_2_0 := by decide +kernel
theorem dX1_init_2_0 : decode cX1_init_2 0 = .ok (.aload_n 0, 1) := dk_42 (dk_at dksX1_init_2_0 0 rfl rfl)
theorem dX1_init_2_1 : decode cX1_init_2 1 = .ok (.invokespecial 41, 3) := dk_183 0 41 (dk_at dksX1_init_2_0 1 rfl rfl)
theorem dX1_init_2_4 : decode cX1_init_2 4 = .ok (.aload_n 0, 1) := dk_42 (dk_at dksX1_init_2_0 4 rfl rfl)
theorem dX1_init_2_5 : decode cX1_init_2 5 = .ok (.aload_n 1, 1) := dk_43 (dk_at dksX1_init_2_0 5 rfl rfl)
theorem dX1_init_2_6 : decode cX1_init_2 6 = .ok (.invokevirtual 42, 3) := dk_182 0 42 (dk_at dksX1_init_2_0 6 rfl rfl)
theorem dX1_init_2_9 : decode cX1_init_2 9 = .ok (.return_, 1) := dk_177 (dk_at dksX1_init_2_0 9 rfl rfl)
abbrev cX1_becomes : ByteArray := prog_8_method_3_code
def yX1_becomes : MethodName := ⟨RX1, "becomes", "(LSwarmPlanner$World;)V"⟩
def dkwX1_becomes_5 : List UInt8 := [43, 180, 0, 38, 181, 0, 38, 42, 43, 180, 0, 55, 181, 0, 55, 177]
abbrev dktX1_becomes_5 : List UInt8 := dkwX1_becomes_5 ++ []
def dkwX1_becomes_4 : List UInt8 := [180, 0, 21, 28, 50, 183, 0, 52, 83, 132, 2, 1, 167, 255, 215, 42, 43, 180, 0, 34, 181, 0, 34, 42]
abbrev dktX1_becomes_4 : List UInt8 := dkwX1_becomes_4 ++ dktX1_becomes_5
def dkwX1_becomes_3 : List UInt8 := [180, 0, 21, 28, 43, 180, 0, 21, 28, 50, 199, 0, 7, 1, 167, 0, 16, 187, 0, 19, 89, 43]
abbrev dktX1_becomes_3 : List UInt8 := dkwX1_becomes_3 ++ dktX1_becomes_4
def dkwX1_becomes_2 : List UInt8 := [3, 42, 180, 0, 31, 3, 42, 180, 0, 31, 190, 184, 0, 46, 3, 61, 28, 16, 10, 162, 0, 41, 42]
abbrev dktX1_becomes_2 : List UInt8 := dkwX1_becomes_2 ++ dktX1_becomes_3
def dkwX1_becomes_1 : List UInt8 := [3, 16, 120, 184, 0, 46, 43, 180, 0, 27, 3, 42, 180, 0, 27, 3, 6, 184, 0, 46, 43, 180, 0, 31]
abbrev dktX1_becomes_1 : List UInt8 := dkwX1_becomes_1 ++ dktX1_becomes_2
def dkwX1_becomes_0 : List UInt8 := [43, 180, 0, 9, 3, 42, 180, 0, 9, 3, 16, 120, 184, 0, 46, 43, 180, 0, 15, 3, 42, 180, 0, 15]
abbrev dktX1_becomes_0 : List UInt8 := dkwX1_becomes_0 ++ dktX1_becomes_1
theorem dksX1_becomes_0 : cX1_becomes.data.toList.drop 0 = dktX1_becomes_0 := by decide +kernel
theorem dksX1_becomes_1 : cX1_becomes.data.toList.drop 24 = dktX1_becomes_1 := dk_seg dksX1_becomes_0 24 rfl rfl
theorem dksX1_becomes_2 : cX1_becomes.data.toList.drop 48 = dktX1_becomes_2 := dk_seg dksX1_becomes_1 24 rfl rfl
theorem dksX1_becomes_3 : cX1_becomes.data.toList.drop 71 = dktX1_becomes_3 := dk_seg dksX1_becomes_2 23 rfl rfl
theorem dksX1_becomes_4 : cX1_becomes.data.toList.drop 93 = dktX1_becomes_4 := dk_seg dksX1_becomes_3 22 rfl rfl
theorem dksX1_becomes_5 : cX1_becomes.data.toList.drop 117 = dktX1_becomes_5 := dk_seg dksX1_becomes_4 24 rfl rfl
theorem dX1_becomes_0 : decode cX1_becomes 0 = .ok (.aload_n 1, 1) := dk_43 (dk_at dksX1_becomes_0 0 rfl rfl)
theorem dX1_becomes_1 : decode cX1_becomes 1 = .ok (.getfield 9, 3) := dk_180 0 9 (dk_at dksX1_becomes_0 1 rfl rfl)
theorem dX1_becomes_4 : decode cX1_becomes 4 = .ok (.iconst 0, 1) := dk_3 (dk_at dksX1_becomes_0 4 rfl rfl)
theorem dX1_becomes_5 : decode cX1_becomes 5 = .ok (.aload_n 0, 1) := dk_42 (dk_at dksX1_becomes_0 5 rfl rfl)
theorem dX1_becomes_6 : decode cX1_becomes 6 = .ok (.getfield 9, 3) := dk_180 0 9 (dk_at dksX1_becomes_0 6 rfl rfl)
theorem dX1_becomes_9 : decode cX1_becomes 9 = .ok (.iconst 0, 1) := dk_3 (dk_at dksX1_becomes_0 9 rfl rfl)
theorem dX1_becomes_10 : decode cX1_becomes 10 = .ok (.bipush 120, 2) := dk_16 120 (dk_at dksX1_becomes_0 10 rfl rfl)
theorem dX1_becomes_12 : decode cX1_becomes 12 = .ok (.invokestatic 46, 3) := dk_184 0 46 (dk_at dksX1_becomes_0 12 rfl rfl)
theorem dX1_becomes_15 : decode cX1_becomes 15 = .ok (.aload_n 1, 1) := dk_43 (dk_at dksX1_becomes_0 15 rfl rfl)
theorem dX1_becomes_16 : decode cX1_becomes 16 = .ok (.getfield 15, 3) := dk_180 0 15 (dk_at dksX1_becomes_0 16 rfl rfl)
theorem dX1_becomes_19 : decode cX1_becomes 19 = .ok (.iconst 0, 1) := dk_3 (dk_at dksX1_becomes_0 19 rfl rfl)
theorem dX1_becomes_20 : decode cX1_becomes 20 = .ok (.aload_n 0, 1) := dk_42 (dk_at dksX1_becomes_0 20 rfl rfl)
theorem dX1_becomes_21 : decode cX1_becomes 21 = .ok (.getfield 15, 3) := dk_180 0 15 (dk_at dksX1_becomes_0 21 rfl rfl)
theorem dX1_becomes_24 : decode cX1_becomes 24 = .ok (.iconst 0, 1) := dk_3 (dk_at dksX1_becomes_1 0 rfl rfl)
theorem dX1_becomes_25 : decode cX1_becomes 25 = .ok (.bipush 120, 2) := dk_16 120 (dk_at dksX1_becomes_1 1 rfl rfl)
theorem dX1_becomes_27 : decode cX1_becomes 27 = .ok (.invokestatic 46, 3) := dk_184 0 46 (dk_at dksX1_becomes_1 3 rfl rfl)
theorem dX1_becomes_30 : decode cX1_becomes 30 = .ok (.aload_n 1, 1) := dk_43 (dk_at dksX1_becomes_1 6 rfl rfl)
theorem dX1_becomes_31 : decode cX1_becomes 31 = .ok (.getfield 27, 3) := dk_180 0 27 (dk_at dksX1_becomes_1 7 rfl rfl)
theorem dX1_becomes_34 : decode cX1_becomes 34 = .ok (.iconst 0, 1) := dk_3 (dk_at dksX1_becomes_1 10 rfl rfl)
theorem dX1_becomes_35 : decode cX1_becomes 35 = .ok (.aload_n 0, 1) := dk_42 (dk_at dksX1_becomes_1 11 rfl rfl)
theorem dX1_becomes_36 : decode cX1_becomes 36 = .ok (.getfield 27, 3) := dk_180 0 27 (dk_at dksX1_becomes_1 12 rfl rfl)
theorem dX1_becomes_39 : decode cX1_becomes 39 = .ok (.iconst 0, 1) := dk_3 (dk_at dksX1_becomes_1 15 rfl rfl)
theorem dX1_becomes_40 : decode cX1_becomes 40 = .ok (.iconst 3, 1) := dk_6 (dk_at dksX1_becomes_1 16 rfl rfl)
theorem dX1_becomes_41 : decode cX1_becomes 41 = .ok (.invokestatic 46, 3) := dk_184 0 46 (dk_at dksX1_becomes_1 17 rfl rfl)
theorem dX1_becomes_44 : decode cX1_becomes 44 = .ok (.aload_n 1, 1) := dk_43 (dk_at dksX1_becomes_1 20 rfl rfl)
theorem dX1_becomes_45 : decode cX1_becomes 45 = .ok (.getfield 31, 3) := dk_180 0 31 (dk_at dksX1_becomes_1 21 rfl rfl)
theorem dX1_becomes_48 : decode cX1_becomes 48 = .ok (.iconst 0, 1) := dk_3 (dk_at dksX1_becomes_2 0 rfl rfl)
theorem dX1_becomes_49 : decode cX1_becomes 49 = .ok (.aload_n 0, 1) := dk_42 (dk_at dksX1_becomes_2 1 rfl rfl)
theorem dX1_becomes_50 : decode cX1_becomes 50 = .ok (.getfield 31, 3) := dk_180 0 31 (dk_at dksX1_becomes_2 2 rfl rfl)
theorem dX1_becomes_53 : decode cX1_becomes 53 = .ok (.iconst 0, 1) := dk_3 (dk_at dksX1_becomes_2 5 rfl rfl)
theorem dX1_becomes_54 : decode cX1_becomes 54 = .ok (.aload_n 0, 1) := dk_42 (dk_at dksX1_becomes_2 6 rfl rfl)
theorem dX1_becomes_55 : decode cX1_becomes 55 = .ok (.getfield 31, 3) := dk_180 0 31 (dk_at dksX1_becomes_2 7 rfl rfl)
theorem dX1_becomes_58 : decode cX1_becomes 58 = .ok (.arraylength, 1) := dk_190 (dk_at dksX1_becomes_2 10 rfl rfl)
theorem dX1_becomes_59 : decode cX1_becomes 59 = .ok (.invokestatic 46, 3) := dk_184 0 46 (dk_at dksX1_becomes_2 11 rfl rfl)
theorem dX1_becomes_62 : decode cX1_becomes 62 = .ok (.iconst 0, 1) := dk_3 (dk_at dksX1_becomes_2 14 rfl rfl)
theorem dX1_becomes_63 : decode cX1_becomes 63 = .ok (.istore_n 2, 1) := dk_61 (dk_at dksX1_becomes_2 15 rfl rfl)
theorem dX1_becomes_64 : decode cX1_becomes 64 = .ok (.iload_n 2, 1) := dk_28 (dk_at dksX1_becomes_2 16 rfl rfl)
theorem dX1_becomes_65 : decode cX1_becomes 65 = .ok (.bipush 10, 2) := dk_16 10 (dk_at dksX1_becomes_2 17 rfl rfl)
theorem dX1_becomes_67 : decode cX1_becomes 67 = .ok (.if_icmp .ge 41, 3) := dk_162 0 41 (dk_at dksX1_becomes_2 19 rfl rfl)
theorem dX1_becomes_70 : decode cX1_becomes 70 = .ok (.aload_n 0, 1) := dk_42 (dk_at dksX1_becomes_2 22 rfl rfl)
theorem dX1_becomes_71 : decode cX1_becomes 71 = .ok (.getfield 21, 3) := dk_180 0 21 (dk_at dksX1_becomes_3 0 rfl rfl)
theorem dX1_becomes_74 : decode cX1_becomes 74 = .ok (.iload_n 2, 1) := dk_28 (dk_at dksX1_becomes_3 3 rfl rfl)
theorem dX1_becomes_75 : decode cX1_becomes 75 = .ok (.aload_n 1, 1) := dk_43 (dk_at dksX1_becomes_3 4 rfl rfl)
theorem dX1_becomes_76 : decode cX1_becomes 76 = .ok (.getfield 21, 3) := dk_180 0 21 (dk_at dksX1_becomes_3 5 rfl rfl)
theorem dX1_becomes_79 : decode cX1_becomes 79 = .ok (.iload_n 2, 1) := dk_28 (dk_at dksX1_becomes_3 8 rfl rfl)
theorem dX1_becomes_80 : decode cX1_becomes 80 = .ok (.aaload, 1) := dk_50 (dk_at dksX1_becomes_3 9 rfl rfl)
theorem dX1_becomes_81 : decode cX1_becomes 81 = .ok (.ifnonnull 7, 3) := dk_199 0 7 (dk_at dksX1_becomes_3 10 rfl rfl)
theorem dX1_becomes_84 : decode cX1_becomes 84 = .ok (.aconst_null, 1) := dk_1 (dk_at dksX1_becomes_3 13 rfl rfl)
theorem dX1_becomes_85 : decode cX1_becomes 85 = .ok (.goto 16, 3) := dk_167 0 16 (dk_at dksX1_becomes_3 14 rfl rfl)
theorem dX1_becomes_88 : decode cX1_becomes 88 = .ok (.new 19, 3) := dk_187 0 19 (dk_at dksX1_becomes_3 17 rfl rfl)
theorem dX1_becomes_91 : decode cX1_becomes 91 = .ok (.dup, 1) := dk_89 (dk_at dksX1_becomes_3 20 rfl rfl)
theorem dX1_becomes_92 : decode cX1_becomes 92 = .ok (.aload_n 1, 1) := dk_43 (dk_at dksX1_becomes_3 21 rfl rfl)
theorem dX1_becomes_93 : decode cX1_becomes 93 = .ok (.getfield 21, 3) := dk_180 0 21 (dk_at dksX1_becomes_4 0 rfl rfl)
theorem dX1_becomes_96 : decode cX1_becomes 96 = .ok (.iload_n 2, 1) := dk_28 (dk_at dksX1_becomes_4 3 rfl rfl)
theorem dX1_becomes_97 : decode cX1_becomes 97 = .ok (.aaload, 1) := dk_50 (dk_at dksX1_becomes_4 4 rfl rfl)
theorem dX1_becomes_98 : decode cX1_becomes 98 = .ok (.invokespecial 52, 3) := dk_183 0 52 (dk_at dksX1_becomes_4 5 rfl rfl)
theorem dX1_becomes_101 : decode cX1_becomes 101 = .ok (.aastore, 1) := dk_83 (dk_at dksX1_becomes_4 8 rfl rfl)
theorem dX1_becomes_102 : decode cX1_becomes 102 = .ok (.iinc 2 1, 3) := dk_132 2 1 (dk_at dksX1_becomes_4 9 rfl rfl)
theorem dX1_becomes_105 : decode cX1_becomes 105 = .ok (.goto (-41), 3) := dk_167 255 215 (dk_at dksX1_becomes_4 12 rfl rfl)
theorem dX1_becomes_108 : decode cX1_becomes 108 = .ok (.aload_n 0, 1) := dk_42 (dk_at dksX1_becomes_4 15 rfl rfl)
theorem dX1_becomes_109 : decode cX1_becomes 109 = .ok (.aload_n 1, 1) := dk_43 (dk_at dksX1_becomes_4 16 rfl rfl)
theorem dX1_becomes_110 : decode cX1_becomes 110 = .ok (.getfield 34, 3) := dk_180 0 34 (dk_at dksX1_becomes_4 17 rfl rfl)
theorem dX1_becomes_113 : decode cX1_becomes 113 = .ok (.putfield 34, 3) := dk_181 0 34 (dk_at dksX1_becomes_4 20 rfl rfl)
theorem dX1_becomes_116 : decode cX1_becomes 116 = .ok (.aload_n 0, 1) := dk_42 (dk_at dksX1_becomes_4 23 rfl rfl)
theorem dX1_becomes_117 : decode cX1_becomes 117 = .ok (.aload_n 1, 1) := dk_43 (dk_at dksX1_becomes_5 0 rfl rfl)
theorem dX1_becomes_118 : decode cX1_becomes 118 = .ok (.getfield 38, 3) := dk_180 0 38 (dk_at dksX1_becomes_5 1 rfl rfl)
theorem dX1_becomes_121 : decode cX1_becomes 121 = .ok (.putfield 38, 3) := dk_181 0 38 (dk_at dksX1_becomes_5 4 rfl rfl)
theorem dX1_becomes_124 : decode cX1_becomes 124 = .ok (.aload_n 0, 1) := dk_42 (dk_at dksX1_becomes_5 7 rfl rfl)
theorem dX1_becomes_125 : decode cX1_becomes 125 = .ok (.aload_n 1, 1) := dk_43 (dk_at dksX1_becomes_5 8 rfl rfl)
theorem dX1_becomes_126 : decode cX1_becomes 126 = .ok (.getfield 55, 3) := dk_180 0 55 (dk_at dksX1_becomes_5 9 rfl rfl)
theorem dX1_becomes_129 : decode cX1_becomes 129 = .ok (.putfield 55, 3) := dk_181 0 55 (dk_at dksX1_becomes_5 12 rfl rfl)
theorem dX1_becomes_132 : decode cX1_becomes 132 = .ok (.return_, 1) := dk_177 (dk_at dksX1_becomes_5 15 rfl rfl)
abbrev cX1_isMember : ByteArray := prog_8_method_4_code
def yX1_isMember : MethodName := ⟨RX1, "isMember", "(I)Z"⟩
def dkwX1_isMember_1 : List UInt8 := [172]
abbrev dktX1_isMember_1 : List UInt8 := dkwX1_isMember_1 ++ []
def dkwX1_isMember_0 : List UInt8 := [27, 3, 16, 9, 184, 0, 58, 153, 0, 16, 42, 180, 0, 21, 27, 50, 198, 0, 7, 4, 167, 0, 4, 3]
abbrev dktX1_isMember_0 : List UInt8 := dkwX1_isMember_0 ++ dktX1_isMember_1
theorem dksX1_isMember_0 : cX1_isMember.data.toList.drop 0 = dktX1_isMember_0 := by decide +kernel
theorem dksX1_isMember_1 : cX1_isMember.data.toList.drop 24 = dktX1_isMember_1 := dk_seg dksX1_isMember_0 24 rfl rfl
theorem dX1_isMember_0 : decode cX1_isMember 0 = .ok (.iload_n 1, 1) := dk_27 (dk_at dksX1_isMember_0 0 rfl rfl)
theorem dX1_isMember_1 : decode cX1_isMember 1 = .ok (.iconst 0, 1) := dk_3 (dk_at dksX1_isMember_0 1 rfl rfl)
theorem dX1_isMember_2 : decode cX1_isMember 2 = .ok (.bipush 9, 2) := dk_16 9 (dk_at dksX1_isMember_0 2 rfl rfl)
theorem dX1_isMember_4 : decode cX1_isMember 4 = .ok (.invokestatic 58, 3) := dk_184 0 58 (dk_at dksX1_isMember_0 4 rfl rfl)
theorem dX1_isMember_7 : decode cX1_isMember 7 = .ok (.ifCond .eq 16, 3) := dk_153 0 16 (dk_at dksX1_isMember_0 7 rfl rfl)
theorem dX1_isMember_10 : decode cX1_isMember 10 = .ok (.aload_n 0, 1) := dk_42 (dk_at dksX1_isMember_0 10 rfl rfl)
theorem dX1_isMember_11 : decode cX1_isMember 11 = .ok (.getfield 21, 3) := dk_180 0 21 (dk_at dksX1_isMember_0 11 rfl rfl)
theorem dX1_isMember_14 : decode cX1_isMember 14 = .ok (.iload_n 1, 1) := dk_27 (dk_at dksX1_isMember_0 14 rfl rfl)
theorem dX1_isMember_15 : decode cX1_isMember 15 = .ok (.aaload, 1) := dk_50 (dk_at dksX1_isMember_0 15 rfl rfl)
theorem dX1_isMember_16 : decode cX1_isMember 16 = .ok (.ifnull 7, 3) := dk_198 0 7 (dk_at dksX1_isMember_0 16 rfl rfl)
theorem dX1_isMember_19 : decode cX1_isMember 19 = .ok (.iconst 1, 1) := dk_4 (dk_at dksX1_isMember_0 19 rfl rfl)
theorem dX1_isMember_20 : decode cX1_isMember 20 = .ok (.goto 4, 3) := dk_167 0 4 (dk_at dksX1_isMember_0 20 rfl rfl)
theorem dX1_isMember_23 : decode cX1_isMember 23 = .ok (.iconst 0, 1) := dk_3 (dk_at dksX1_isMember_0 23 rfl rfl)
theorem dX1_isMember_24 : decode cX1_isMember 24 = .ok (.ireturn, 1) := dk_172 (dk_at dksX1_isMember_1 0 rfl rfl)
abbrev cX1_loses : ByteArray := prog_8_method_10_code
def yX1_loses : MethodName := ⟨RX1, "loses", "(I)V"⟩
def dkwX1_loses_1 : List UInt8 := [180, 0, 31, 8, 92, 46, 4, 96, 79, 177]
abbrev dktX1_loses_1 : List UInt8 := dkwX1_loses_1 ++ []
def dkwX1_loses_0 : List UInt8 := [42, 180, 0, 15, 42, 180, 0, 21, 27, 50, 180, 0, 70, 2, 79, 42, 180, 0, 21, 27, 1, 83, 42]
abbrev dktX1_loses_0 : List UInt8 := dkwX1_loses_0 ++ dktX1_loses_1
theorem dksX1_loses_0 : cX1_loses.data.toList.drop 0 = dktX1_loses_0 := by decide +kernel
theorem dksX1_loses_1 : cX1_loses.data.toList.drop 23 = dktX1_loses_1 := dk_seg dksX1_loses_0 23 rfl rfl
theorem dX1_loses_0 : decode cX1_loses 0 = .ok (.aload_n 0, 1) := dk_42 (dk_at dksX1_loses_0 0 rfl rfl)
theorem dX1_loses_1 : decode cX1_loses 1 = .ok (.getfield 15, 3) := dk_180 0 15 (dk_at dksX1_loses_0 1 rfl rfl)
theorem dX1_loses_4 : decode cX1_loses 4 = .ok (.aload_n 0, 1) := dk_42 (dk_at dksX1_loses_0 4 rfl rfl)
theorem dX1_loses_5 : decode cX1_loses 5 = .ok (.getfield 21, 3) := dk_180 0 21 (dk_at dksX1_loses_0 5 rfl rfl)
theorem dX1_loses_8 : decode cX1_loses 8 = .ok (.iload_n 1, 1) := dk_27 (dk_at dksX1_loses_0 8 rfl rfl)
theorem dX1_loses_9 : decode cX1_loses 9 = .ok (.aaload, 1) := dk_50 (dk_at dksX1_loses_0 9 rfl rfl)
theorem dX1_loses_10 : decode cX1_loses 10 = .ok (.getfield 70, 3) := dk_180 0 70 (dk_at dksX1_loses_0 10 rfl rfl)
theorem dX1_loses_13 : decode cX1_loses 13 = .ok (.iconst (-1), 1) := dk_2 (dk_at dksX1_loses_0 13 rfl rfl)
theorem dX1_loses_14 : decode cX1_loses 14 = .ok (.iastore, 1) := dk_79 (dk_at dksX1_loses_0 14 rfl rfl)
theorem dX1_loses_15 : decode cX1_loses 15 = .ok (.aload_n 0, 1) := dk_42 (dk_at dksX1_loses_0 15 rfl rfl)
theorem dX1_loses_16 : decode cX1_loses 16 = .ok (.getfield 21, 3) := dk_180 0 21 (dk_at dksX1_loses_0 16 rfl rfl)
theorem dX1_loses_19 : decode cX1_loses 19 = .ok (.iload_n 1, 1) := dk_27 (dk_at dksX1_loses_0 19 rfl rfl)
theorem dX1_loses_20 : decode cX1_loses 20 = .ok (.aconst_null, 1) := dk_1 (dk_at dksX1_loses_0 20 rfl rfl)
theorem dX1_loses_21 : decode cX1_loses 21 = .ok (.aastore, 1) := dk_83 (dk_at dksX1_loses_0 21 rfl rfl)
theorem dX1_loses_22 : decode cX1_loses 22 = .ok (.aload_n 0, 1) := dk_42 (dk_at dksX1_loses_0 22 rfl rfl)
theorem dX1_loses_23 : decode cX1_loses 23 = .ok (.getfield 31, 3) := dk_180 0 31 (dk_at dksX1_loses_1 0 rfl rfl)
theorem dX1_loses_26 : decode cX1_loses 26 = .ok (.iconst 5, 1) := dk_8 (dk_at dksX1_loses_1 3 rfl rfl)
theorem dX1_loses_27 : decode cX1_loses 27 = .ok (.dup2, 1) := dk_92 (dk_at dksX1_loses_1 4 rfl rfl)
theorem dX1_loses_28 : decode cX1_loses 28 = .ok (.iaload, 1) := dk_46 (dk_at dksX1_loses_1 5 rfl rfl)
theorem dX1_loses_29 : decode cX1_loses 29 = .ok (.iconst 1, 1) := dk_4 (dk_at dksX1_loses_1 6 rfl rfl)
theorem dX1_loses_30 : decode cX1_loses 30 = .ok (.iadd, 1) := dk_96 (dk_at dksX1_loses_1 7 rfl rfl)
theorem dX1_loses_31 : decode cX1_loses 31 = .ok (.iastore, 1) := dk_79 (dk_at dksX1_loses_1 8 rfl rfl)
theorem dX1_loses_32 : decode cX1_loses 32 = .ok (.return_, 1) := dk_177 (dk_at dksX1_loses_1 9 rfl rfl)
abbrev cX1_many : ByteArray := prog_8_method_5_code
def yX1_many : MethodName := ⟨RX1, "many", "()I"⟩
def dkwX1_many_2 : List UInt8 := [27, 172]
abbrev dktX1_many_2 : List UInt8 := dkwX1_many_2 ++ []
def dkwX1_many_1 : List UInt8 := [58, 5, 27, 25, 5, 198, 0, 7, 4, 167, 0, 4, 3, 184, 0, 62, 96, 60, 132, 4, 1, 167, 255, 225]
abbrev dktX1_many_1 : List UInt8 := dkwX1_many_1 ++ dktX1_many_2
def dkwX1_many_0 : List UInt8 := [3, 60, 42, 180, 0, 21, 77, 44, 190, 62, 3, 54, 4, 21, 4, 29, 162, 0, 31, 44, 21, 4, 50]
abbrev dktX1_many_0 : List UInt8 := dkwX1_many_0 ++ dktX1_many_1
theorem dksX1_many_0 : cX1_many.data.toList.drop 0 = dktX1_many_0 := by decide +kernel
theorem dksX1_many_1 : cX1_many.data.toList.drop 23 = dktX1_many_1 := dk_seg dksX1_many_0 23 rfl rfl
theorem dksX1_many_2 : cX1_many.data.toList.drop 47 = dktX1_many_2 := dk_seg dksX1_many_1 24 rfl rfl
theorem dX1_many_0 : decode cX1_many 0 = .ok (.iconst 0, 1) := dk_3 (dk_at dksX1_many_0 0 rfl rfl)
theorem dX1_many_1 : decode cX1_many 1 = .ok (.istore_n 1, 1) := dk_60 (dk_at dksX1_many_0 1 rfl rfl)
theorem dX1_many_2 : decode cX1_many 2 = .ok (.aload_n 0, 1) := dk_42 (dk_at dksX1_many_0 2 rfl rfl)
theorem dX1_many_3 : decode cX1_many 3 = .ok (.getfield 21, 3) := dk_180 0 21 (dk_at dksX1_many_0 3 rfl rfl)
theorem dX1_many_6 : decode cX1_many 6 = .ok (.astore_n 2, 1) := dk_77 (dk_at dksX1_many_0 6 rfl rfl)
theorem dX1_many_7 : decode cX1_many 7 = .ok (.aload_n 2, 1) := dk_44 (dk_at dksX1_many_0 7 rfl rfl)
theorem dX1_many_8 : decode cX1_many 8 = .ok (.arraylength, 1) := dk_190 (dk_at dksX1_many_0 8 rfl rfl)
theorem dX1_many_9 : decode cX1_many 9 = .ok (.istore_n 3, 1) := dk_62 (dk_at dksX1_many_0 9 rfl rfl)
theorem dX1_many_10 : decode cX1_many 10 = .ok (.iconst 0, 1) := dk_3 (dk_at dksX1_many_0 10 rfl rfl)
theorem dX1_many_11 : decode cX1_many 11 = .ok (.istore 4, 2) := dk_54 4 (dk_at dksX1_many_0 11 rfl rfl)
theorem dX1_many_13 : decode cX1_many 13 = .ok (.iload 4, 2) := dk_21 4 (dk_at dksX1_many_0 13 rfl rfl)
theorem dX1_many_15 : decode cX1_many 15 = .ok (.iload_n 3, 1) := dk_29 (dk_at dksX1_many_0 15 rfl rfl)
theorem dX1_many_16 : decode cX1_many 16 = .ok (.if_icmp .ge 31, 3) := dk_162 0 31 (dk_at dksX1_many_0 16 rfl rfl)
theorem dX1_many_19 : decode cX1_many 19 = .ok (.aload_n 2, 1) := dk_44 (dk_at dksX1_many_0 19 rfl rfl)
theorem dX1_many_20 : decode cX1_many 20 = .ok (.iload 4, 2) := dk_21 4 (dk_at dksX1_many_0 20 rfl rfl)
theorem dX1_many_22 : decode cX1_many 22 = .ok (.aaload, 1) := dk_50 (dk_at dksX1_many_0 22 rfl rfl)
theorem dX1_many_23 : decode cX1_many 23 = .ok (.astore 5, 2) := dk_58 5 (dk_at dksX1_many_1 0 rfl rfl)
theorem dX1_many_25 : decode cX1_many 25 = .ok (.iload_n 1, 1) := dk_27 (dk_at dksX1_many_1 2 rfl rfl)
theorem dX1_many_26 : decode cX1_many 26 = .ok (.aload 5, 2) := dk_25 5 (dk_at dksX1_many_1 3 rfl rfl)
theorem dX1_many_28 : decode cX1_many 28 = .ok (.ifnull 7, 3) := dk_198 0 7 (dk_at dksX1_many_1 5 rfl rfl)
theorem dX1_many_31 : decode cX1_many 31 = .ok (.iconst 1, 1) := dk_4 (dk_at dksX1_many_1 8 rfl rfl)
theorem dX1_many_32 : decode cX1_many 32 = .ok (.goto 4, 3) := dk_167 0 4 (dk_at dksX1_many_1 9 rfl rfl)
theorem dX1_many_35 : decode cX1_many 35 = .ok (.iconst 0, 1) := dk_3 (dk_at dksX1_many_1 12 rfl rfl)
theorem dX1_many_36 : decode cX1_many 36 = .ok (.invokestatic 62, 3) := dk_184 0 62 (dk_at dksX1_many_1 13 rfl rfl)
theorem dX1_many_39 : decode cX1_many 39 = .ok (.iadd, 1) := dk_96 (dk_at dksX1_many_1 16 rfl rfl)
theorem dX1_many_40 : decode cX1_many 40 = .ok (.istore_n 1, 1) := dk_60 (dk_at dksX1_many_1 17 rfl rfl)
theorem dX1_many_41 : decode cX1_many 41 = .ok (.iinc 4 1, 3) := dk_132 4 1 (dk_at dksX1_many_1 18 rfl rfl)
theorem dX1_many_44 : decode cX1_many 44 = .ok (.goto (-31), 3) := dk_167 255 225 (dk_at dksX1_many_1 21 rfl rfl)
theorem dX1_many_47 : decode cX1_many 47 = .ok (.iload_n 1, 1) := dk_27 (dk_at dksX1_many_2 0 rfl rfl)
theorem dX1_many_48 : decode cX1_many 48 = .ok (.ireturn, 1) := dk_172 (dk_at dksX1_many_2 1 rfl rfl)
abbrev cX1_leads : ByteArray := prog_8_method_6_code
def yX1_leads : MethodName := ⟨RX1, "leads", "()I"⟩
def dkwX1_leads_1 : List UInt8 := [42, 180, 0, 21, 27, 50, 198, 0, 5, 27, 172, 132, 1, 1, 167, 255, 236, 16, 251, 172]
abbrev dktX1_leads_1 : List UInt8 := dkwX1_leads_1 ++ []
def dkwX1_leads_0 : List UInt8 := [42, 42, 180, 0, 34, 182, 0, 66, 153, 0, 8, 42, 180, 0, 34, 172, 3, 60, 27, 16, 10, 162, 0, 20]
abbrev dktX1_leads_0 : List UInt8 := dkwX1_leads_0 ++ dktX1_leads_1
theorem dksX1_leads_0 : cX1_leads.data.toList.drop 0 = dktX1_leads_0 := by decide +kernel
theorem dksX1_leads_1 : cX1_leads.data.toList.drop 24 = dktX1_leads_1 := dk_seg dksX1_leads_0 24 rfl rfl
theorem dX1_leads_0 : decode cX1_leads 0 = .ok (.aload_n 0, 1) := dk_42 (dk_at dksX1_leads_0 0 rfl rfl)
theorem dX1_leads_1 : decode cX1_leads 1 = .ok (.aload_n 0, 1) := dk_42 (dk_at dksX1_leads_0 1 rfl rfl)
theorem dX1_leads_2 : decode cX1_leads 2 = .ok (.getfield 34, 3) := dk_180 0 34 (dk_at dksX1_leads_0 2 rfl rfl)
theorem dX1_leads_5 : decode cX1_leads 5 = .ok (.invokevirtual 66, 3) := dk_182 0 66 (dk_at dksX1_leads_0 5 rfl rfl)
theorem dX1_leads_8 : decode cX1_leads 8 = .ok (.ifCond .eq 8, 3) := dk_153 0 8 (dk_at dksX1_leads_0 8 rfl rfl)
theorem dX1_leads_11 : decode cX1_leads 11 = .ok (.aload_n 0, 1) := dk_42 (dk_at dksX1_leads_0 11 rfl rfl)
theorem dX1_leads_12 : decode cX1_leads 12 = .ok (.getfield 34, 3) := dk_180 0 34 (dk_at dksX1_leads_0 12 rfl rfl)
theorem dX1_leads_15 : decode cX1_leads 15 = .ok (.ireturn, 1) := dk_172 (dk_at dksX1_leads_0 15 rfl rfl)
theorem dX1_leads_16 : decode cX1_leads 16 = .ok (.iconst 0, 1) := dk_3 (dk_at dksX1_leads_0 16 rfl rfl)
theorem dX1_leads_17 : decode cX1_leads 17 = .ok (.istore_n 1, 1) := dk_60 (dk_at dksX1_leads_0 17 rfl rfl)
theorem dX1_leads_18 : decode cX1_leads 18 = .ok (.iload_n 1, 1) := dk_27 (dk_at dksX1_leads_0 18 rfl rfl)
theorem dX1_leads_19 : decode cX1_leads 19 = .ok (.bipush 10, 2) := dk_16 10 (dk_at dksX1_leads_0 19 rfl rfl)
theorem dX1_leads_21 : decode cX1_leads 21 = .ok (.if_icmp .ge 20, 3) := dk_162 0 20 (dk_at dksX1_leads_0 21 rfl rfl)
theorem dX1_leads_24 : decode cX1_leads 24 = .ok (.aload_n 0, 1) := dk_42 (dk_at dksX1_leads_1 0 rfl rfl)
theorem dX1_leads_25 : decode cX1_leads 25 = .ok (.getfield 21, 3) := dk_180 0 21 (dk_at dksX1_leads_1 1 rfl rfl)
theorem dX1_leads_28 : decode cX1_leads 28 = .ok (.iload_n 1, 1) := dk_27 (dk_at dksX1_leads_1 4 rfl rfl)
theorem dX1_leads_29 : decode cX1_leads 29 = .ok (.aaload, 1) := dk_50 (dk_at dksX1_leads_1 5 rfl rfl)
theorem dX1_leads_30 : decode cX1_leads 30 = .ok (.ifnull 5, 3) := dk_198 0 5 (dk_at dksX1_leads_1 6 rfl rfl)
theorem dX1_leads_33 : decode cX1_leads 33 = .ok (.iload_n 1, 1) := dk_27 (dk_at dksX1_leads_1 9 rfl rfl)
theorem dX1_leads_34 : decode cX1_leads 34 = .ok (.ireturn, 1) := dk_172 (dk_at dksX1_leads_1 10 rfl rfl)
theorem dX1_leads_35 : decode cX1_leads 35 = .ok (.iinc 1 1, 3) := dk_132 1 1 (dk_at dksX1_leads_1 11 rfl rfl)
theorem dX1_leads_38 : decode cX1_leads 38 = .ok (.goto (-20), 3) := dk_167 255 236 (dk_at dksX1_leads_1 14 rfl rfl)
theorem dX1_leads_41 : decode cX1_leads 41 = .ok (.bipush (-5), 2) := dk_16 251 (dk_at dksX1_leads_1 17 rfl rfl)
theorem dX1_leads_43 : decode cX1_leads 43 = .ok (.ireturn, 1) := dk_172 (dk_at dksX1_leads_1 19 rfl rfl)
abbrev cX1_moves : ByteArray := prog_8_method_8_code
def yX1_moves : MethodName := ⟨RX1, "moves", "(LSwarmPlanner$Member;I)V"⟩
def dkwX1_moves_1 : List UInt8 := [181, 0, 70, 177]
abbrev dktX1_moves_1 : List UInt8 := dkwX1_moves_1 ++ []
def dkwX1_moves_0 : List UInt8 := [42, 180, 0, 15, 43, 180, 0, 70, 2, 79, 42, 180, 0, 15, 28, 43, 180, 0, 73, 79, 43, 28]
abbrev dktX1_moves_0 : List UInt8 := dkwX1_moves_0 ++ dktX1_moves_1
theorem dksX1_moves_0 : cX1_moves.data.toList.drop 0 = dktX1_moves_0 := by decide +kernel
theorem dksX1_moves_1 : cX1_moves.data.toList.drop 22 = dktX1_moves_1 := dk_seg dksX1_moves_0 22 rfl rfl
theorem dX1_moves_0 : decode cX1_moves 0 = .ok (.aload_n 0, 1) := dk_42 (dk_at dksX1_moves_0 0 rfl rfl)
theorem dX1_moves_1 : decode cX1_moves 1 = .ok (.getfield 15, 3) := dk_180 0 15 (dk_at dksX1_moves_0 1 rfl rfl)
theorem dX1_moves_4 : decode cX1_moves 4 = .ok (.aload_n 1, 1) := dk_43 (dk_at dksX1_moves_0 4 rfl rfl)
theorem dX1_moves_5 : decode cX1_moves 5 = .ok (.getfield 70, 3) := dk_180 0 70 (dk_at dksX1_moves_0 5 rfl rfl)
theorem dX1_moves_8 : decode cX1_moves 8 = .ok (.iconst (-1), 1) := dk_2 (dk_at dksX1_moves_0 8 rfl rfl)
theorem dX1_moves_9 : decode cX1_moves 9 = .ok (.iastore, 1) := dk_79 (dk_at dksX1_moves_0 9 rfl rfl)
theorem dX1_moves_10 : decode cX1_moves 10 = .ok (.aload_n 0, 1) := dk_42 (dk_at dksX1_moves_0 10 rfl rfl)
theorem dX1_moves_11 : decode cX1_moves 11 = .ok (.getfield 15, 3) := dk_180 0 15 (dk_at dksX1_moves_0 11 rfl rfl)
theorem dX1_moves_14 : decode cX1_moves 14 = .ok (.iload_n 2, 1) := dk_28 (dk_at dksX1_moves_0 14 rfl rfl)
theorem dX1_moves_15 : decode cX1_moves 15 = .ok (.aload_n 1, 1) := dk_43 (dk_at dksX1_moves_0 15 rfl rfl)
theorem dX1_moves_16 : decode cX1_moves 16 = .ok (.getfield 73, 3) := dk_180 0 73 (dk_at dksX1_moves_0 16 rfl rfl)
theorem dX1_moves_19 : decode cX1_moves 19 = .ok (.iastore, 1) := dk_79 (dk_at dksX1_moves_0 19 rfl rfl)
theorem dX1_moves_20 : decode cX1_moves 20 = .ok (.aload_n 1, 1) := dk_43 (dk_at dksX1_moves_0 20 rfl rfl)
theorem dX1_moves_21 : decode cX1_moves 21 = .ok (.iload_n 2, 1) := dk_28 (dk_at dksX1_moves_0 21 rfl rfl)
theorem dX1_moves_22 : decode cX1_moves 22 = .ok (.putfield 70, 3) := dk_181 0 70 (dk_at dksX1_moves_1 0 rfl rfl)
theorem dX1_moves_25 : decode cX1_moves 25 = .ok (.return_, 1) := dk_177 (dk_at dksX1_moves_1 3 rfl rfl)
abbrev cX1_isFree : ByteArray := prog_8_method_7_code
def yX1_isFree : MethodName := ⟨RX1, "isFree", "(I)Z"⟩
def dkwX1_isFree_0 : List UInt8 := [42, 180, 0, 9, 27, 51, 154, 0, 16, 42, 180, 0, 15, 27, 46, 156, 0, 7, 4, 167, 0, 4, 3, 172]
abbrev dktX1_isFree_0 : List UInt8 := dkwX1_isFree_0 ++ []
theorem dksX1_isFree_0 : cX1_isFree.data.toList.drop 0 = dktX1_isFree_0 := by decide +kernel
theorem dX1_isFree_0 : decode cX1_isFree 0 = .ok (.aload_n 0, 1) := dk_42 (dk_at dksX1_isFree_0 0 rfl rfl)
theorem dX1_isFree_1 : decode cX1_isFree 1 = .ok (.getfield 9, 3) := dk_180 0 9 (dk_at dksX1_isFree_0 1 rfl rfl)
theorem dX1_isFree_4 : decode cX1_isFree 4 = .ok (.iload_n 1, 1) := dk_27 (dk_at dksX1_isFree_0 4 rfl rfl)
theorem dX1_isFree_5 : decode cX1_isFree 5 = .ok (.baload, 1) := dk_51 (dk_at dksX1_isFree_0 5 rfl rfl)
theorem dX1_isFree_6 : decode cX1_isFree 6 = .ok (.ifCond .ne 16, 3) := dk_154 0 16 (dk_at dksX1_isFree_0 6 rfl rfl)
theorem dX1_isFree_9 : decode cX1_isFree 9 = .ok (.aload_n 0, 1) := dk_42 (dk_at dksX1_isFree_0 9 rfl rfl)
theorem dX1_isFree_10 : decode cX1_isFree 10 = .ok (.getfield 15, 3) := dk_180 0 15 (dk_at dksX1_isFree_0 10 rfl rfl)
theorem dX1_isFree_13 : decode cX1_isFree 13 = .ok (.iload_n 1, 1) := dk_27 (dk_at dksX1_isFree_0 13 rfl rfl)
theorem dX1_isFree_14 : decode cX1_isFree 14 = .ok (.iaload, 1) := dk_46 (dk_at dksX1_isFree_0 14 rfl rfl)
theorem dX1_isFree_15 : decode cX1_isFree 15 = .ok (.ifCond .ge 7, 3) := dk_156 0 7 (dk_at dksX1_isFree_0 15 rfl rfl)
theorem dX1_isFree_18 : decode cX1_isFree 18 = .ok (.iconst 1, 1) := dk_4 (dk_at dksX1_isFree_0 18 rfl rfl)
theorem dX1_isFree_19 : decode cX1_isFree 19 = .ok (.goto 4, 3) := dk_167 0 4 (dk_at dksX1_isFree_0 19 rfl rfl)
theorem dX1_isFree_22 : decode cX1_isFree 22 = .ok (.iconst 0, 1) := dk_3 (dk_at dksX1_isFree_0 22 rfl rfl)
theorem dX1_isFree_23 : decode cX1_isFree 23 = .ok (.ireturn, 1) := dk_172 (dk_at dksX1_isFree_0 23 rfl rfl)
abbrev cX1_exchanges : ByteArray := prog_8_method_9_code
def yX1_exchanges : MethodName := ⟨RX1, "exchanges", "(LSwarmPlanner$Member;LSwarmPlanner$Member;)V"⟩
def dkwX1_exchanges_1 : List UInt8 := [180, 0, 73, 79, 43, 44, 180, 0, 70, 181, 0, 70, 44, 29, 181, 0, 70, 177]
abbrev dktX1_exchanges_1 : List UInt8 := dkwX1_exchanges_1 ++ []
def dkwX1_exchanges_0 : List UInt8 := [43, 180, 0, 70, 62, 42, 180, 0, 15, 44, 180, 0, 70, 43, 180, 0, 73, 79, 42, 180, 0, 15, 29, 44]
abbrev dktX1_exchanges_0 : List UInt8 := dkwX1_exchanges_0 ++ dktX1_exchanges_1
theorem dksX1_exchanges_0 : cX1_exchanges.data.toList.drop 0 = dktX1_exchanges_0 := by decide +kernel
theorem dksX1_exchanges_1 : cX1_exchanges.data.toList.drop 24 = dktX1_exchanges_1 := dk_seg dksX1_exchanges_0 24 rfl rfl
theorem dX1_exchanges_0 : decode cX1_exchanges 0 = .ok (.aload_n 1, 1) := dk_43 (dk_at dksX1_exchanges_0 0 rfl rfl)
theorem dX1_exchanges_1 : decode cX1_exchanges 1 = .ok (.getfield 70, 3) := dk_180 0 70 (dk_at dksX1_exchanges_0 1 rfl rfl)
theorem dX1_exchanges_4 : decode cX1_exchanges 4 = .ok (.istore_n 3, 1) := dk_62 (dk_at dksX1_exchanges_0 4 rfl rfl)
theorem dX1_exchanges_5 : decode cX1_exchanges 5 = .ok (.aload_n 0, 1) := dk_42 (dk_at dksX1_exchanges_0 5 rfl rfl)
theorem dX1_exchanges_6 : decode cX1_exchanges 6 = .ok (.getfield 15, 3) := dk_180 0 15 (dk_at dksX1_exchanges_0 6 rfl rfl)
theorem dX1_exchanges_9 : decode cX1_exchanges 9 = .ok (.aload_n 2, 1) := dk_44 (dk_at dksX1_exchanges_0 9 rfl rfl)
theorem dX1_exchanges_10 : decode cX1_exchanges 10 = .ok (.getfield 70, 3) := dk_180 0 70 (dk_at dksX1_exchanges_0 10 rfl rfl)
theorem dX1_exchanges_13 : decode cX1_exchanges 13 = .ok (.aload_n 1, 1) := dk_43 (dk_at dksX1_exchanges_0 13 rfl rfl)
theorem dX1_exchanges_14 : decode cX1_exchanges 14 = .ok (.getfield 73, 3) := dk_180 0 73 (dk_at dksX1_exchanges_0 14 rfl rfl)
theorem dX1_exchanges_17 : decode cX1_exchanges 17 = .ok (.iastore, 1) := dk_79 (dk_at dksX1_exchanges_0 17 rfl rfl)
theorem dX1_exchanges_18 : decode cX1_exchanges 18 = .ok (.aload_n 0, 1) := dk_42 (dk_at dksX1_exchanges_0 18 rfl rfl)
theorem dX1_exchanges_19 : decode cX1_exchanges 19 = .ok (.getfield 15, 3) := dk_180 0 15 (dk_at dksX1_exchanges_0 19 rfl rfl)
theorem dX1_exchanges_22 : decode cX1_exchanges 22 = .ok (.iload_n 3, 1) := dk_29 (dk_at dksX1_exchanges_0 22 rfl rfl)
theorem dX1_exchanges_23 : decode cX1_exchanges 23 = .ok (.aload_n 2, 1) := dk_44 (dk_at dksX1_exchanges_0 23 rfl rfl)
theorem dX1_exchanges_24 : decode cX1_exchanges 24 = .ok (.getfield 73, 3) := dk_180 0 73 (dk_at dksX1_exchanges_1 0 rfl rfl)
theorem dX1_exchanges_27 : decode cX1_exchanges 27 = .ok (.iastore, 1) := dk_79 (dk_at dksX1_exchanges_1 3 rfl rfl)
theorem dX1_exchanges_28 : decode cX1_exchanges 28 = .ok (.aload_n 1, 1) := dk_43 (dk_at dksX1_exchanges_1 4 rfl rfl)
theorem dX1_exchanges_29 : decode cX1_exchanges 29 = .ok (.aload_n 2, 1) := dk_44 (dk_at dksX1_exchanges_1 5 rfl rfl)
theorem dX1_exchanges_30 : decode cX1_exchanges 30 = .ok (.getfield 70, 3) := dk_180 0 70 (dk_at dksX1_exchanges_1 6 rfl rfl)
theorem dX1_exchanges_33 : decode cX1_exchanges 33 = .ok (.putfield 70, 3) := dk_181 0 70 (dk_at dksX1_exchanges_1 9 rfl rfl)
theorem dX1_exchanges_36 : decode cX1_exchanges 36 = .ok (.aload_n 2, 1) := dk_44 (dk_at dksX1_exchanges_1 12 rfl rfl)
theorem dX1_exchanges_37 : decode cX1_exchanges 37 = .ok (.iload_n 3, 1) := dk_29 (dk_at dksX1_exchanges_1 13 rfl rfl)
theorem dX1_exchanges_38 : decode cX1_exchanges 38 = .ok (.putfield 70, 3) := dk_181 0 70 (dk_at dksX1_exchanges_1 14 rfl rfl)
theorem dX1_exchanges_41 : decode cX1_exchanges 41 = .ok (.return_, 1) := dk_177 (dk_at dksX1_exchanges_1 17 rfl rfl)
theorem q105 : (Jvm.Cond.initialized "SwarmPlanner$World") ∈ lw_all := lw_g (lw_at lw_m1 2 rfl) rfl
theorem q136 : (Jvm.Cond.instantiable "SwarmPlanner$World" (8 : Nat)) ∈ lw_all := lw_g (lw_at lw_m1 33 rfl) rfl
theorem q138 : (Jvm.Cond.instanceMethod ({ cls := "SwarmPlanner$World", name := "<init>", desc := "()V" } : Jvm.MethodName)) ∈ lw_all := lw_g (lw_at lw_m1 35 rfl) rfl
theorem q139 : (Jvm.Cond.code ({ cls := "SwarmPlanner$World", name := "<init>", desc := "()V" } : Jvm.MethodName) prog_8_method_1_code (2 : Nat) (Option.none : Option Jvm.ClassFile.FieldType)) ∈ lw_all := lw_g (lw_at lw_m1 36 rfl) rfl
theorem q140 : (Jvm.Cond.methodLink "SwarmPlanner$World" (3 : Nat) ({ cls := "java/lang/Object", name := "<init>", desc := "()V" } : Jvm.MethodName)) ∈ lw_all := lw_g (lw_at lw_m1 37 rfl) rfl
theorem q141 : (Jvm.Cond.classLink "SwarmPlanner$World" (19 : Nat) "SwarmPlanner$Member") ∈ lw_all := lw_g (lw_at lw_m1 38 rfl) rfl
theorem q143 : (Jvm.Cond.classLink "SwarmPlanner$World" (25 : Nat) "SwarmPlanner$Shape") ∈ lw_all := lw_g (lw_at lw_m1 40 rfl) rfl
theorem q145 : (Jvm.Cond.fieldLink "SwarmPlanner$World" (9 : Nat) "SwarmPlanner$World" "isObstacle" "[Z") ∈ lw_all := lw_g (lw_at lw_m1 42 rfl) rfl
theorem q147 : (Jvm.Cond.fieldLink "SwarmPlanner$World" (15 : Nat) "SwarmPlanner$World" "memberAt" "[I") ∈ lw_all := lw_g (lw_at lw_m1 44 rfl) rfl
theorem q150 : (Jvm.Cond.fieldLink "SwarmPlanner$World" (21 : Nat) "SwarmPlanner$World" "members" "[LSwarmPlanner$Member;") ∈ lw_all := lw_g (lw_at lw_m1 47 rfl) rfl
theorem q152 : (Jvm.Cond.fieldLink "SwarmPlanner$World" (27 : Nat) "SwarmPlanner$World" "shapes" "[LSwarmPlanner$Shape;") ∈ lw_all := lw_g (lw_at lw_m1 49 rfl) rfl
theorem q154 : (Jvm.Cond.fieldLink "SwarmPlanner$World" (31 : Nat) "SwarmPlanner$World" "accounts" "[I") ∈ lw_all := lw_g (lw_at lw_m1 51 rfl) rfl
theorem q156 : (Jvm.Cond.fieldLink "SwarmPlanner$World" (34 : Nat) "SwarmPlanner$World" "leader" "I") ∈ lw_all := lw_g (lw_at lw_m1 53 rfl) rfl
theorem q159 : (Jvm.Cond.fieldLink "SwarmPlanner$World" (38 : Nat) "SwarmPlanner$World" "target" "I") ∈ lw_all := lw_g (lw_at lw_m1 56 rfl) rfl
theorem q162 : (Jvm.Cond.fieldLink "SwarmPlanner$World" (55 : Nat) "SwarmPlanner$World" "shape" "I") ∈ lw_all := lw_g (lw_at lw_m1 59 rfl) rfl
theorem q164 : (Jvm.Cond.laysFinal "SwarmPlanner$World" "SwarmPlanner$World" "isObstacle" "[Z") ∈ lw_all := lw_g (lw_at lw_m1 61 rfl) rfl
theorem q165 : (Jvm.Cond.soleField "SwarmPlanner$World" "isObstacle") ∈ lw_all := lw_g (lw_at lw_m1 62 rfl) rfl
theorem q166 : (Jvm.Cond.laysFinal "SwarmPlanner$World" "SwarmPlanner$World" "memberAt" "[I") ∈ lw_all := lw_g (lw_at lw_m1 63 rfl) rfl
theorem q167 : (Jvm.Cond.soleField "SwarmPlanner$World" "memberAt") ∈ lw_all := lw_g (lw_at lw_m1 64 rfl) rfl
theorem q168 : (Jvm.Cond.laysFinal "SwarmPlanner$World" "SwarmPlanner$World" "members" "[LSwarmPlanner$Member;") ∈ lw_all := lw_g (lw_at lw_m1 65 rfl) rfl
theorem q169 : (Jvm.Cond.soleField "SwarmPlanner$World" "members") ∈ lw_all := lw_g (lw_at lw_m1 66 rfl) rfl
theorem q170 : (Jvm.Cond.laysFinal "SwarmPlanner$World" "SwarmPlanner$World" "shapes" "[LSwarmPlanner$Shape;") ∈ lw_all := lw_g (lw_at lw_m1 67 rfl) rfl
theorem q171 : (Jvm.Cond.soleField "SwarmPlanner$World" "shapes") ∈ lw_all := lw_g (lw_at lw_m1 68 rfl) rfl
theorem q172 : (Jvm.Cond.laysFinal "SwarmPlanner$World" "SwarmPlanner$World" "accounts" "[I") ∈ lw_all := lw_g (lw_at lw_m1 69 rfl) rfl
theorem q173 : (Jvm.Cond.soleField "SwarmPlanner$World" "accounts") ∈ lw_all := lw_g (lw_at lw_m1 70 rfl) rfl
theorem q174 : (Jvm.Cond.lays "SwarmPlanner$World" "SwarmPlanner$World" "leader" "I") ∈ lw_all := lw_g (lw_at lw_m1 71 rfl) rfl
theorem q175 : (Jvm.Cond.soleField "SwarmPlanner$World" "leader") ∈ lw_all := lw_g (lw_at lw_m1 72 rfl) rfl
theorem q176 : (Jvm.Cond.lays "SwarmPlanner$World" "SwarmPlanner$World" "target" "I") ∈ lw_all := lw_g (lw_at lw_m1 73 rfl) rfl
theorem q177 : (Jvm.Cond.soleField "SwarmPlanner$World" "target") ∈ lw_all := lw_g (lw_at lw_m1 74 rfl) rfl
theorem q178 : (Jvm.Cond.lays "SwarmPlanner$World" "SwarmPlanner$World" "shape" "I") ∈ lw_all := lw_g (lw_at lw_m1 75 rfl) rfl
theorem q179 : (Jvm.Cond.soleField "SwarmPlanner$World" "shape") ∈ lw_all := lw_g (lw_at lw_m1 76 rfl) rfl
theorem q180 : (Jvm.Cond.superclass "SwarmPlanner$World" "java/lang/Object") ∈ lw_all := lw_g (lw_at lw_m1 77 rfl) rfl
theorem q313 : (Jvm.Cond.instanceMethod ({ cls := "SwarmPlanner$World", name := "<init>", desc := "(LSwarmPlanner$World;)V" } : Jvm.MethodName)) ∈ lw_all := lw_g (lw_at lw_m1 210 rfl) rfl
theorem q314 : (Jvm.Cond.code ({ cls := "SwarmPlanner$World", name := "<init>", desc := "(LSwarmPlanner$World;)V" } : Jvm.MethodName) prog_8_method_2_code (2 : Nat) (Option.none : Option Jvm.ClassFile.FieldType)) ∈ lw_all := lw_g (lw_at lw_m1 211 rfl) rfl
theorem q315 : (Jvm.Cond.methodLink "SwarmPlanner$World" (41 : Nat) ({ cls := "SwarmPlanner$World", name := "<init>", desc := "()V" } : Jvm.MethodName)) ∈ lw_all := lw_g (lw_at lw_m1 212 rfl) rfl
theorem q316 : (Jvm.Cond.methodLink "SwarmPlanner$World" (42 : Nat) ({ cls := "SwarmPlanner$World", name := "becomes", desc := "(LSwarmPlanner$World;)V" } : Jvm.MethodName)) ∈ lw_all := lw_g (lw_at lw_m1 213 rfl) rfl
theorem q317 : (Jvm.Cond.instanceMethod ({ cls := "SwarmPlanner$World", name := "becomes", desc := "(LSwarmPlanner$World;)V" } : Jvm.MethodName)) ∈ lw_all := lw_g (lw_at lw_m1 214 rfl) rfl
theorem q318 : (Jvm.Cond.selects "SwarmPlanner$World" ({ cls := "SwarmPlanner$World", name := "becomes", desc := "(LSwarmPlanner$World;)V" } : Jvm.MethodName) ({ cls := "SwarmPlanner$World", name := "becomes", desc := "(LSwarmPlanner$World;)V" } : Jvm.MethodName)) ∈ lw_all := lw_g (lw_at lw_m1 215 rfl) rfl
theorem q319 : (Jvm.Cond.code ({ cls := "SwarmPlanner$World", name := "becomes", desc := "(LSwarmPlanner$World;)V" } : Jvm.MethodName) prog_8_method_3_code (3 : Nat) (Option.none : Option Jvm.ClassFile.FieldType)) ∈ lw_all := lw_g (lw_at lw_m1 216 rfl) rfl
theorem q320 : (Jvm.Cond.methodLink "SwarmPlanner$World" (46 : Nat) ({ cls := "java/lang/System", name := "arraycopy", desc := "(Ljava/lang/Object;ILjava/lang/Object;II)V" } : Jvm.MethodName)) ∈ lw_all := lw_g (lw_at lw_m1 217 rfl) rfl
theorem q324 : (Jvm.Cond.methodLink "SwarmPlanner$World" (52 : Nat) ({ cls := "SwarmPlanner$Member", name := "<init>", desc := "(LSwarmPlanner$Member;)V" } : Jvm.MethodName)) ∈ lw_all := lw_g (lw_at lw_m1 221 rfl) rfl
theorem q334 : (Jvm.Cond.fieldLinkNest "SwarmPlanner$World" (73 : Nat) "SwarmPlanner$Member" "number" "I" "SwarmPlanner") ∈ lw_tbl := lw_at lw_m1 231 rfl
theorem q338 : (Jvm.Cond.fieldLinkNest "SwarmPlanner$World" (70 : Nat) "SwarmPlanner$Member" "cell" "I" "SwarmPlanner") ∈ lw_tbl := lw_at lw_m1 235 rfl
theorem q404 : (Jvm.Cond.selects "SwarmPlanner$World" ({ cls := "java/lang/Object", name := "getClass", desc := "()Ljava/lang/Class;" } : Jvm.MethodName) ({ cls := "java/lang/Object", name := "getClass", desc := "()Ljava/lang/Class;" } : Jvm.MethodName)) ∈ lw_all := lw_g (lw_at lw_m2 61 rfl) rfl
theorem q452 : (Jvm.Cond.instanceMethod ({ cls := "SwarmPlanner$World", name := "isMember", desc := "(I)Z" } : Jvm.MethodName)) ∈ lw_all := lw_g (lw_at lw_m2 109 rfl) rfl
theorem q453 : (Jvm.Cond.selects "SwarmPlanner$World" ({ cls := "SwarmPlanner$World", name := "isMember", desc := "(I)Z" } : Jvm.MethodName) ({ cls := "SwarmPlanner$World", name := "isMember", desc := "(I)Z" } : Jvm.MethodName)) ∈ lw_all := lw_g (lw_at lw_m2 110 rfl) rfl
theorem q454 : (Jvm.Cond.code ({ cls := "SwarmPlanner$World", name := "isMember", desc := "(I)Z" } : Jvm.MethodName) prog_8_method_4_code (2 : Nat) (Option.some Jvm.ClassFile.FieldType.boolean)) ∈ lw_all := lw_g (lw_at lw_m2 111 rfl) rfl
theorem q455 : (Jvm.Cond.methodLinkNest "SwarmPlanner$World" (58 : Nat) ({ cls := "SwarmPlanner", name := "in", desc := "(III)Z" } : Jvm.MethodName) "SwarmPlanner") ∈ lw_tbl := lw_at lw_m2 112 rfl
theorem q457 : (Jvm.Cond.instanceMethod ({ cls := "SwarmPlanner$World", name := "loses", desc := "(I)V" } : Jvm.MethodName)) ∈ lw_all := lw_g (lw_at lw_m2 114 rfl) rfl
theorem q458 : (Jvm.Cond.selects "SwarmPlanner$World" ({ cls := "SwarmPlanner$World", name := "loses", desc := "(I)V" } : Jvm.MethodName) ({ cls := "SwarmPlanner$World", name := "loses", desc := "(I)V" } : Jvm.MethodName)) ∈ lw_all := lw_g (lw_at lw_m2 115 rfl) rfl
theorem q459 : (Jvm.Cond.code ({ cls := "SwarmPlanner$World", name := "loses", desc := "(I)V" } : Jvm.MethodName) prog_8_method_10_code (2 : Nat) (Option.none : Option Jvm.ClassFile.FieldType)) ∈ lw_all := lw_g (lw_at lw_m2 116 rfl) rfl
theorem q461 : (Jvm.Cond.instanceMethod ({ cls := "SwarmPlanner$World", name := "many", desc := "()I" } : Jvm.MethodName)) ∈ lw_all := lw_g (lw_at lw_m2 118 rfl) rfl
theorem q462 : (Jvm.Cond.selects "SwarmPlanner$World" ({ cls := "SwarmPlanner$World", name := "many", desc := "()I" } : Jvm.MethodName) ({ cls := "SwarmPlanner$World", name := "many", desc := "()I" } : Jvm.MethodName)) ∈ lw_all := lw_g (lw_at lw_m2 119 rfl) rfl
theorem q463 : (Jvm.Cond.code ({ cls := "SwarmPlanner$World", name := "many", desc := "()I" } : Jvm.MethodName) prog_8_method_5_code (6 : Nat) (Option.some Jvm.ClassFile.FieldType.int)) ∈ lw_all := lw_g (lw_at lw_m2 120 rfl) rfl
theorem q464 : (Jvm.Cond.methodLinkNest "SwarmPlanner$World" (62 : Nat) ({ cls := "SwarmPlanner", name := "bit", desc := "(Z)I" } : Jvm.MethodName) "SwarmPlanner") ∈ lw_tbl := lw_at lw_m2 121 rfl
theorem q472 : (Jvm.Cond.instanceMethod ({ cls := "SwarmPlanner$World", name := "leads", desc := "()I" } : Jvm.MethodName)) ∈ lw_all := lw_g (lw_at lw_m2 129 rfl) rfl
theorem q473 : (Jvm.Cond.selects "SwarmPlanner$World" ({ cls := "SwarmPlanner$World", name := "leads", desc := "()I" } : Jvm.MethodName) ({ cls := "SwarmPlanner$World", name := "leads", desc := "()I" } : Jvm.MethodName)) ∈ lw_all := lw_g (lw_at lw_m2 130 rfl) rfl
theorem q474 : (Jvm.Cond.code ({ cls := "SwarmPlanner$World", name := "leads", desc := "()I" } : Jvm.MethodName) prog_8_method_6_code (2 : Nat) (Option.some Jvm.ClassFile.FieldType.int)) ∈ lw_all := lw_g (lw_at lw_m2 131 rfl) rfl
theorem q475 : (Jvm.Cond.methodLink "SwarmPlanner$World" (66 : Nat) ({ cls := "SwarmPlanner$World", name := "isMember", desc := "(I)Z" } : Jvm.MethodName)) ∈ lw_all := lw_g (lw_at lw_m2 132 rfl) rfl
theorem q685 : (Jvm.Cond.instanceMethod ({ cls := "SwarmPlanner$World", name := "moves", desc := "(LSwarmPlanner$Member;I)V" } : Jvm.MethodName)) ∈ lw_all := lw_g (lw_at lw_m3 102 rfl) rfl
theorem q686 : (Jvm.Cond.selects "SwarmPlanner$World" ({ cls := "SwarmPlanner$World", name := "moves", desc := "(LSwarmPlanner$Member;I)V" } : Jvm.MethodName) ({ cls := "SwarmPlanner$World", name := "moves", desc := "(LSwarmPlanner$Member;I)V" } : Jvm.MethodName)) ∈ lw_all := lw_g (lw_at lw_m3 103 rfl) rfl
theorem q687 : (Jvm.Cond.code ({ cls := "SwarmPlanner$World", name := "moves", desc := "(LSwarmPlanner$Member;I)V" } : Jvm.MethodName) prog_8_method_8_code (3 : Nat) (Option.none : Option Jvm.ClassFile.FieldType)) ∈ lw_all := lw_g (lw_at lw_m3 104 rfl) rfl
theorem q875 : (Jvm.Cond.instanceMethod ({ cls := "SwarmPlanner$World", name := "isFree", desc := "(I)Z" } : Jvm.MethodName)) ∈ lw_all := lw_g (lw_at lw_m4 52 rfl) rfl
theorem q876 : (Jvm.Cond.selects "SwarmPlanner$World" ({ cls := "SwarmPlanner$World", name := "isFree", desc := "(I)Z" } : Jvm.MethodName) ({ cls := "SwarmPlanner$World", name := "isFree", desc := "(I)Z" } : Jvm.MethodName)) ∈ lw_all := lw_g (lw_at lw_m4 53 rfl) rfl
theorem q877 : (Jvm.Cond.code ({ cls := "SwarmPlanner$World", name := "isFree", desc := "(I)Z" } : Jvm.MethodName) prog_8_method_7_code (2 : Nat) (Option.some Jvm.ClassFile.FieldType.boolean)) ∈ lw_all := lw_g (lw_at lw_m4 54 rfl) rfl
theorem q895 : (Jvm.Cond.instanceMethod ({ cls := "SwarmPlanner$World", name := "exchanges", desc := "(LSwarmPlanner$Member;LSwarmPlanner$Member;)V" } : Jvm.MethodName)) ∈ lw_all := lw_g (lw_at lw_m4 72 rfl) rfl
theorem q896 : (Jvm.Cond.selects "SwarmPlanner$World" ({ cls := "SwarmPlanner$World", name := "exchanges", desc := "(LSwarmPlanner$Member;LSwarmPlanner$Member;)V" } : Jvm.MethodName) ({ cls := "SwarmPlanner$World", name := "exchanges", desc := "(LSwarmPlanner$Member;LSwarmPlanner$Member;)V" } : Jvm.MethodName)) ∈ lw_all := lw_g (lw_at lw_m4 73 rfl) rfl
theorem q897 : (Jvm.Cond.code ({ cls := "SwarmPlanner$World", name := "exchanges", desc := "(LSwarmPlanner$Member;LSwarmPlanner$Member;)V" } : Jvm.MethodName) prog_8_method_9_code (4 : Nat) (Option.none : Option Jvm.ClassFile.FieldType)) ∈ lw_all := lw_g (lw_at lw_m4 74 rfl) rfl
theorem q1486 : (Jvm.Cond.castable "SwarmPlanner$World" "java/lang/Object") ∈ lw_tbl := lw_at lw_m6 183 rfl
theorem in_X1 : ∀ w ∈ wsX10, w ∈ lw_all := lw_in wsX10 [164, 166, 168, 170, 172, 174, 176, 178] (by decide +kernel) (by decide +kernel)
