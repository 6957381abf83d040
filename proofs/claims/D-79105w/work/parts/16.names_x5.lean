/-! SwarmPlanner$Reader -/
set_option maxRecDepth 100000
def RX5 : String := "SwarmPlanner$Reader"
def TX5 : u_T := fun k => match k with
  | 0 => ("SwarmPlanner$Reader", "columns", "[I", true)
  | 1 => ("SwarmPlanner$Reader", "rows", "[I", true)
  | 2 => ("SwarmPlanner$Reader", "many", "I", false)
  | 3 => ("SwarmPlanner$Reader", "anchor", "I", false)
  | 4 => ("SwarmPlanner$Reader", "at", "I", false)
  | _ => ("SwarmPlanner$Reader", "this$0", "LSwarmPlanner;", true)
def tyX5 : Nat → FieldType := fun k => match k with
  | 0 => .array .int
  | 1 => .array .int
  | 2 => .int
  | 3 => .int
  | 4 => .int
  | _ => .object "SwarmPlanner"
abbrev wsX50 : List Cond := u_ws RX5 TX5 6
theorem nmX5 : ∀ a, a < 6 → ∀ b, b < 6 → a ≠ b → (TX5 a).2.1 ≠ (TX5 b).2.1 := by decide +kernel
theorem tyX5_ok : ∀ k, k < 6 → parseFieldDescriptor (TX5 k).2.2.1 = some (tyX5 k) := by decide +kernel
abbrev cX5_init : ByteArray := prog_6_method_1_code
def yX5_init : MethodName := ⟨RX5, "<init>", "(LSwarmPlanner;)V"⟩
def dkwX5_init_1 : List UInt8 := [181, 0, 19, 42, 2, 181, 0, 22, 177]
abbrev dktX5_init_1 : List UInt8 := dkwX5_init_1 ++ []
def dkwX5_init_0 : List UInt8 := [42, 43, 181, 0, 3, 42, 183, 0, 9, 42, 16, 10, 188, 10, 181, 0, 15, 42, 16, 10, 188, 10]
abbrev dktX5_init_0 : List UInt8 := dkwX5_init_0 ++ dktX5_init_1
theorem dksX5_init_0 : cX5_init.data.toList.drop 0 = dktX5_init_0 := by decide +kernel
theorem dksX5_init_1 : cX5_init.data.toList.drop 22 = dktX5_init_1 := dk_seg dksX5_init_0 22 rfl rfl
theorem dX5_init_0 : decode cX5_init 0 = .ok (.aload_n 0, 1) := dk_42 (dk_at dksX5_init_0 0 rfl rfl)
theorem dX5_init_1 : decode cX5_init 1 = .ok (.aload_n 1, 1) := dk_43 (dk_at dksX5_init_0 1 rfl rfl)
theorem dX5_init_2 : decode cX5_init 2 = .ok (.putfield 3, 3) := dk_181 0 3 (dk_at dksX5_init_0 2 rfl rfl)
theorem dX5_init_5 : decode cX5_init 5 = .ok (.aload_n 0, 1) := dk_42 (dk_at dksX5_init_0 5 rfl rfl)
theorem dX5_init_6 : decode cX5_init 6 = .ok (.invokespecial 9, 3) := dk_183 0 9 (dk_at dksX5_init_0 6 rfl rfl)
theorem dX5_init_9 : decode cX5_init 9 = .ok (.aload_n 0, 1) := dk_42 (dk_at dksX5_init_0 9 rfl rfl)
theorem dX5_init_10 : decode cX5_init 10 = .ok (.bipush 10, 2) := dk_16 10 (dk_at dksX5_init_0 10 rfl rfl)
theorem dX5_init_12 : decode cX5_init 12 = .ok (.newarray .int, 2) := dk_188_10 (dk_at dksX5_init_0 12 rfl rfl)
theorem dX5_init_14 : decode cX5_init 14 = .ok (.putfield 15, 3) := dk_181 0 15 (dk_at dksX5_init_0 14 rfl rfl)
theorem dX5_init_17 : decode cX5_init 17 = .ok (.aload_n 0, 1) := dk_42 (dk_at dksX5_init_0 17 rfl rfl)
theorem dX5_init_18 : decode cX5_init 18 = .ok (.bipush 10, 2) := dk_16 10 (dk_at dksX5_init_0 18 rfl rfl)
theorem dX5_init_20 : decode cX5_init 20 = .ok (.newarray .int, 2) := dk_188_10 (dk_at dksX5_init_0 20 rfl rfl)
theorem dX5_init_22 : decode cX5_init 22 = .ok (.putfield 19, 3) := dk_181 0 19 (dk_at dksX5_init_1 0 rfl rfl)
theorem dX5_init_25 : decode cX5_init 25 = .ok (.aload_n 0, 1) := dk_42 (dk_at dksX5_init_1 3 rfl rfl)
theorem dX5_init_26 : decode cX5_init 26 = .ok (.iconst (-1), 1) := dk_2 (dk_at dksX5_init_1 4 rfl rfl)
theorem dX5_init_27 : decode cX5_init 27 = .ok (.putfield 22, 3) := dk_181 0 22 (dk_at dksX5_init_1 5 rfl rfl)
theorem dX5_init_30 : decode cX5_init 30 = .ok (.return_, 1) := dk_177 (dk_at dksX5_init_1 8 rfl rfl)
abbrev cX5_shape : ByteArray := prog_6_method_6_code
def yX5_shape : MethodName := ⟨RX5, "shape", "()LSwarmPlanner$Shape;"⟩
def dkwX5_shape_4 : List UInt8 := [180, 0, 15, 42, 180, 0, 19, 42, 180, 0, 22, 183, 0, 61, 176]
abbrev dktX5_shape_4 : List UInt8 := dkwX5_shape_4 ++ []
def dkwX5_shape_3 : List UInt8 := [180, 0, 22, 155, 0, 7, 4, 167, 0, 4, 3, 182, 0, 49, 187, 0, 59, 89, 42, 180, 0, 53, 42]
abbrev dktX5_shape_3 : List UInt8 := dkwX5_shape_3 ++ dktX5_shape_4
def dkwX5_shape_2 : List UInt8 := [132, 1, 1, 167, 255, 214, 42, 42, 180, 0, 26, 42, 180, 0, 3, 180, 0, 29, 160, 0, 14, 42]
abbrev dktX5_shape_2 : List UInt8 := dkwX5_shape_2 ++ dktX5_shape_3
def dkwX5_shape_1 : List UInt8 := [167, 0, 4, 3, 182, 0, 49, 42, 89, 180, 0, 26, 4, 96, 181, 0, 26, 42, 27, 182, 0, 56]
abbrev dktX5_shape_1 : List UInt8 := dkwX5_shape_1 ++ dktX5_shape_2
def dkwX5_shape_0 : List UInt8 := [42, 3, 182, 0, 56, 4, 60, 42, 182, 0, 41, 16, 47, 160, 0, 39, 42, 27, 16, 6, 162, 0, 7, 4]
abbrev dktX5_shape_0 : List UInt8 := dkwX5_shape_0 ++ dktX5_shape_1
theorem dksX5_shape_0 : cX5_shape.data.toList.drop 0 = dktX5_shape_0 := by decide +kernel
theorem dksX5_shape_1 : cX5_shape.data.toList.drop 24 = dktX5_shape_1 := dk_seg dksX5_shape_0 24 rfl rfl
theorem dksX5_shape_2 : cX5_shape.data.toList.drop 46 = dktX5_shape_2 := dk_seg dksX5_shape_1 22 rfl rfl
theorem dksX5_shape_3 : cX5_shape.data.toList.drop 68 = dktX5_shape_3 := dk_seg dksX5_shape_2 22 rfl rfl
theorem dksX5_shape_4 : cX5_shape.data.toList.drop 91 = dktX5_shape_4 := dk_seg dksX5_shape_3 23 rfl rfl
theorem dX5_shape_0 : decode cX5_shape 0 = .ok (.aload_n 0, 1) := dk_42 (dk_at dksX5_shape_0 0 rfl rfl)
theorem dX5_shape_1 : decode cX5_shape 1 = .ok (.iconst 0, 1) := dk_3 (dk_at dksX5_shape_0 1 rfl rfl)
theorem dX5_shape_2 : decode cX5_shape 2 = .ok (.invokevirtual 56, 3) := dk_182 0 56 (dk_at dksX5_shape_0 2 rfl rfl)
theorem dX5_shape_5 : decode cX5_shape 5 = .ok (.iconst 1, 1) := dk_4 (dk_at dksX5_shape_0 5 rfl rfl)
theorem dX5_shape_6 : decode cX5_shape 6 = .ok (.istore_n 1, 1) := dk_60 (dk_at dksX5_shape_0 6 rfl rfl)
theorem dX5_shape_7 : decode cX5_shape 7 = .ok (.aload_n 0, 1) := dk_42 (dk_at dksX5_shape_0 7 rfl rfl)
theorem dX5_shape_8 : decode cX5_shape 8 = .ok (.invokevirtual 41, 3) := dk_182 0 41 (dk_at dksX5_shape_0 8 rfl rfl)
theorem dX5_shape_11 : decode cX5_shape 11 = .ok (.bipush 47, 2) := dk_16 47 (dk_at dksX5_shape_0 11 rfl rfl)
theorem dX5_shape_13 : decode cX5_shape 13 = .ok (.if_icmp .ne 39, 3) := dk_160 0 39 (dk_at dksX5_shape_0 13 rfl rfl)
theorem dX5_shape_16 : decode cX5_shape 16 = .ok (.aload_n 0, 1) := dk_42 (dk_at dksX5_shape_0 16 rfl rfl)
theorem dX5_shape_17 : decode cX5_shape 17 = .ok (.iload_n 1, 1) := dk_27 (dk_at dksX5_shape_0 17 rfl rfl)
theorem dX5_shape_18 : decode cX5_shape 18 = .ok (.bipush 6, 2) := dk_16 6 (dk_at dksX5_shape_0 18 rfl rfl)
theorem dX5_shape_20 : decode cX5_shape 20 = .ok (.if_icmp .ge 7, 3) := dk_162 0 7 (dk_at dksX5_shape_0 20 rfl rfl)
theorem dX5_shape_23 : decode cX5_shape 23 = .ok (.iconst 1, 1) := dk_4 (dk_at dksX5_shape_0 23 rfl rfl)
theorem dX5_shape_24 : decode cX5_shape 24 = .ok (.goto 4, 3) := dk_167 0 4 (dk_at dksX5_shape_1 0 rfl rfl)
theorem dX5_shape_27 : decode cX5_shape 27 = .ok (.iconst 0, 1) := dk_3 (dk_at dksX5_shape_1 3 rfl rfl)
theorem dX5_shape_28 : decode cX5_shape 28 = .ok (.invokevirtual 49, 3) := dk_182 0 49 (dk_at dksX5_shape_1 4 rfl rfl)
theorem dX5_shape_31 : decode cX5_shape 31 = .ok (.aload_n 0, 1) := dk_42 (dk_at dksX5_shape_1 7 rfl rfl)
theorem dX5_shape_32 : decode cX5_shape 32 = .ok (.dup, 1) := dk_89 (dk_at dksX5_shape_1 8 rfl rfl)
theorem dX5_shape_33 : decode cX5_shape 33 = .ok (.getfield 26, 3) := dk_180 0 26 (dk_at dksX5_shape_1 9 rfl rfl)
theorem dX5_shape_36 : decode cX5_shape 36 = .ok (.iconst 1, 1) := dk_4 (dk_at dksX5_shape_1 12 rfl rfl)
theorem dX5_shape_37 : decode cX5_shape 37 = .ok (.iadd, 1) := dk_96 (dk_at dksX5_shape_1 13 rfl rfl)
theorem dX5_shape_38 : decode cX5_shape 38 = .ok (.putfield 26, 3) := dk_181 0 26 (dk_at dksX5_shape_1 14 rfl rfl)
theorem dX5_shape_41 : decode cX5_shape 41 = .ok (.aload_n 0, 1) := dk_42 (dk_at dksX5_shape_1 17 rfl rfl)
theorem dX5_shape_42 : decode cX5_shape 42 = .ok (.iload_n 1, 1) := dk_27 (dk_at dksX5_shape_1 18 rfl rfl)
theorem dX5_shape_43 : decode cX5_shape 43 = .ok (.invokevirtual 56, 3) := dk_182 0 56 (dk_at dksX5_shape_1 19 rfl rfl)
theorem dX5_shape_46 : decode cX5_shape 46 = .ok (.iinc 1 1, 3) := dk_132 1 1 (dk_at dksX5_shape_2 0 rfl rfl)
theorem dX5_shape_49 : decode cX5_shape 49 = .ok (.goto (-42), 3) := dk_167 255 214 (dk_at dksX5_shape_2 3 rfl rfl)
theorem dX5_shape_52 : decode cX5_shape 52 = .ok (.aload_n 0, 1) := dk_42 (dk_at dksX5_shape_2 6 rfl rfl)
theorem dX5_shape_53 : decode cX5_shape 53 = .ok (.aload_n 0, 1) := dk_42 (dk_at dksX5_shape_2 7 rfl rfl)
theorem dX5_shape_54 : decode cX5_shape 54 = .ok (.getfield 26, 3) := dk_180 0 26 (dk_at dksX5_shape_2 8 rfl rfl)
theorem dX5_shape_57 : decode cX5_shape 57 = .ok (.aload_n 0, 1) := dk_42 (dk_at dksX5_shape_2 11 rfl rfl)
theorem dX5_shape_58 : decode cX5_shape 58 = .ok (.getfield 3, 3) := dk_180 0 3 (dk_at dksX5_shape_2 12 rfl rfl)
theorem dX5_shape_61 : decode cX5_shape 61 = .ok (.getfield 29, 3) := dk_180 0 29 (dk_at dksX5_shape_2 15 rfl rfl)
theorem dX5_shape_64 : decode cX5_shape 64 = .ok (.if_icmp .ne 14, 3) := dk_160 0 14 (dk_at dksX5_shape_2 18 rfl rfl)
theorem dX5_shape_67 : decode cX5_shape 67 = .ok (.aload_n 0, 1) := dk_42 (dk_at dksX5_shape_2 21 rfl rfl)
theorem dX5_shape_68 : decode cX5_shape 68 = .ok (.getfield 22, 3) := dk_180 0 22 (dk_at dksX5_shape_3 0 rfl rfl)
theorem dX5_shape_71 : decode cX5_shape 71 = .ok (.ifCond .lt 7, 3) := dk_155 0 7 (dk_at dksX5_shape_3 3 rfl rfl)
theorem dX5_shape_74 : decode cX5_shape 74 = .ok (.iconst 1, 1) := dk_4 (dk_at dksX5_shape_3 6 rfl rfl)
theorem dX5_shape_75 : decode cX5_shape 75 = .ok (.goto 4, 3) := dk_167 0 4 (dk_at dksX5_shape_3 7 rfl rfl)
theorem dX5_shape_78 : decode cX5_shape 78 = .ok (.iconst 0, 1) := dk_3 (dk_at dksX5_shape_3 10 rfl rfl)
theorem dX5_shape_79 : decode cX5_shape 79 = .ok (.invokevirtual 49, 3) := dk_182 0 49 (dk_at dksX5_shape_3 11 rfl rfl)
theorem dX5_shape_82 : decode cX5_shape 82 = .ok (.new 59, 3) := dk_187 0 59 (dk_at dksX5_shape_3 14 rfl rfl)
theorem dX5_shape_85 : decode cX5_shape 85 = .ok (.dup, 1) := dk_89 (dk_at dksX5_shape_3 17 rfl rfl)
theorem dX5_shape_86 : decode cX5_shape 86 = .ok (.aload_n 0, 1) := dk_42 (dk_at dksX5_shape_3 18 rfl rfl)
theorem dX5_shape_87 : decode cX5_shape 87 = .ok (.getfield 53, 3) := dk_180 0 53 (dk_at dksX5_shape_3 19 rfl rfl)
theorem dX5_shape_90 : decode cX5_shape 90 = .ok (.aload_n 0, 1) := dk_42 (dk_at dksX5_shape_3 22 rfl rfl)
theorem dX5_shape_91 : decode cX5_shape 91 = .ok (.getfield 15, 3) := dk_180 0 15 (dk_at dksX5_shape_4 0 rfl rfl)
theorem dX5_shape_94 : decode cX5_shape 94 = .ok (.aload_n 0, 1) := dk_42 (dk_at dksX5_shape_4 3 rfl rfl)
theorem dX5_shape_95 : decode cX5_shape 95 = .ok (.getfield 19, 3) := dk_180 0 19 (dk_at dksX5_shape_4 4 rfl rfl)
theorem dX5_shape_98 : decode cX5_shape 98 = .ok (.aload_n 0, 1) := dk_42 (dk_at dksX5_shape_4 7 rfl rfl)
theorem dX5_shape_99 : decode cX5_shape 99 = .ok (.getfield 22, 3) := dk_180 0 22 (dk_at dksX5_shape_4 8 rfl rfl)
theorem dX5_shape_102 : decode cX5_shape 102 = .ok (.invokespecial 61, 3) := dk_183 0 61 (dk_at dksX5_shape_4 11 rfl rfl)
theorem dX5_shape_105 : decode cX5_shape 105 = .ok (.areturn, 1) := dk_176 (dk_at dksX5_shape_4 14 rfl rfl)
abbrev cX5_shapeRow : ByteArray := prog_6_method_5_code
def yX5_shapeRow : MethodName := ⟨RX5, "shapeRow", "(I)V"⟩
def dkwX5_shapeRow_6 : List UInt8 := [96, 181, 0, 26, 167, 255, 117, 42, 28, 158, 0, 7, 4, 167, 0, 4, 3, 182, 0, 49, 177]
abbrev dktX5_shapeRow_6 : List UInt8 := dkwX5_shapeRow_6 ++ []
def dkwX5_shapeRow_5 : List UInt8 := [180, 0, 53, 27, 79, 42, 89, 180, 0, 53, 4, 96, 181, 0, 53, 132, 2, 1, 42, 89, 180, 0, 26, 4]
abbrev dktX5_shapeRow_5 : List UInt8 := dkwX5_shapeRow_5 ++ dktX5_shapeRow_6
def dkwX5_shapeRow_4 : List UInt8 := [42, 180, 0, 22, 181, 0, 22, 42, 180, 0, 15, 42, 180, 0, 53, 28, 79, 42, 180, 0, 19, 42]
abbrev dktX5_shapeRow_4 : List UInt8 := dkwX5_shapeRow_4 ++ dktX5_shapeRow_5
def dkwX5_shapeRow_3 : List UInt8 := [167, 0, 4, 3, 182, 0, 49, 42, 42, 182, 0, 41, 16, 42, 160, 0, 10, 42, 180, 0, 53, 167, 0, 7]
abbrev dktX5_shapeRow_3 : List UInt8 := dkwX5_shapeRow_3 ++ dktX5_shapeRow_4
def dkwX5_shapeRow_2 : List UInt8 := [16, 10, 162, 0, 23, 42, 182, 0, 41, 16, 35, 159, 0, 10, 42, 180, 0, 22, 156, 0, 7, 4]
abbrev dktX5_shapeRow_2 : List UInt8 := dkwX5_shapeRow_2 ++ dktX5_shapeRow_3
def dkwX5_shapeRow_1 : List UInt8 := [162, 0, 7, 4, 167, 0, 4, 3, 182, 0, 49, 42, 182, 0, 45, 153, 0, 91, 42, 42, 180, 0, 53]
abbrev dktX5_shapeRow_1 : List UInt8 := dkwX5_shapeRow_1 ++ dktX5_shapeRow_2
def dkwX5_shapeRow_0 : List UInt8 := [3, 61, 42, 182, 0, 45, 154, 0, 12, 42, 182, 0, 41, 16, 46, 160, 0, 129, 42, 28, 16, 6]
abbrev dktX5_shapeRow_0 : List UInt8 := dkwX5_shapeRow_0 ++ dktX5_shapeRow_1
theorem dksX5_shapeRow_0 : cX5_shapeRow.data.toList.drop 0 = dktX5_shapeRow_0 := by decide +kernel
theorem dksX5_shapeRow_1 : cX5_shapeRow.data.toList.drop 22 = dktX5_shapeRow_1 := dk_seg dksX5_shapeRow_0 22 rfl rfl
theorem dksX5_shapeRow_2 : cX5_shapeRow.data.toList.drop 45 = dktX5_shapeRow_2 := dk_seg dksX5_shapeRow_1 23 rfl rfl
theorem dksX5_shapeRow_3 : cX5_shapeRow.data.toList.drop 67 = dktX5_shapeRow_3 := dk_seg dksX5_shapeRow_2 22 rfl rfl
theorem dksX5_shapeRow_4 : cX5_shapeRow.data.toList.drop 91 = dktX5_shapeRow_4 := dk_seg dksX5_shapeRow_3 24 rfl rfl
theorem dksX5_shapeRow_5 : cX5_shapeRow.data.toList.drop 113 = dktX5_shapeRow_5 := dk_seg dksX5_shapeRow_4 22 rfl rfl
theorem dksX5_shapeRow_6 : cX5_shapeRow.data.toList.drop 137 = dktX5_shapeRow_6 := dk_seg dksX5_shapeRow_5 24 rfl rfl
theorem dX5_shapeRow_0 : decode cX5_shapeRow 0 = .ok (.iconst 0, 1) := dk_3 (dk_at dksX5_shapeRow_0 0 rfl rfl)
theorem dX5_shapeRow_1 : decode cX5_shapeRow 1 = .ok (.istore_n 2, 1) := dk_61 (dk_at dksX5_shapeRow_0 1 rfl rfl)
theorem dX5_shapeRow_2 : decode cX5_shapeRow 2 = .ok (.aload_n 0, 1) := dk_42 (dk_at dksX5_shapeRow_0 2 rfl rfl)
theorem dX5_shapeRow_3 : decode cX5_shapeRow 3 = .ok (.invokevirtual 45, 3) := dk_182 0 45 (dk_at dksX5_shapeRow_0 3 rfl rfl)
theorem dX5_shapeRow_6 : decode cX5_shapeRow 6 = .ok (.ifCond .ne 12, 3) := dk_154 0 12 (dk_at dksX5_shapeRow_0 6 rfl rfl)
theorem dX5_shapeRow_9 : decode cX5_shapeRow 9 = .ok (.aload_n 0, 1) := dk_42 (dk_at dksX5_shapeRow_0 9 rfl rfl)
theorem dX5_shapeRow_10 : decode cX5_shapeRow 10 = .ok (.invokevirtual 41, 3) := dk_182 0 41 (dk_at dksX5_shapeRow_0 10 rfl rfl)
theorem dX5_shapeRow_13 : decode cX5_shapeRow 13 = .ok (.bipush 46, 2) := dk_16 46 (dk_at dksX5_shapeRow_0 13 rfl rfl)
theorem dX5_shapeRow_15 : decode cX5_shapeRow 15 = .ok (.if_icmp .ne 129, 3) := dk_160 0 129 (dk_at dksX5_shapeRow_0 15 rfl rfl)
theorem dX5_shapeRow_18 : decode cX5_shapeRow 18 = .ok (.aload_n 0, 1) := dk_42 (dk_at dksX5_shapeRow_0 18 rfl rfl)
theorem dX5_shapeRow_19 : decode cX5_shapeRow 19 = .ok (.iload_n 2, 1) := dk_28 (dk_at dksX5_shapeRow_0 19 rfl rfl)
theorem dX5_shapeRow_20 : decode cX5_shapeRow 20 = .ok (.bipush 6, 2) := dk_16 6 (dk_at dksX5_shapeRow_0 20 rfl rfl)
theorem dX5_shapeRow_22 : decode cX5_shapeRow 22 = .ok (.if_icmp .ge 7, 3) := dk_162 0 7 (dk_at dksX5_shapeRow_1 0 rfl rfl)
theorem dX5_shapeRow_25 : decode cX5_shapeRow 25 = .ok (.iconst 1, 1) := dk_4 (dk_at dksX5_shapeRow_1 3 rfl rfl)
theorem dX5_shapeRow_26 : decode cX5_shapeRow 26 = .ok (.goto 4, 3) := dk_167 0 4 (dk_at dksX5_shapeRow_1 4 rfl rfl)
theorem dX5_shapeRow_29 : decode cX5_shapeRow 29 = .ok (.iconst 0, 1) := dk_3 (dk_at dksX5_shapeRow_1 7 rfl rfl)
theorem dX5_shapeRow_30 : decode cX5_shapeRow 30 = .ok (.invokevirtual 49, 3) := dk_182 0 49 (dk_at dksX5_shapeRow_1 8 rfl rfl)
theorem dX5_shapeRow_33 : decode cX5_shapeRow 33 = .ok (.aload_n 0, 1) := dk_42 (dk_at dksX5_shapeRow_1 11 rfl rfl)
theorem dX5_shapeRow_34 : decode cX5_shapeRow 34 = .ok (.invokevirtual 45, 3) := dk_182 0 45 (dk_at dksX5_shapeRow_1 12 rfl rfl)
theorem dX5_shapeRow_37 : decode cX5_shapeRow 37 = .ok (.ifCond .eq 91, 3) := dk_153 0 91 (dk_at dksX5_shapeRow_1 15 rfl rfl)
theorem dX5_shapeRow_40 : decode cX5_shapeRow 40 = .ok (.aload_n 0, 1) := dk_42 (dk_at dksX5_shapeRow_1 18 rfl rfl)
theorem dX5_shapeRow_41 : decode cX5_shapeRow 41 = .ok (.aload_n 0, 1) := dk_42 (dk_at dksX5_shapeRow_1 19 rfl rfl)
theorem dX5_shapeRow_42 : decode cX5_shapeRow 42 = .ok (.getfield 53, 3) := dk_180 0 53 (dk_at dksX5_shapeRow_1 20 rfl rfl)
theorem dX5_shapeRow_45 : decode cX5_shapeRow 45 = .ok (.bipush 10, 2) := dk_16 10 (dk_at dksX5_shapeRow_2 0 rfl rfl)
theorem dX5_shapeRow_47 : decode cX5_shapeRow 47 = .ok (.if_icmp .ge 23, 3) := dk_162 0 23 (dk_at dksX5_shapeRow_2 2 rfl rfl)
theorem dX5_shapeRow_50 : decode cX5_shapeRow 50 = .ok (.aload_n 0, 1) := dk_42 (dk_at dksX5_shapeRow_2 5 rfl rfl)
theorem dX5_shapeRow_51 : decode cX5_shapeRow 51 = .ok (.invokevirtual 41, 3) := dk_182 0 41 (dk_at dksX5_shapeRow_2 6 rfl rfl)
theorem dX5_shapeRow_54 : decode cX5_shapeRow 54 = .ok (.bipush 35, 2) := dk_16 35 (dk_at dksX5_shapeRow_2 9 rfl rfl)
theorem dX5_shapeRow_56 : decode cX5_shapeRow 56 = .ok (.if_icmp .eq 10, 3) := dk_159 0 10 (dk_at dksX5_shapeRow_2 11 rfl rfl)
theorem dX5_shapeRow_59 : decode cX5_shapeRow 59 = .ok (.aload_n 0, 1) := dk_42 (dk_at dksX5_shapeRow_2 14 rfl rfl)
theorem dX5_shapeRow_60 : decode cX5_shapeRow 60 = .ok (.getfield 22, 3) := dk_180 0 22 (dk_at dksX5_shapeRow_2 15 rfl rfl)
theorem dX5_shapeRow_63 : decode cX5_shapeRow 63 = .ok (.ifCond .ge 7, 3) := dk_156 0 7 (dk_at dksX5_shapeRow_2 18 rfl rfl)
theorem dX5_shapeRow_66 : decode cX5_shapeRow 66 = .ok (.iconst 1, 1) := dk_4 (dk_at dksX5_shapeRow_2 21 rfl rfl)
theorem dX5_shapeRow_67 : decode cX5_shapeRow 67 = .ok (.goto 4, 3) := dk_167 0 4 (dk_at dksX5_shapeRow_3 0 rfl rfl)
theorem dX5_shapeRow_70 : decode cX5_shapeRow 70 = .ok (.iconst 0, 1) := dk_3 (dk_at dksX5_shapeRow_3 3 rfl rfl)
theorem dX5_shapeRow_71 : decode cX5_shapeRow 71 = .ok (.invokevirtual 49, 3) := dk_182 0 49 (dk_at dksX5_shapeRow_3 4 rfl rfl)
theorem dX5_shapeRow_74 : decode cX5_shapeRow 74 = .ok (.aload_n 0, 1) := dk_42 (dk_at dksX5_shapeRow_3 7 rfl rfl)
theorem dX5_shapeRow_75 : decode cX5_shapeRow 75 = .ok (.aload_n 0, 1) := dk_42 (dk_at dksX5_shapeRow_3 8 rfl rfl)
theorem dX5_shapeRow_76 : decode cX5_shapeRow 76 = .ok (.invokevirtual 41, 3) := dk_182 0 41 (dk_at dksX5_shapeRow_3 9 rfl rfl)
theorem dX5_shapeRow_79 : decode cX5_shapeRow 79 = .ok (.bipush 42, 2) := dk_16 42 (dk_at dksX5_shapeRow_3 12 rfl rfl)
theorem dX5_shapeRow_81 : decode cX5_shapeRow 81 = .ok (.if_icmp .ne 10, 3) := dk_160 0 10 (dk_at dksX5_shapeRow_3 14 rfl rfl)
theorem dX5_shapeRow_84 : decode cX5_shapeRow 84 = .ok (.aload_n 0, 1) := dk_42 (dk_at dksX5_shapeRow_3 17 rfl rfl)
theorem dX5_shapeRow_85 : decode cX5_shapeRow 85 = .ok (.getfield 53, 3) := dk_180 0 53 (dk_at dksX5_shapeRow_3 18 rfl rfl)
theorem dX5_shapeRow_88 : decode cX5_shapeRow 88 = .ok (.goto 7, 3) := dk_167 0 7 (dk_at dksX5_shapeRow_3 21 rfl rfl)
theorem dX5_shapeRow_91 : decode cX5_shapeRow 91 = .ok (.aload_n 0, 1) := dk_42 (dk_at dksX5_shapeRow_4 0 rfl rfl)
theorem dX5_shapeRow_92 : decode cX5_shapeRow 92 = .ok (.getfield 22, 3) := dk_180 0 22 (dk_at dksX5_shapeRow_4 1 rfl rfl)
theorem dX5_shapeRow_95 : decode cX5_shapeRow 95 = .ok (.putfield 22, 3) := dk_181 0 22 (dk_at dksX5_shapeRow_4 4 rfl rfl)
theorem dX5_shapeRow_98 : decode cX5_shapeRow 98 = .ok (.aload_n 0, 1) := dk_42 (dk_at dksX5_shapeRow_4 7 rfl rfl)
theorem dX5_shapeRow_99 : decode cX5_shapeRow 99 = .ok (.getfield 15, 3) := dk_180 0 15 (dk_at dksX5_shapeRow_4 8 rfl rfl)
theorem dX5_shapeRow_102 : decode cX5_shapeRow 102 = .ok (.aload_n 0, 1) := dk_42 (dk_at dksX5_shapeRow_4 11 rfl rfl)
theorem dX5_shapeRow_103 : decode cX5_shapeRow 103 = .ok (.getfield 53, 3) := dk_180 0 53 (dk_at dksX5_shapeRow_4 12 rfl rfl)
theorem dX5_shapeRow_106 : decode cX5_shapeRow 106 = .ok (.iload_n 2, 1) := dk_28 (dk_at dksX5_shapeRow_4 15 rfl rfl)
theorem dX5_shapeRow_107 : decode cX5_shapeRow 107 = .ok (.iastore, 1) := dk_79 (dk_at dksX5_shapeRow_4 16 rfl rfl)
theorem dX5_shapeRow_108 : decode cX5_shapeRow 108 = .ok (.aload_n 0, 1) := dk_42 (dk_at dksX5_shapeRow_4 17 rfl rfl)
theorem dX5_shapeRow_109 : decode cX5_shapeRow 109 = .ok (.getfield 19, 3) := dk_180 0 19 (dk_at dksX5_shapeRow_4 18 rfl rfl)
theorem dX5_shapeRow_112 : decode cX5_shapeRow 112 = .ok (.aload_n 0, 1) := dk_42 (dk_at dksX5_shapeRow_4 21 rfl rfl)
theorem dX5_shapeRow_113 : decode cX5_shapeRow 113 = .ok (.getfield 53, 3) := dk_180 0 53 (dk_at dksX5_shapeRow_5 0 rfl rfl)
theorem dX5_shapeRow_116 : decode cX5_shapeRow 116 = .ok (.iload_n 1, 1) := dk_27 (dk_at dksX5_shapeRow_5 3 rfl rfl)
theorem dX5_shapeRow_117 : decode cX5_shapeRow 117 = .ok (.iastore, 1) := dk_79 (dk_at dksX5_shapeRow_5 4 rfl rfl)
theorem dX5_shapeRow_118 : decode cX5_shapeRow 118 = .ok (.aload_n 0, 1) := dk_42 (dk_at dksX5_shapeRow_5 5 rfl rfl)
theorem dX5_shapeRow_119 : decode cX5_shapeRow 119 = .ok (.dup, 1) := dk_89 (dk_at dksX5_shapeRow_5 6 rfl rfl)
theorem dX5_shapeRow_120 : decode cX5_shapeRow 120 = .ok (.getfield 53, 3) := dk_180 0 53 (dk_at dksX5_shapeRow_5 7 rfl rfl)
theorem dX5_shapeRow_123 : decode cX5_shapeRow 123 = .ok (.iconst 1, 1) := dk_4 (dk_at dksX5_shapeRow_5 10 rfl rfl)
theorem dX5_shapeRow_124 : decode cX5_shapeRow 124 = .ok (.iadd, 1) := dk_96 (dk_at dksX5_shapeRow_5 11 rfl rfl)
theorem dX5_shapeRow_125 : decode cX5_shapeRow 125 = .ok (.putfield 53, 3) := dk_181 0 53 (dk_at dksX5_shapeRow_5 12 rfl rfl)
theorem dX5_shapeRow_128 : decode cX5_shapeRow 128 = .ok (.iinc 2 1, 3) := dk_132 2 1 (dk_at dksX5_shapeRow_5 15 rfl rfl)
theorem dX5_shapeRow_131 : decode cX5_shapeRow 131 = .ok (.aload_n 0, 1) := dk_42 (dk_at dksX5_shapeRow_5 18 rfl rfl)
theorem dX5_shapeRow_132 : decode cX5_shapeRow 132 = .ok (.dup, 1) := dk_89 (dk_at dksX5_shapeRow_5 19 rfl rfl)
theorem dX5_shapeRow_133 : decode cX5_shapeRow 133 = .ok (.getfield 26, 3) := dk_180 0 26 (dk_at dksX5_shapeRow_5 20 rfl rfl)
theorem dX5_shapeRow_136 : decode cX5_shapeRow 136 = .ok (.iconst 1, 1) := dk_4 (dk_at dksX5_shapeRow_5 23 rfl rfl)
theorem dX5_shapeRow_137 : decode cX5_shapeRow 137 = .ok (.iadd, 1) := dk_96 (dk_at dksX5_shapeRow_6 0 rfl rfl)
theorem dX5_shapeRow_138 : decode cX5_shapeRow 138 = .ok (.putfield 26, 3) := dk_181 0 26 (dk_at dksX5_shapeRow_6 1 rfl rfl)
theorem dX5_shapeRow_141 : decode cX5_shapeRow 141 = .ok (.goto (-139), 3) := dk_167 255 117 (dk_at dksX5_shapeRow_6 4 rfl rfl)
theorem dX5_shapeRow_144 : decode cX5_shapeRow 144 = .ok (.aload_n 0, 1) := dk_42 (dk_at dksX5_shapeRow_6 7 rfl rfl)
theorem dX5_shapeRow_145 : decode cX5_shapeRow 145 = .ok (.iload_n 2, 1) := dk_28 (dk_at dksX5_shapeRow_6 8 rfl rfl)
theorem dX5_shapeRow_146 : decode cX5_shapeRow 146 = .ok (.ifCond .le 7, 3) := dk_158 0 7 (dk_at dksX5_shapeRow_6 9 rfl rfl)
theorem dX5_shapeRow_149 : decode cX5_shapeRow 149 = .ok (.iconst 1, 1) := dk_4 (dk_at dksX5_shapeRow_6 12 rfl rfl)
theorem dX5_shapeRow_150 : decode cX5_shapeRow 150 = .ok (.goto 4, 3) := dk_167 0 4 (dk_at dksX5_shapeRow_6 13 rfl rfl)
theorem dX5_shapeRow_153 : decode cX5_shapeRow 153 = .ok (.iconst 0, 1) := dk_3 (dk_at dksX5_shapeRow_6 16 rfl rfl)
theorem dX5_shapeRow_154 : decode cX5_shapeRow 154 = .ok (.invokevirtual 49, 3) := dk_182 0 49 (dk_at dksX5_shapeRow_6 17 rfl rfl)
theorem dX5_shapeRow_157 : decode cX5_shapeRow 157 = .ok (.return_, 1) := dk_177 (dk_at dksX5_shapeRow_6 20 rfl rfl)
abbrev cX5_isSlot : ByteArray := prog_6_method_4_code
def yX5_isSlot : MethodName := ⟨RX5, "isSlot", "()Z"⟩
def dkwX5_isSlot_0 : List UInt8 := [42, 182, 0, 41, 16, 35, 159, 0, 12, 42, 182, 0, 41, 16, 42, 160, 0, 7, 4, 167, 0, 4, 3, 172]
abbrev dktX5_isSlot_0 : List UInt8 := dkwX5_isSlot_0 ++ []
theorem dksX5_isSlot_0 : cX5_isSlot.data.toList.drop 0 = dktX5_isSlot_0 := by decide +kernel
theorem dX5_isSlot_0 : decode cX5_isSlot 0 = .ok (.aload_n 0, 1) := dk_42 (dk_at dksX5_isSlot_0 0 rfl rfl)
theorem dX5_isSlot_1 : decode cX5_isSlot 1 = .ok (.invokevirtual 41, 3) := dk_182 0 41 (dk_at dksX5_isSlot_0 1 rfl rfl)
theorem dX5_isSlot_4 : decode cX5_isSlot 4 = .ok (.bipush 35, 2) := dk_16 35 (dk_at dksX5_isSlot_0 4 rfl rfl)
theorem dX5_isSlot_6 : decode cX5_isSlot 6 = .ok (.if_icmp .eq 12, 3) := dk_159 0 12 (dk_at dksX5_isSlot_0 6 rfl rfl)
theorem dX5_isSlot_9 : decode cX5_isSlot 9 = .ok (.aload_n 0, 1) := dk_42 (dk_at dksX5_isSlot_0 9 rfl rfl)
theorem dX5_isSlot_10 : decode cX5_isSlot 10 = .ok (.invokevirtual 41, 3) := dk_182 0 41 (dk_at dksX5_isSlot_0 10 rfl rfl)
theorem dX5_isSlot_13 : decode cX5_isSlot 13 = .ok (.bipush 42, 2) := dk_16 42 (dk_at dksX5_isSlot_0 13 rfl rfl)
theorem dX5_isSlot_15 : decode cX5_isSlot 15 = .ok (.if_icmp .ne 7, 3) := dk_160 0 7 (dk_at dksX5_isSlot_0 15 rfl rfl)
theorem dX5_isSlot_18 : decode cX5_isSlot 18 = .ok (.iconst 1, 1) := dk_4 (dk_at dksX5_isSlot_0 18 rfl rfl)
theorem dX5_isSlot_19 : decode cX5_isSlot 19 = .ok (.goto 4, 3) := dk_167 0 4 (dk_at dksX5_isSlot_0 19 rfl rfl)
theorem dX5_isSlot_22 : decode cX5_isSlot 22 = .ok (.iconst 0, 1) := dk_3 (dk_at dksX5_isSlot_0 22 rfl rfl)
theorem dX5_isSlot_23 : decode cX5_isSlot 23 = .ok (.ireturn, 1) := dk_172 (dk_at dksX5_isSlot_0 23 rfl rfl)
abbrev cX5_sign : ByteArray := prog_6_method_2_code
def yX5_sign : MethodName := ⟨RX5, "sign", "()I"⟩
def dkwX5_sign_1 : List UInt8 := [180, 0, 26, 51, 167, 0, 4, 2, 172]
abbrev dktX5_sign_1 : List UInt8 := dkwX5_sign_1 ++ []
def dkwX5_sign_0 : List UInt8 := [42, 180, 0, 26, 42, 180, 0, 3, 180, 0, 29, 162, 0, 18, 42, 180, 0, 3, 180, 0, 32, 42]
abbrev dktX5_sign_0 : List UInt8 := dkwX5_sign_0 ++ dktX5_sign_1
theorem dksX5_sign_0 : cX5_sign.data.toList.drop 0 = dktX5_sign_0 := by decide +kernel
theorem dksX5_sign_1 : cX5_sign.data.toList.drop 22 = dktX5_sign_1 := dk_seg dksX5_sign_0 22 rfl rfl
theorem dX5_sign_0 : decode cX5_sign 0 = .ok (.aload_n 0, 1) := dk_42 (dk_at dksX5_sign_0 0 rfl rfl)
theorem dX5_sign_1 : decode cX5_sign 1 = .ok (.getfield 26, 3) := dk_180 0 26 (dk_at dksX5_sign_0 1 rfl rfl)
theorem dX5_sign_4 : decode cX5_sign 4 = .ok (.aload_n 0, 1) := dk_42 (dk_at dksX5_sign_0 4 rfl rfl)
theorem dX5_sign_5 : decode cX5_sign 5 = .ok (.getfield 3, 3) := dk_180 0 3 (dk_at dksX5_sign_0 5 rfl rfl)
theorem dX5_sign_8 : decode cX5_sign 8 = .ok (.getfield 29, 3) := dk_180 0 29 (dk_at dksX5_sign_0 8 rfl rfl)
theorem dX5_sign_11 : decode cX5_sign 11 = .ok (.if_icmp .ge 18, 3) := dk_162 0 18 (dk_at dksX5_sign_0 11 rfl rfl)
theorem dX5_sign_14 : decode cX5_sign 14 = .ok (.aload_n 0, 1) := dk_42 (dk_at dksX5_sign_0 14 rfl rfl)
theorem dX5_sign_15 : decode cX5_sign 15 = .ok (.getfield 3, 3) := dk_180 0 3 (dk_at dksX5_sign_0 15 rfl rfl)
theorem dX5_sign_18 : decode cX5_sign 18 = .ok (.getfield 32, 3) := dk_180 0 32 (dk_at dksX5_sign_0 18 rfl rfl)
theorem dX5_sign_21 : decode cX5_sign 21 = .ok (.aload_n 0, 1) := dk_42 (dk_at dksX5_sign_0 21 rfl rfl)
theorem dX5_sign_22 : decode cX5_sign 22 = .ok (.getfield 26, 3) := dk_180 0 26 (dk_at dksX5_sign_1 0 rfl rfl)
theorem dX5_sign_25 : decode cX5_sign 25 = .ok (.baload, 1) := dk_51 (dk_at dksX5_sign_1 3 rfl rfl)
theorem dX5_sign_26 : decode cX5_sign 26 = .ok (.goto 4, 3) := dk_167 0 4 (dk_at dksX5_sign_1 4 rfl rfl)
theorem dX5_sign_29 : decode cX5_sign 29 = .ok (.iconst (-1), 1) := dk_2 (dk_at dksX5_sign_1 7 rfl rfl)
theorem dX5_sign_30 : decode cX5_sign 30 = .ok (.ireturn, 1) := dk_172 (dk_at dksX5_sign_1 8 rfl rfl)
abbrev cX5_need : ByteArray := prog_6_method_3_code
def yX5_need : MethodName := ⟨RX5, "need", "(Z)V"⟩
def dkwX5_need_0 : List UInt8 := [27, 154, 0, 15, 187, 0, 36, 89, 42, 180, 0, 26, 183, 0, 38, 191, 177]
abbrev dktX5_need_0 : List UInt8 := dkwX5_need_0 ++ []
theorem dksX5_need_0 : cX5_need.data.toList.drop 0 = dktX5_need_0 := by decide +kernel
theorem dX5_need_0 : decode cX5_need 0 = .ok (.iload_n 1, 1) := dk_27 (dk_at dksX5_need_0 0 rfl rfl)
theorem dX5_need_1 : decode cX5_need 1 = .ok (.ifCond .ne 15, 3) := dk_154 0 15 (dk_at dksX5_need_0 1 rfl rfl)
theorem dX5_need_4 : decode cX5_need 4 = .ok (.new 36, 3) := dk_187 0 36 (dk_at dksX5_need_0 4 rfl rfl)
theorem dX5_need_7 : decode cX5_need 7 = .ok (.dup, 1) := dk_89 (dk_at dksX5_need_0 7 rfl rfl)
theorem dX5_need_8 : decode cX5_need 8 = .ok (.aload_n 0, 1) := dk_42 (dk_at dksX5_need_0 8 rfl rfl)
theorem dX5_need_9 : decode cX5_need 9 = .ok (.getfield 26, 3) := dk_180 0 26 (dk_at dksX5_need_0 9 rfl rfl)
theorem dX5_need_12 : decode cX5_need 12 = .ok (.invokespecial 38, 3) := dk_183 0 38 (dk_at dksX5_need_0 12 rfl rfl)
theorem dX5_need_15 : decode cX5_need 15 = .ok (.athrow, 1) := dk_191 (dk_at dksX5_need_0 15 rfl rfl)
theorem dX5_need_16 : decode cX5_need 16 = .ok (.return_, 1) := dk_177 (dk_at dksX5_need_0 16 rfl rfl)
abbrev cX5_commands : ByteArray := prog_6_method_9_code
def yX5_commands : MethodName := ⟨RX5, "commands", "()Ljava/util/ArrayList;"⟩
def dkwX5_commands_3 : List UInt8 := [182, 0, 49, 43, 176]
abbrev dktX5_commands_3 : List UInt8 := dkwX5_commands_3 ++ []
def dkwX5_commands_2 : List UInt8 := [167, 255, 228, 42, 42, 180, 0, 26, 42, 180, 0, 3, 180, 0, 29, 160, 0, 7, 4, 167, 0, 4, 3]
abbrev dktX5_commands_2 : List UInt8 := dkwX5_commands_2 ++ dktX5_commands_3
def dkwX5_commands_1 : List UInt8 := [160, 0, 25, 42, 89, 180, 0, 26, 4, 96, 181, 0, 26, 43, 42, 182, 0, 79, 182, 0, 83, 87]
abbrev dktX5_commands_1 : List UInt8 := dkwX5_commands_1 ++ dktX5_commands_2
def dkwX5_commands_0 : List UInt8 := [187, 0, 76, 89, 183, 0, 78, 76, 43, 42, 182, 0, 79, 182, 0, 83, 87, 42, 182, 0, 41, 16, 59]
abbrev dktX5_commands_0 : List UInt8 := dkwX5_commands_0 ++ dktX5_commands_1
theorem dksX5_commands_0 : cX5_commands.data.toList.drop 0 = dktX5_commands_0 := by decide +kernel
theorem dksX5_commands_1 : cX5_commands.data.toList.drop 23 = dktX5_commands_1 := dk_seg dksX5_commands_0 23 rfl rfl
theorem dksX5_commands_2 : cX5_commands.data.toList.drop 45 = dktX5_commands_2 := dk_seg dksX5_commands_1 22 rfl rfl
theorem dksX5_commands_3 : cX5_commands.data.toList.drop 68 = dktX5_commands_3 := dk_seg dksX5_commands_2 23 rfl rfl
theorem dX5_commands_0 : decode cX5_commands 0 = .ok (.new 76, 3) := dk_187 0 76 (dk_at dksX5_commands_0 0 rfl rfl)
theorem dX5_commands_3 : decode cX5_commands 3 = .ok (.dup, 1) := dk_89 (dk_at dksX5_commands_0 3 rfl rfl)
theorem dX5_commands_4 : decode cX5_commands 4 = .ok (.invokespecial 78, 3) := dk_183 0 78 (dk_at dksX5_commands_0 4 rfl rfl)
theorem dX5_commands_7 : decode cX5_commands 7 = .ok (.astore_n 1, 1) := dk_76 (dk_at dksX5_commands_0 7 rfl rfl)
theorem dX5_commands_8 : decode cX5_commands 8 = .ok (.aload_n 1, 1) := dk_43 (dk_at dksX5_commands_0 8 rfl rfl)
theorem dX5_commands_9 : decode cX5_commands 9 = .ok (.aload_n 0, 1) := dk_42 (dk_at dksX5_commands_0 9 rfl rfl)
theorem dX5_commands_10 : decode cX5_commands 10 = .ok (.invokevirtual 79, 3) := dk_182 0 79 (dk_at dksX5_commands_0 10 rfl rfl)
theorem dX5_commands_13 : decode cX5_commands 13 = .ok (.invokevirtual 83, 3) := dk_182 0 83 (dk_at dksX5_commands_0 13 rfl rfl)
theorem dX5_commands_16 : decode cX5_commands 16 = .ok (.pop, 1) := dk_87 (dk_at dksX5_commands_0 16 rfl rfl)
theorem dX5_commands_17 : decode cX5_commands 17 = .ok (.aload_n 0, 1) := dk_42 (dk_at dksX5_commands_0 17 rfl rfl)
theorem dX5_commands_18 : decode cX5_commands 18 = .ok (.invokevirtual 41, 3) := dk_182 0 41 (dk_at dksX5_commands_0 18 rfl rfl)
theorem dX5_commands_21 : decode cX5_commands 21 = .ok (.bipush 59, 2) := dk_16 59 (dk_at dksX5_commands_0 21 rfl rfl)
theorem dX5_commands_23 : decode cX5_commands 23 = .ok (.if_icmp .ne 25, 3) := dk_160 0 25 (dk_at dksX5_commands_1 0 rfl rfl)
theorem dX5_commands_26 : decode cX5_commands 26 = .ok (.aload_n 0, 1) := dk_42 (dk_at dksX5_commands_1 3 rfl rfl)
theorem dX5_commands_27 : decode cX5_commands 27 = .ok (.dup, 1) := dk_89 (dk_at dksX5_commands_1 4 rfl rfl)
theorem dX5_commands_28 : decode cX5_commands 28 = .ok (.getfield 26, 3) := dk_180 0 26 (dk_at dksX5_commands_1 5 rfl rfl)
theorem dX5_commands_31 : decode cX5_commands 31 = .ok (.iconst 1, 1) := dk_4 (dk_at dksX5_commands_1 8 rfl rfl)
theorem dX5_commands_32 : decode cX5_commands 32 = .ok (.iadd, 1) := dk_96 (dk_at dksX5_commands_1 9 rfl rfl)
theorem dX5_commands_33 : decode cX5_commands 33 = .ok (.putfield 26, 3) := dk_181 0 26 (dk_at dksX5_commands_1 10 rfl rfl)
theorem dX5_commands_36 : decode cX5_commands 36 = .ok (.aload_n 1, 1) := dk_43 (dk_at dksX5_commands_1 13 rfl rfl)
theorem dX5_commands_37 : decode cX5_commands 37 = .ok (.aload_n 0, 1) := dk_42 (dk_at dksX5_commands_1 14 rfl rfl)
theorem dX5_commands_38 : decode cX5_commands 38 = .ok (.invokevirtual 79, 3) := dk_182 0 79 (dk_at dksX5_commands_1 15 rfl rfl)
theorem dX5_commands_41 : decode cX5_commands 41 = .ok (.invokevirtual 83, 3) := dk_182 0 83 (dk_at dksX5_commands_1 18 rfl rfl)
theorem dX5_commands_44 : decode cX5_commands 44 = .ok (.pop, 1) := dk_87 (dk_at dksX5_commands_1 21 rfl rfl)
theorem dX5_commands_45 : decode cX5_commands 45 = .ok (.goto (-28), 3) := dk_167 255 228 (dk_at dksX5_commands_2 0 rfl rfl)
theorem dX5_commands_48 : decode cX5_commands 48 = .ok (.aload_n 0, 1) := dk_42 (dk_at dksX5_commands_2 3 rfl rfl)
theorem dX5_commands_49 : decode cX5_commands 49 = .ok (.aload_n 0, 1) := dk_42 (dk_at dksX5_commands_2 4 rfl rfl)
theorem dX5_commands_50 : decode cX5_commands 50 = .ok (.getfield 26, 3) := dk_180 0 26 (dk_at dksX5_commands_2 5 rfl rfl)
theorem dX5_commands_53 : decode cX5_commands 53 = .ok (.aload_n 0, 1) := dk_42 (dk_at dksX5_commands_2 8 rfl rfl)
theorem dX5_commands_54 : decode cX5_commands 54 = .ok (.getfield 3, 3) := dk_180 0 3 (dk_at dksX5_commands_2 9 rfl rfl)
theorem dX5_commands_57 : decode cX5_commands 57 = .ok (.getfield 29, 3) := dk_180 0 29 (dk_at dksX5_commands_2 12 rfl rfl)
theorem dX5_commands_60 : decode cX5_commands 60 = .ok (.if_icmp .ne 7, 3) := dk_160 0 7 (dk_at dksX5_commands_2 15 rfl rfl)
theorem dX5_commands_63 : decode cX5_commands 63 = .ok (.iconst 1, 1) := dk_4 (dk_at dksX5_commands_2 18 rfl rfl)
theorem dX5_commands_64 : decode cX5_commands 64 = .ok (.goto 4, 3) := dk_167 0 4 (dk_at dksX5_commands_2 19 rfl rfl)
theorem dX5_commands_67 : decode cX5_commands 67 = .ok (.iconst 0, 1) := dk_3 (dk_at dksX5_commands_2 22 rfl rfl)
theorem dX5_commands_68 : decode cX5_commands 68 = .ok (.invokevirtual 49, 3) := dk_182 0 49 (dk_at dksX5_commands_3 0 rfl rfl)
theorem dX5_commands_71 : decode cX5_commands 71 = .ok (.aload_n 1, 1) := dk_43 (dk_at dksX5_commands_3 3 rfl rfl)
theorem dX5_commands_72 : decode cX5_commands 72 = .ok (.areturn, 1) := dk_176 (dk_at dksX5_commands_3 4 rfl rfl)
abbrev cX5_command : ByteArray := prog_6_method_8_code
def yX5_command : MethodName := ⟨RX5, "command", "()LSwarmPlanner$Command;"⟩
def dkwX5_command_5 : List UInt8 := [187, 0, 71, 89, 42, 180, 0, 3, 27, 29, 21, 4, 183, 0, 73, 176]
abbrev dktX5_command_5 : List UInt8 := dkwX5_command_5 ++ []
def dkwX5_command_4 : List UInt8 := [167, 0, 4, 3, 182, 0, 49, 42, 89, 180, 0, 26, 4, 96, 181, 0, 26, 42, 182, 0, 68, 54, 4]
abbrev dktX5_command_4 : List UInt8 := dkwX5_command_4 ++ dktX5_command_5
def dkwX5_command_3 : List UInt8 := [182, 0, 68, 62, 3, 54, 4, 28, 153, 0, 37, 42, 42, 182, 0, 41, 16, 44, 160, 0, 7, 4]
abbrev dktX5_command_3 : List UInt8 := dkwX5_command_3 ++ dktX5_command_4
def dkwX5_command_2 : List UInt8 := [16, 103, 160, 0, 7, 4, 167, 0, 4, 3, 182, 0, 49, 42, 89, 180, 0, 26, 4, 96, 181, 0, 26, 42]
abbrev dktX5_command_2 : List UInt8 := dkwX5_command_2 ++ dktX5_command_3
def dkwX5_command_1 : List UInt8 := [167, 0, 4, 3, 61, 42, 28, 154, 0, 21, 27, 16, 108, 159, 0, 15, 27, 16, 120, 159, 0, 9, 27]
abbrev dktX5_command_1 : List UInt8 := dkwX5_command_1 ++ dktX5_command_2
def dkwX5_command_0 : List UInt8 := [42, 182, 0, 41, 60, 27, 16, 97, 159, 0, 15, 27, 16, 111, 159, 0, 9, 27, 16, 116, 160, 0, 7, 4]
abbrev dktX5_command_0 : List UInt8 := dkwX5_command_0 ++ dktX5_command_1
theorem dksX5_command_0 : cX5_command.data.toList.drop 0 = dktX5_command_0 := by decide +kernel
theorem dksX5_command_1 : cX5_command.data.toList.drop 24 = dktX5_command_1 := dk_seg dksX5_command_0 24 rfl rfl
theorem dksX5_command_2 : cX5_command.data.toList.drop 47 = dktX5_command_2 := dk_seg dksX5_command_1 23 rfl rfl
theorem dksX5_command_3 : cX5_command.data.toList.drop 71 = dktX5_command_3 := dk_seg dksX5_command_2 24 rfl rfl
theorem dksX5_command_4 : cX5_command.data.toList.drop 93 = dktX5_command_4 := dk_seg dksX5_command_3 22 rfl rfl
theorem dksX5_command_5 : cX5_command.data.toList.drop 116 = dktX5_command_5 := dk_seg dksX5_command_4 23 rfl rfl
theorem dX5_command_0 : decode cX5_command 0 = .ok (.aload_n 0, 1) := dk_42 (dk_at dksX5_command_0 0 rfl rfl)
theorem dX5_command_1 : decode cX5_command 1 = .ok (.invokevirtual 41, 3) := dk_182 0 41 (dk_at dksX5_command_0 1 rfl rfl)
theorem dX5_command_4 : decode cX5_command 4 = .ok (.istore_n 1, 1) := dk_60 (dk_at dksX5_command_0 4 rfl rfl)
theorem dX5_command_5 : decode cX5_command 5 = .ok (.iload_n 1, 1) := dk_27 (dk_at dksX5_command_0 5 rfl rfl)
theorem dX5_command_6 : decode cX5_command 6 = .ok (.bipush 97, 2) := dk_16 97 (dk_at dksX5_command_0 6 rfl rfl)
theorem dX5_command_8 : decode cX5_command 8 = .ok (.if_icmp .eq 15, 3) := dk_159 0 15 (dk_at dksX5_command_0 8 rfl rfl)
theorem dX5_command_11 : decode cX5_command 11 = .ok (.iload_n 1, 1) := dk_27 (dk_at dksX5_command_0 11 rfl rfl)
theorem dX5_command_12 : decode cX5_command 12 = .ok (.bipush 111, 2) := dk_16 111 (dk_at dksX5_command_0 12 rfl rfl)
theorem dX5_command_14 : decode cX5_command 14 = .ok (.if_icmp .eq 9, 3) := dk_159 0 9 (dk_at dksX5_command_0 14 rfl rfl)
theorem dX5_command_17 : decode cX5_command 17 = .ok (.iload_n 1, 1) := dk_27 (dk_at dksX5_command_0 17 rfl rfl)
theorem dX5_command_18 : decode cX5_command 18 = .ok (.bipush 116, 2) := dk_16 116 (dk_at dksX5_command_0 18 rfl rfl)
theorem dX5_command_20 : decode cX5_command 20 = .ok (.if_icmp .ne 7, 3) := dk_160 0 7 (dk_at dksX5_command_0 20 rfl rfl)
theorem dX5_command_23 : decode cX5_command 23 = .ok (.iconst 1, 1) := dk_4 (dk_at dksX5_command_0 23 rfl rfl)
theorem dX5_command_24 : decode cX5_command 24 = .ok (.goto 4, 3) := dk_167 0 4 (dk_at dksX5_command_1 0 rfl rfl)
theorem dX5_command_27 : decode cX5_command 27 = .ok (.iconst 0, 1) := dk_3 (dk_at dksX5_command_1 3 rfl rfl)
theorem dX5_command_28 : decode cX5_command 28 = .ok (.istore_n 2, 1) := dk_61 (dk_at dksX5_command_1 4 rfl rfl)
theorem dX5_command_29 : decode cX5_command 29 = .ok (.aload_n 0, 1) := dk_42 (dk_at dksX5_command_1 5 rfl rfl)
theorem dX5_command_30 : decode cX5_command 30 = .ok (.iload_n 2, 1) := dk_28 (dk_at dksX5_command_1 6 rfl rfl)
theorem dX5_command_31 : decode cX5_command 31 = .ok (.ifCond .ne 21, 3) := dk_154 0 21 (dk_at dksX5_command_1 7 rfl rfl)
theorem dX5_command_34 : decode cX5_command 34 = .ok (.iload_n 1, 1) := dk_27 (dk_at dksX5_command_1 10 rfl rfl)
theorem dX5_command_35 : decode cX5_command 35 = .ok (.bipush 108, 2) := dk_16 108 (dk_at dksX5_command_1 11 rfl rfl)
theorem dX5_command_37 : decode cX5_command 37 = .ok (.if_icmp .eq 15, 3) := dk_159 0 15 (dk_at dksX5_command_1 13 rfl rfl)
theorem dX5_command_40 : decode cX5_command 40 = .ok (.iload_n 1, 1) := dk_27 (dk_at dksX5_command_1 16 rfl rfl)
theorem dX5_command_41 : decode cX5_command 41 = .ok (.bipush 120, 2) := dk_16 120 (dk_at dksX5_command_1 17 rfl rfl)
theorem dX5_command_43 : decode cX5_command 43 = .ok (.if_icmp .eq 9, 3) := dk_159 0 9 (dk_at dksX5_command_1 19 rfl rfl)
theorem dX5_command_46 : decode cX5_command 46 = .ok (.iload_n 1, 1) := dk_27 (dk_at dksX5_command_1 22 rfl rfl)
theorem dX5_command_47 : decode cX5_command 47 = .ok (.bipush 103, 2) := dk_16 103 (dk_at dksX5_command_2 0 rfl rfl)
theorem dX5_command_49 : decode cX5_command 49 = .ok (.if_icmp .ne 7, 3) := dk_160 0 7 (dk_at dksX5_command_2 2 rfl rfl)
theorem dX5_command_52 : decode cX5_command 52 = .ok (.iconst 1, 1) := dk_4 (dk_at dksX5_command_2 5 rfl rfl)
theorem dX5_command_53 : decode cX5_command 53 = .ok (.goto 4, 3) := dk_167 0 4 (dk_at dksX5_command_2 6 rfl rfl)
theorem dX5_command_56 : decode cX5_command 56 = .ok (.iconst 0, 1) := dk_3 (dk_at dksX5_command_2 9 rfl rfl)
theorem dX5_command_57 : decode cX5_command 57 = .ok (.invokevirtual 49, 3) := dk_182 0 49 (dk_at dksX5_command_2 10 rfl rfl)
theorem dX5_command_60 : decode cX5_command 60 = .ok (.aload_n 0, 1) := dk_42 (dk_at dksX5_command_2 13 rfl rfl)
theorem dX5_command_61 : decode cX5_command 61 = .ok (.dup, 1) := dk_89 (dk_at dksX5_command_2 14 rfl rfl)
theorem dX5_command_62 : decode cX5_command 62 = .ok (.getfield 26, 3) := dk_180 0 26 (dk_at dksX5_command_2 15 rfl rfl)
theorem dX5_command_65 : decode cX5_command 65 = .ok (.iconst 1, 1) := dk_4 (dk_at dksX5_command_2 18 rfl rfl)
theorem dX5_command_66 : decode cX5_command 66 = .ok (.iadd, 1) := dk_96 (dk_at dksX5_command_2 19 rfl rfl)
theorem dX5_command_67 : decode cX5_command 67 = .ok (.putfield 26, 3) := dk_181 0 26 (dk_at dksX5_command_2 20 rfl rfl)
theorem dX5_command_70 : decode cX5_command 70 = .ok (.aload_n 0, 1) := dk_42 (dk_at dksX5_command_2 23 rfl rfl)
theorem dX5_command_71 : decode cX5_command 71 = .ok (.invokevirtual 68, 3) := dk_182 0 68 (dk_at dksX5_command_3 0 rfl rfl)
theorem dX5_command_74 : decode cX5_command 74 = .ok (.istore_n 3, 1) := dk_62 (dk_at dksX5_command_3 3 rfl rfl)
theorem dX5_command_75 : decode cX5_command 75 = .ok (.iconst 0, 1) := dk_3 (dk_at dksX5_command_3 4 rfl rfl)
theorem dX5_command_76 : decode cX5_command 76 = .ok (.istore 4, 2) := dk_54 4 (dk_at dksX5_command_3 5 rfl rfl)
theorem dX5_command_78 : decode cX5_command 78 = .ok (.iload_n 2, 1) := dk_28 (dk_at dksX5_command_3 7 rfl rfl)
theorem dX5_command_79 : decode cX5_command 79 = .ok (.ifCond .eq 37, 3) := dk_153 0 37 (dk_at dksX5_command_3 8 rfl rfl)
theorem dX5_command_82 : decode cX5_command 82 = .ok (.aload_n 0, 1) := dk_42 (dk_at dksX5_command_3 11 rfl rfl)
theorem dX5_command_83 : decode cX5_command 83 = .ok (.aload_n 0, 1) := dk_42 (dk_at dksX5_command_3 12 rfl rfl)
theorem dX5_command_84 : decode cX5_command 84 = .ok (.invokevirtual 41, 3) := dk_182 0 41 (dk_at dksX5_command_3 13 rfl rfl)
theorem dX5_command_87 : decode cX5_command 87 = .ok (.bipush 44, 2) := dk_16 44 (dk_at dksX5_command_3 16 rfl rfl)
theorem dX5_command_89 : decode cX5_command 89 = .ok (.if_icmp .ne 7, 3) := dk_160 0 7 (dk_at dksX5_command_3 18 rfl rfl)
theorem dX5_command_92 : decode cX5_command 92 = .ok (.iconst 1, 1) := dk_4 (dk_at dksX5_command_3 21 rfl rfl)
theorem dX5_command_93 : decode cX5_command 93 = .ok (.goto 4, 3) := dk_167 0 4 (dk_at dksX5_command_4 0 rfl rfl)
theorem dX5_command_96 : decode cX5_command 96 = .ok (.iconst 0, 1) := dk_3 (dk_at dksX5_command_4 3 rfl rfl)
theorem dX5_command_97 : decode cX5_command 97 = .ok (.invokevirtual 49, 3) := dk_182 0 49 (dk_at dksX5_command_4 4 rfl rfl)
theorem dX5_command_100 : decode cX5_command 100 = .ok (.aload_n 0, 1) := dk_42 (dk_at dksX5_command_4 7 rfl rfl)
theorem dX5_command_101 : decode cX5_command 101 = .ok (.dup, 1) := dk_89 (dk_at dksX5_command_4 8 rfl rfl)
theorem dX5_command_102 : decode cX5_command 102 = .ok (.getfield 26, 3) := dk_180 0 26 (dk_at dksX5_command_4 9 rfl rfl)
theorem dX5_command_105 : decode cX5_command 105 = .ok (.iconst 1, 1) := dk_4 (dk_at dksX5_command_4 12 rfl rfl)
theorem dX5_command_106 : decode cX5_command 106 = .ok (.iadd, 1) := dk_96 (dk_at dksX5_command_4 13 rfl rfl)
theorem dX5_command_107 : decode cX5_command 107 = .ok (.putfield 26, 3) := dk_181 0 26 (dk_at dksX5_command_4 14 rfl rfl)
theorem dX5_command_110 : decode cX5_command 110 = .ok (.aload_n 0, 1) := dk_42 (dk_at dksX5_command_4 17 rfl rfl)
theorem dX5_command_111 : decode cX5_command 111 = .ok (.invokevirtual 68, 3) := dk_182 0 68 (dk_at dksX5_command_4 18 rfl rfl)
theorem dX5_command_114 : decode cX5_command 114 = .ok (.istore 4, 2) := dk_54 4 (dk_at dksX5_command_4 21 rfl rfl)
theorem dX5_command_116 : decode cX5_command 116 = .ok (.new 71, 3) := dk_187 0 71 (dk_at dksX5_command_5 0 rfl rfl)
theorem dX5_command_119 : decode cX5_command 119 = .ok (.dup, 1) := dk_89 (dk_at dksX5_command_5 3 rfl rfl)
theorem dX5_command_120 : decode cX5_command 120 = .ok (.aload_n 0, 1) := dk_42 (dk_at dksX5_command_5 4 rfl rfl)
theorem dX5_command_121 : decode cX5_command 121 = .ok (.getfield 3, 3) := dk_180 0 3 (dk_at dksX5_command_5 5 rfl rfl)
theorem dX5_command_124 : decode cX5_command 124 = .ok (.iload_n 1, 1) := dk_27 (dk_at dksX5_command_5 8 rfl rfl)
theorem dX5_command_125 : decode cX5_command 125 = .ok (.iload_n 3, 1) := dk_29 (dk_at dksX5_command_5 9 rfl rfl)
theorem dX5_command_126 : decode cX5_command 126 = .ok (.iload 4, 2) := dk_21 4 (dk_at dksX5_command_5 10 rfl rfl)
theorem dX5_command_128 : decode cX5_command 128 = .ok (.invokespecial 73, 3) := dk_183 0 73 (dk_at dksX5_command_5 12 rfl rfl)
theorem dX5_command_131 : decode cX5_command 131 = .ok (.areturn, 1) := dk_176 (dk_at dksX5_command_5 15 rfl rfl)
abbrev cX5_number : ByteArray := prog_6_method_7_code
def yX5_number : MethodName := ⟨RX5, "number", "()I"⟩
def dkwX5_number_3 : List UInt8 := [172]
abbrev dktX5_number_3 : List UInt8 := dkwX5_number_3 ++ []
def dkwX5_number_2 : List UInt8 := [16, 10, 27, 104, 42, 182, 0, 41, 96, 16, 48, 100, 60, 42, 89, 180, 0, 26, 4, 96, 181, 0, 26, 27]
abbrev dktX5_number_2 : List UInt8 := dkwX5_number_2 ++ dktX5_number_3
def dkwX5_number_1 : List UInt8 := [89, 180, 0, 26, 4, 96, 181, 0, 26, 42, 182, 0, 41, 16, 48, 16, 57, 184, 0, 64, 153, 0, 26]
abbrev dktX5_number_1 : List UInt8 := dkwX5_number_1 ++ dktX5_number_2
def dkwX5_number_0 : List UInt8 := [42, 42, 182, 0, 41, 16, 48, 16, 57, 184, 0, 64, 182, 0, 49, 42, 182, 0, 41, 16, 48, 100, 60, 42]
abbrev dktX5_number_0 : List UInt8 := dkwX5_number_0 ++ dktX5_number_1
theorem dksX5_number_0 : cX5_number.data.toList.drop 0 = dktX5_number_0 := by decide +kernel
theorem dksX5_number_1 : cX5_number.data.toList.drop 24 = dktX5_number_1 := dk_seg dksX5_number_0 24 rfl rfl
theorem dksX5_number_2 : cX5_number.data.toList.drop 47 = dktX5_number_2 := dk_seg dksX5_number_1 23 rfl rfl
theorem dksX5_number_3 : cX5_number.data.toList.drop 71 = dktX5_number_3 := dk_seg dksX5_number_2 24 rfl rfl
theorem dX5_number_0 : decode cX5_number 0 = .ok (.aload_n 0, 1) := dk_42 (dk_at dksX5_number_0 0 rfl rfl)
theorem dX5_number_1 : decode cX5_number 1 = .ok (.aload_n 0, 1) := dk_42 (dk_at dksX5_number_0 1 rfl rfl)
theorem dX5_number_2 : decode cX5_number 2 = .ok (.invokevirtual 41, 3) := dk_182 0 41 (dk_at dksX5_number_0 2 rfl rfl)
theorem dX5_number_5 : decode cX5_number 5 = .ok (.bipush 48, 2) := dk_16 48 (dk_at dksX5_number_0 5 rfl rfl)
theorem dX5_number_7 : decode cX5_number 7 = .ok (.bipush 57, 2) := dk_16 57 (dk_at dksX5_number_0 7 rfl rfl)
theorem dX5_number_9 : decode cX5_number 9 = .ok (.invokestatic 64, 3) := dk_184 0 64 (dk_at dksX5_number_0 9 rfl rfl)
theorem dX5_number_12 : decode cX5_number 12 = .ok (.invokevirtual 49, 3) := dk_182 0 49 (dk_at dksX5_number_0 12 rfl rfl)
theorem dX5_number_15 : decode cX5_number 15 = .ok (.aload_n 0, 1) := dk_42 (dk_at dksX5_number_0 15 rfl rfl)
theorem dX5_number_16 : decode cX5_number 16 = .ok (.invokevirtual 41, 3) := dk_182 0 41 (dk_at dksX5_number_0 16 rfl rfl)
theorem dX5_number_19 : decode cX5_number 19 = .ok (.bipush 48, 2) := dk_16 48 (dk_at dksX5_number_0 19 rfl rfl)
theorem dX5_number_21 : decode cX5_number 21 = .ok (.isub, 1) := dk_100 (dk_at dksX5_number_0 21 rfl rfl)
theorem dX5_number_22 : decode cX5_number 22 = .ok (.istore_n 1, 1) := dk_60 (dk_at dksX5_number_0 22 rfl rfl)
theorem dX5_number_23 : decode cX5_number 23 = .ok (.aload_n 0, 1) := dk_42 (dk_at dksX5_number_0 23 rfl rfl)
theorem dX5_number_24 : decode cX5_number 24 = .ok (.dup, 1) := dk_89 (dk_at dksX5_number_1 0 rfl rfl)
theorem dX5_number_25 : decode cX5_number 25 = .ok (.getfield 26, 3) := dk_180 0 26 (dk_at dksX5_number_1 1 rfl rfl)
theorem dX5_number_28 : decode cX5_number 28 = .ok (.iconst 1, 1) := dk_4 (dk_at dksX5_number_1 4 rfl rfl)
theorem dX5_number_29 : decode cX5_number 29 = .ok (.iadd, 1) := dk_96 (dk_at dksX5_number_1 5 rfl rfl)
theorem dX5_number_30 : decode cX5_number 30 = .ok (.putfield 26, 3) := dk_181 0 26 (dk_at dksX5_number_1 6 rfl rfl)
theorem dX5_number_33 : decode cX5_number 33 = .ok (.aload_n 0, 1) := dk_42 (dk_at dksX5_number_1 9 rfl rfl)
theorem dX5_number_34 : decode cX5_number 34 = .ok (.invokevirtual 41, 3) := dk_182 0 41 (dk_at dksX5_number_1 10 rfl rfl)
theorem dX5_number_37 : decode cX5_number 37 = .ok (.bipush 48, 2) := dk_16 48 (dk_at dksX5_number_1 13 rfl rfl)
theorem dX5_number_39 : decode cX5_number 39 = .ok (.bipush 57, 2) := dk_16 57 (dk_at dksX5_number_1 15 rfl rfl)
theorem dX5_number_41 : decode cX5_number 41 = .ok (.invokestatic 64, 3) := dk_184 0 64 (dk_at dksX5_number_1 17 rfl rfl)
theorem dX5_number_44 : decode cX5_number 44 = .ok (.ifCond .eq 26, 3) := dk_153 0 26 (dk_at dksX5_number_1 20 rfl rfl)
theorem dX5_number_47 : decode cX5_number 47 = .ok (.bipush 10, 2) := dk_16 10 (dk_at dksX5_number_2 0 rfl rfl)
theorem dX5_number_49 : decode cX5_number 49 = .ok (.iload_n 1, 1) := dk_27 (dk_at dksX5_number_2 2 rfl rfl)
theorem dX5_number_50 : decode cX5_number 50 = .ok (.imul, 1) := dk_104 (dk_at dksX5_number_2 3 rfl rfl)
theorem dX5_number_51 : decode cX5_number 51 = .ok (.aload_n 0, 1) := dk_42 (dk_at dksX5_number_2 4 rfl rfl)
theorem dX5_number_52 : decode cX5_number 52 = .ok (.invokevirtual 41, 3) := dk_182 0 41 (dk_at dksX5_number_2 5 rfl rfl)
theorem dX5_number_55 : decode cX5_number 55 = .ok (.iadd, 1) := dk_96 (dk_at dksX5_number_2 8 rfl rfl)
theorem dX5_number_56 : decode cX5_number 56 = .ok (.bipush 48, 2) := dk_16 48 (dk_at dksX5_number_2 9 rfl rfl)
theorem dX5_number_58 : decode cX5_number 58 = .ok (.isub, 1) := dk_100 (dk_at dksX5_number_2 11 rfl rfl)
theorem dX5_number_59 : decode cX5_number 59 = .ok (.istore_n 1, 1) := dk_60 (dk_at dksX5_number_2 12 rfl rfl)
theorem dX5_number_60 : decode cX5_number 60 = .ok (.aload_n 0, 1) := dk_42 (dk_at dksX5_number_2 13 rfl rfl)
theorem dX5_number_61 : decode cX5_number 61 = .ok (.dup, 1) := dk_89 (dk_at dksX5_number_2 14 rfl rfl)
theorem dX5_number_62 : decode cX5_number 62 = .ok (.getfield 26, 3) := dk_180 0 26 (dk_at dksX5_number_2 15 rfl rfl)
theorem dX5_number_65 : decode cX5_number 65 = .ok (.iconst 1, 1) := dk_4 (dk_at dksX5_number_2 18 rfl rfl)
theorem dX5_number_66 : decode cX5_number 66 = .ok (.iadd, 1) := dk_96 (dk_at dksX5_number_2 19 rfl rfl)
theorem dX5_number_67 : decode cX5_number 67 = .ok (.putfield 26, 3) := dk_181 0 26 (dk_at dksX5_number_2 20 rfl rfl)
theorem dX5_number_70 : decode cX5_number 70 = .ok (.iload_n 1, 1) := dk_27 (dk_at dksX5_number_2 23 rfl rfl)
theorem dX5_number_71 : decode cX5_number 71 = .ok (.ireturn, 1) := dk_172 (dk_at dksX5_number_3 0 rfl rfl)
theorem q118 : (Jvm.Cond.initialized "SwarmPlanner$Reader") ∈ lw_all := lw_g (lw_at lw_m1 15 rfl) rfl
theorem q239 : (Jvm.Cond.fieldLinkNest "SwarmPlanner$Reader" (32 : Nat) "SwarmPlanner" "tape" "[B" "SwarmPlanner") ∈ lw_tbl := lw_at lw_m1 136 rfl
theorem q241 : (Jvm.Cond.fieldLinkNest "SwarmPlanner$Reader" (29 : Nat) "SwarmPlanner" "taped" "I" "SwarmPlanner") ∈ lw_tbl := lw_at lw_m1 138 rfl
theorem q402 : (Jvm.Cond.selects "SwarmPlanner$Reader" ({ cls := "java/lang/Object", name := "getClass", desc := "()Ljava/lang/Class;" } : Jvm.MethodName) ({ cls := "java/lang/Object", name := "getClass", desc := "()Ljava/lang/Class;" } : Jvm.MethodName)) ∈ lw_all := lw_g (lw_at lw_m2 59 rfl) rfl
theorem q508 : (Jvm.Cond.instantiable "SwarmPlanner$Reader" (6 : Nat)) ∈ lw_all := lw_g (lw_at lw_m2 165 rfl) rfl
theorem q510 : (Jvm.Cond.instanceMethod ({ cls := "SwarmPlanner$Reader", name := "<init>", desc := "(LSwarmPlanner;)V" } : Jvm.MethodName)) ∈ lw_all := lw_g (lw_at lw_m2 167 rfl) rfl
theorem q511 : (Jvm.Cond.code ({ cls := "SwarmPlanner$Reader", name := "<init>", desc := "(LSwarmPlanner;)V" } : Jvm.MethodName) prog_6_method_1_code (2 : Nat) (Option.none : Option Jvm.ClassFile.FieldType)) ∈ lw_all := lw_g (lw_at lw_m2 168 rfl) rfl
theorem q512 : (Jvm.Cond.methodLink "SwarmPlanner$Reader" (9 : Nat) ({ cls := "java/lang/Object", name := "<init>", desc := "()V" } : Jvm.MethodName)) ∈ lw_all := lw_g (lw_at lw_m2 169 rfl) rfl
theorem q513 : (Jvm.Cond.fieldLink "SwarmPlanner$Reader" (15 : Nat) "SwarmPlanner$Reader" "columns" "[I") ∈ lw_all := lw_g (lw_at lw_m2 170 rfl) rfl
theorem q514 : (Jvm.Cond.fieldLink "SwarmPlanner$Reader" (19 : Nat) "SwarmPlanner$Reader" "rows" "[I") ∈ lw_all := lw_g (lw_at lw_m2 171 rfl) rfl
theorem q515 : (Jvm.Cond.fieldLink "SwarmPlanner$Reader" (53 : Nat) "SwarmPlanner$Reader" "many" "I") ∈ lw_all := lw_g (lw_at lw_m2 172 rfl) rfl
theorem q516 : (Jvm.Cond.fieldLink "SwarmPlanner$Reader" (22 : Nat) "SwarmPlanner$Reader" "anchor" "I") ∈ lw_all := lw_g (lw_at lw_m2 173 rfl) rfl
theorem q517 : (Jvm.Cond.fieldLink "SwarmPlanner$Reader" (26 : Nat) "SwarmPlanner$Reader" "at" "I") ∈ lw_all := lw_g (lw_at lw_m2 174 rfl) rfl
theorem q518 : (Jvm.Cond.fieldLink "SwarmPlanner$Reader" (3 : Nat) "SwarmPlanner$Reader" "this$0" "LSwarmPlanner;") ∈ lw_all := lw_g (lw_at lw_m2 175 rfl) rfl
theorem q519 : (Jvm.Cond.laysFinal "SwarmPlanner$Reader" "SwarmPlanner$Reader" "columns" "[I") ∈ lw_all := lw_g (lw_at lw_m2 176 rfl) rfl
theorem q520 : (Jvm.Cond.soleField "SwarmPlanner$Reader" "columns") ∈ lw_all := lw_g (lw_at lw_m2 177 rfl) rfl
theorem q521 : (Jvm.Cond.laysFinal "SwarmPlanner$Reader" "SwarmPlanner$Reader" "rows" "[I") ∈ lw_all := lw_g (lw_at lw_m2 178 rfl) rfl
theorem q522 : (Jvm.Cond.soleField "SwarmPlanner$Reader" "rows") ∈ lw_all := lw_g (lw_at lw_m2 179 rfl) rfl
theorem q523 : (Jvm.Cond.lays "SwarmPlanner$Reader" "SwarmPlanner$Reader" "many" "I") ∈ lw_all := lw_g (lw_at lw_m2 180 rfl) rfl
theorem q524 : (Jvm.Cond.soleField "SwarmPlanner$Reader" "many") ∈ lw_all := lw_g (lw_at lw_m2 181 rfl) rfl
theorem q525 : (Jvm.Cond.lays "SwarmPlanner$Reader" "SwarmPlanner$Reader" "anchor" "I") ∈ lw_all := lw_g (lw_at lw_m2 182 rfl) rfl
theorem q526 : (Jvm.Cond.soleField "SwarmPlanner$Reader" "anchor") ∈ lw_all := lw_g (lw_at lw_m2 183 rfl) rfl
theorem q527 : (Jvm.Cond.lays "SwarmPlanner$Reader" "SwarmPlanner$Reader" "at" "I") ∈ lw_all := lw_g (lw_at lw_m2 184 rfl) rfl
theorem q528 : (Jvm.Cond.soleField "SwarmPlanner$Reader" "at") ∈ lw_all := lw_g (lw_at lw_m2 185 rfl) rfl
theorem q529 : (Jvm.Cond.laysFinal "SwarmPlanner$Reader" "SwarmPlanner$Reader" "this$0" "LSwarmPlanner;") ∈ lw_all := lw_g (lw_at lw_m2 186 rfl) rfl
theorem q530 : (Jvm.Cond.soleField "SwarmPlanner$Reader" "this$0") ∈ lw_all := lw_g (lw_at lw_m2 187 rfl) rfl
theorem q531 : (Jvm.Cond.superclass "SwarmPlanner$Reader" "java/lang/Object") ∈ lw_all := lw_g (lw_at lw_m2 188 rfl) rfl
theorem q533 : (Jvm.Cond.instanceMethod ({ cls := "SwarmPlanner$Reader", name := "shape", desc := "()LSwarmPlanner$Shape;" } : Jvm.MethodName)) ∈ lw_all := lw_g (lw_at lw_m2 190 rfl) rfl
theorem q534 : (Jvm.Cond.selects "SwarmPlanner$Reader" ({ cls := "SwarmPlanner$Reader", name := "shape", desc := "()LSwarmPlanner$Shape;" } : Jvm.MethodName) ({ cls := "SwarmPlanner$Reader", name := "shape", desc := "()LSwarmPlanner$Shape;" } : Jvm.MethodName)) ∈ lw_all := lw_g (lw_at lw_m2 191 rfl) rfl
theorem q535 : (Jvm.Cond.code ({ cls := "SwarmPlanner$Reader", name := "shape", desc := "()LSwarmPlanner$Shape;" } : Jvm.MethodName) prog_6_method_6_code (2 : Nat) (Option.some (Jvm.ClassFile.FieldType.object "SwarmPlanner$Shape"))) ∈ lw_all := lw_g (lw_at lw_m2 192 rfl) rfl
theorem q536 : (Jvm.Cond.methodLink "SwarmPlanner$Reader" (56 : Nat) ({ cls := "SwarmPlanner$Reader", name := "shapeRow", desc := "(I)V" } : Jvm.MethodName)) ∈ lw_all := lw_g (lw_at lw_m2 193 rfl) rfl
theorem q537 : (Jvm.Cond.privateMethod ({ cls := "SwarmPlanner$Reader", name := "shapeRow", desc := "(I)V" } : Jvm.MethodName)) ∈ lw_tbl := lw_at lw_m2 194 rfl
theorem q538 : (Jvm.Cond.instanceMethod ({ cls := "SwarmPlanner$Reader", name := "shapeRow", desc := "(I)V" } : Jvm.MethodName)) ∈ lw_all := lw_g (lw_at lw_m2 195 rfl) rfl
theorem q539 : (Jvm.Cond.code ({ cls := "SwarmPlanner$Reader", name := "shapeRow", desc := "(I)V" } : Jvm.MethodName) prog_6_method_5_code (3 : Nat) (Option.none : Option Jvm.ClassFile.FieldType)) ∈ lw_all := lw_g (lw_at lw_m2 196 rfl) rfl
theorem q540 : (Jvm.Cond.methodLink "SwarmPlanner$Reader" (45 : Nat) ({ cls := "SwarmPlanner$Reader", name := "isSlot", desc := "()Z" } : Jvm.MethodName)) ∈ lw_all := lw_g (lw_at lw_m2 197 rfl) rfl
theorem q541 : (Jvm.Cond.privateMethod ({ cls := "SwarmPlanner$Reader", name := "isSlot", desc := "()Z" } : Jvm.MethodName)) ∈ lw_tbl := lw_at lw_m2 198 rfl
theorem q542 : (Jvm.Cond.instanceMethod ({ cls := "SwarmPlanner$Reader", name := "isSlot", desc := "()Z" } : Jvm.MethodName)) ∈ lw_all := lw_g (lw_at lw_m2 199 rfl) rfl
theorem q543 : (Jvm.Cond.code ({ cls := "SwarmPlanner$Reader", name := "isSlot", desc := "()Z" } : Jvm.MethodName) prog_6_method_4_code (1 : Nat) (Option.some Jvm.ClassFile.FieldType.boolean)) ∈ lw_all := lw_g (lw_at lw_m2 200 rfl) rfl
theorem q544 : (Jvm.Cond.methodLink "SwarmPlanner$Reader" (41 : Nat) ({ cls := "SwarmPlanner$Reader", name := "sign", desc := "()I" } : Jvm.MethodName)) ∈ lw_all := lw_g (lw_at lw_m2 201 rfl) rfl
theorem q545 : (Jvm.Cond.privateMethod ({ cls := "SwarmPlanner$Reader", name := "sign", desc := "()I" } : Jvm.MethodName)) ∈ lw_tbl := lw_at lw_m2 202 rfl
theorem q546 : (Jvm.Cond.instanceMethod ({ cls := "SwarmPlanner$Reader", name := "sign", desc := "()I" } : Jvm.MethodName)) ∈ lw_all := lw_g (lw_at lw_m2 203 rfl) rfl
theorem q547 : (Jvm.Cond.code ({ cls := "SwarmPlanner$Reader", name := "sign", desc := "()I" } : Jvm.MethodName) prog_6_method_2_code (1 : Nat) (Option.some Jvm.ClassFile.FieldType.int)) ∈ lw_all := lw_g (lw_at lw_m2 204 rfl) rfl
theorem q548 : (Jvm.Cond.methodLink "SwarmPlanner$Reader" (49 : Nat) ({ cls := "SwarmPlanner$Reader", name := "need", desc := "(Z)V" } : Jvm.MethodName)) ∈ lw_all := lw_g (lw_at lw_m2 205 rfl) rfl
theorem q549 : (Jvm.Cond.privateMethod ({ cls := "SwarmPlanner$Reader", name := "need", desc := "(Z)V" } : Jvm.MethodName)) ∈ lw_tbl := lw_at lw_m2 206 rfl
theorem q550 : (Jvm.Cond.instanceMethod ({ cls := "SwarmPlanner$Reader", name := "need", desc := "(Z)V" } : Jvm.MethodName)) ∈ lw_all := lw_g (lw_at lw_m2 207 rfl) rfl
theorem q551 : (Jvm.Cond.code ({ cls := "SwarmPlanner$Reader", name := "need", desc := "(Z)V" } : Jvm.MethodName) prog_6_method_3_code (2 : Nat) (Option.none : Option Jvm.ClassFile.FieldType)) ∈ lw_all := lw_g (lw_at lw_m2 208 rfl) rfl
theorem q552 : (Jvm.Cond.classLink "SwarmPlanner$Reader" (36 : Nat) "SwarmPlanner$Wrong") ∈ lw_all := lw_g (lw_at lw_m2 209 rfl) rfl
theorem q589 : (Jvm.Cond.methodLink "SwarmPlanner$Reader" (38 : Nat) ({ cls := "SwarmPlanner$Wrong", name := "<init>", desc := "(I)V" } : Jvm.MethodName)) ∈ lw_all := lw_g (lw_at lw_m3 6 rfl) rfl
theorem q615 : (Jvm.Cond.classLink "SwarmPlanner$Reader" (59 : Nat) "SwarmPlanner$Shape") ∈ lw_all := lw_g (lw_at lw_m3 32 rfl) rfl
theorem q617 : (Jvm.Cond.methodLink "SwarmPlanner$Reader" (61 : Nat) ({ cls := "SwarmPlanner$Shape", name := "<init>", desc := "(I[I[II)V" } : Jvm.MethodName)) ∈ lw_all := lw_g (lw_at lw_m3 34 rfl) rfl
theorem q911 : (Jvm.Cond.instanceMethod ({ cls := "SwarmPlanner$Reader", name := "commands", desc := "()Ljava/util/ArrayList;" } : Jvm.MethodName)) ∈ lw_all := lw_g (lw_at lw_m4 88 rfl) rfl
theorem q912 : (Jvm.Cond.selects "SwarmPlanner$Reader" ({ cls := "SwarmPlanner$Reader", name := "commands", desc := "()Ljava/util/ArrayList;" } : Jvm.MethodName) ({ cls := "SwarmPlanner$Reader", name := "commands", desc := "()Ljava/util/ArrayList;" } : Jvm.MethodName)) ∈ lw_all := lw_g (lw_at lw_m4 89 rfl) rfl
theorem q913 : (Jvm.Cond.code ({ cls := "SwarmPlanner$Reader", name := "commands", desc := "()Ljava/util/ArrayList;" } : Jvm.MethodName) prog_6_method_9_code (2 : Nat) (Option.some (Jvm.ClassFile.FieldType.object "java/util/ArrayList"))) ∈ lw_all := lw_g (lw_at lw_m4 90 rfl) rfl
theorem q914 : (Jvm.Cond.classLink "SwarmPlanner$Reader" (76 : Nat) "java/util/ArrayList") ∈ lw_all := lw_g (lw_at lw_m4 91 rfl) rfl
theorem q915 : (Jvm.Cond.methodLink "SwarmPlanner$Reader" (78 : Nat) ({ cls := "java/util/ArrayList", name := "<init>", desc := "()V" } : Jvm.MethodName)) ∈ lw_all := lw_g (lw_at lw_m4 92 rfl) rfl
theorem q916 : (Jvm.Cond.methodLink "SwarmPlanner$Reader" (79 : Nat) ({ cls := "SwarmPlanner$Reader", name := "command", desc := "()LSwarmPlanner$Command;" } : Jvm.MethodName)) ∈ lw_all := lw_g (lw_at lw_m4 93 rfl) rfl
theorem q917 : (Jvm.Cond.privateMethod ({ cls := "SwarmPlanner$Reader", name := "command", desc := "()LSwarmPlanner$Command;" } : Jvm.MethodName)) ∈ lw_tbl := lw_at lw_m4 94 rfl
theorem q918 : (Jvm.Cond.instanceMethod ({ cls := "SwarmPlanner$Reader", name := "command", desc := "()LSwarmPlanner$Command;" } : Jvm.MethodName)) ∈ lw_all := lw_g (lw_at lw_m4 95 rfl) rfl
theorem q919 : (Jvm.Cond.code ({ cls := "SwarmPlanner$Reader", name := "command", desc := "()LSwarmPlanner$Command;" } : Jvm.MethodName) prog_6_method_8_code (5 : Nat) (Option.some (Jvm.ClassFile.FieldType.object "SwarmPlanner$Command"))) ∈ lw_all := lw_g (lw_at lw_m4 96 rfl) rfl
theorem q920 : (Jvm.Cond.methodLink "SwarmPlanner$Reader" (68 : Nat) ({ cls := "SwarmPlanner$Reader", name := "number", desc := "()I" } : Jvm.MethodName)) ∈ lw_all := lw_g (lw_at lw_m4 97 rfl) rfl
theorem q921 : (Jvm.Cond.privateMethod ({ cls := "SwarmPlanner$Reader", name := "number", desc := "()I" } : Jvm.MethodName)) ∈ lw_tbl := lw_at lw_m4 98 rfl
theorem q922 : (Jvm.Cond.instanceMethod ({ cls := "SwarmPlanner$Reader", name := "number", desc := "()I" } : Jvm.MethodName)) ∈ lw_all := lw_g (lw_at lw_m4 99 rfl) rfl
theorem q923 : (Jvm.Cond.code ({ cls := "SwarmPlanner$Reader", name := "number", desc := "()I" } : Jvm.MethodName) prog_6_method_7_code (2 : Nat) (Option.some Jvm.ClassFile.FieldType.int)) ∈ lw_all := lw_g (lw_at lw_m4 100 rfl) rfl
theorem q924 : (Jvm.Cond.methodLinkNest "SwarmPlanner$Reader" (64 : Nat) ({ cls := "SwarmPlanner", name := "in", desc := "(III)Z" } : Jvm.MethodName) "SwarmPlanner") ∈ lw_tbl := lw_at lw_m4 101 rfl
theorem q925 : (Jvm.Cond.classLink "SwarmPlanner$Reader" (71 : Nat) "SwarmPlanner$Command") ∈ lw_all := lw_g (lw_at lw_m4 102 rfl) rfl
theorem q927 : (Jvm.Cond.methodLink "SwarmPlanner$Reader" (73 : Nat) ({ cls := "SwarmPlanner$Command", name := "<init>", desc := "(LSwarmPlanner;III)V" } : Jvm.MethodName)) ∈ lw_all := lw_g (lw_at lw_m4 104 rfl) rfl
theorem q944 : (Jvm.Cond.methodLink "SwarmPlanner$Reader" (83 : Nat) ({ cls := "java/util/ArrayList", name := "add", desc := "(Ljava/lang/Object;)Z" } : Jvm.MethodName)) ∈ lw_all := lw_g (lw_at lw_m4 121 rfl) rfl
theorem q1490 : (Jvm.Cond.castable "SwarmPlanner$Reader" "java/lang/Object") ∈ lw_tbl := lw_at lw_m6 187 rfl
theorem in_X5 : ∀ w ∈ wsX50, w ∈ lw_all := lw_in wsX50 [519, 521, 523, 525, 527, 529] (by decide +kernel) (by decide +kernel)
