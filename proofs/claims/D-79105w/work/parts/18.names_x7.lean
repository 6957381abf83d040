/-! SwarmPlanner$Shape -/
set_option maxRecDepth 100000
def RX7 : String := "SwarmPlanner$Shape"
def TX7 : u_T := fun k => match k with
  | 0 => ("SwarmPlanner$Shape", "columns", "[I", true)
  | 1 => ("SwarmPlanner$Shape", "rows", "[I", true)
  | _ => ("SwarmPlanner$Shape", "anchor", "I", true)
def tyX7 : Nat → FieldType := fun k => match k with
  | 0 => .array .int
  | 1 => .array .int
  | _ => .int
abbrev wsX70 : List Cond := u_ws RX7 TX7 3
theorem nmX7 : ∀ a, a < 3 → ∀ b, b < 3 → a ≠ b → (TX7 a).2.1 ≠ (TX7 b).2.1 := by decide +kernel
theorem tyX7_ok : ∀ k, k < 3 → parseFieldDescriptor (TX7 k).2.2.1 = some (tyX7 k) := by decide +kernel
abbrev cX7_init : ByteArray := prog_7_method_2_code
def yX7_init : MethodName := ⟨RX7, "<init>", "(I[I[II)V"⟩
def dkwX7_init_2 : List UInt8 := [46, 45, 21, 4, 46, 100, 79, 132, 5, 1, 167, 255, 215, 177]
abbrev dktX7_init_2 : List UInt8 := dkwX7_init_2 ++ []
def dkwX7_init_1 : List UInt8 := [180, 0, 9, 21, 5, 44, 21, 5, 46, 44, 21, 4, 46, 100, 79, 42, 180, 0, 15, 21, 5, 45, 21, 5]
abbrev dktX7_init_1 : List UInt8 := dkwX7_init_1 ++ dktX7_init_2
def dkwX7_init_0 : List UInt8 := [42, 27, 188, 10, 27, 188, 10, 21, 4, 183, 0, 22, 3, 54, 5, 21, 5, 27, 162, 0, 41, 42]
abbrev dktX7_init_0 : List UInt8 := dkwX7_init_0 ++ dktX7_init_1
theorem dksX7_init_0 : cX7_init.data.toList.drop 0 = dktX7_init_0 := by decide +kernel
theorem dksX7_init_1 : cX7_init.data.toList.drop 22 = dktX7_init_1 := dk_seg dksX7_init_0 22 rfl rfl
theorem dksX7_init_2 : cX7_init.data.toList.drop 46 = dktX7_init_2 := dk_seg dksX7_init_1 24 rfl rfl
theorem dX7_init_0 : decode cX7_init 0 = .ok (.aload_n 0, 1) := dk_42 (dk_at dksX7_init_0 0 rfl rfl)
theorem dX7_init_1 : decode cX7_init 1 = .ok (.iload_n 1, 1) := dk_27 (dk_at dksX7_init_0 1 rfl rfl)
theorem dX7_init_2 : decode cX7_init 2 = .ok (.newarray .int, 2) := dk_188_10 (dk_at dksX7_init_0 2 rfl rfl)
theorem dX7_init_4 : decode cX7_init 4 = .ok (.iload_n 1, 1) := dk_27 (dk_at dksX7_init_0 4 rfl rfl)
theorem dX7_init_5 : decode cX7_init 5 = .ok (.newarray .int, 2) := dk_188_10 (dk_at dksX7_init_0 5 rfl rfl)
theorem dX7_init_7 : decode cX7_init 7 = .ok (.iload 4, 2) := dk_21 4 (dk_at dksX7_init_0 7 rfl rfl)
theorem dX7_init_9 : decode cX7_init 9 = .ok (.invokespecial 22, 3) := dk_183 0 22 (dk_at dksX7_init_0 9 rfl rfl)
theorem dX7_init_12 : decode cX7_init 12 = .ok (.iconst 0, 1) := dk_3 (dk_at dksX7_init_0 12 rfl rfl)
theorem dX7_init_13 : decode cX7_init 13 = .ok (.istore 5, 2) := dk_54 5 (dk_at dksX7_init_0 13 rfl rfl)
theorem dX7_init_15 : decode cX7_init 15 = .ok (.iload 5, 2) := dk_21 5 (dk_at dksX7_init_0 15 rfl rfl)
theorem dX7_init_17 : decode cX7_init 17 = .ok (.iload_n 1, 1) := dk_27 (dk_at dksX7_init_0 17 rfl rfl)
theorem dX7_init_18 : decode cX7_init 18 = .ok (.if_icmp .ge 41, 3) := dk_162 0 41 (dk_at dksX7_init_0 18 rfl rfl)
theorem dX7_init_21 : decode cX7_init 21 = .ok (.aload_n 0, 1) := dk_42 (dk_at dksX7_init_0 21 rfl rfl)
theorem dX7_init_22 : decode cX7_init 22 = .ok (.getfield 9, 3) := dk_180 0 9 (dk_at dksX7_init_1 0 rfl rfl)
theorem dX7_init_25 : decode cX7_init 25 = .ok (.iload 5, 2) := dk_21 5 (dk_at dksX7_init_1 3 rfl rfl)
theorem dX7_init_27 : decode cX7_init 27 = .ok (.aload_n 2, 1) := dk_44 (dk_at dksX7_init_1 5 rfl rfl)
theorem dX7_init_28 : decode cX7_init 28 = .ok (.iload 5, 2) := dk_21 5 (dk_at dksX7_init_1 6 rfl rfl)
theorem dX7_init_30 : decode cX7_init 30 = .ok (.iaload, 1) := dk_46 (dk_at dksX7_init_1 8 rfl rfl)
theorem dX7_init_31 : decode cX7_init 31 = .ok (.aload_n 2, 1) := dk_44 (dk_at dksX7_init_1 9 rfl rfl)
theorem dX7_init_32 : decode cX7_init 32 = .ok (.iload 4, 2) := dk_21 4 (dk_at dksX7_init_1 10 rfl rfl)
theorem dX7_init_34 : decode cX7_init 34 = .ok (.iaload, 1) := dk_46 (dk_at dksX7_init_1 12 rfl rfl)
theorem dX7_init_35 : decode cX7_init 35 = .ok (.isub, 1) := dk_100 (dk_at dksX7_init_1 13 rfl rfl)
theorem dX7_init_36 : decode cX7_init 36 = .ok (.iastore, 1) := dk_79 (dk_at dksX7_init_1 14 rfl rfl)
theorem dX7_init_37 : decode cX7_init 37 = .ok (.aload_n 0, 1) := dk_42 (dk_at dksX7_init_1 15 rfl rfl)
theorem dX7_init_38 : decode cX7_init 38 = .ok (.getfield 15, 3) := dk_180 0 15 (dk_at dksX7_init_1 16 rfl rfl)
theorem dX7_init_41 : decode cX7_init 41 = .ok (.iload 5, 2) := dk_21 5 (dk_at dksX7_init_1 19 rfl rfl)
theorem dX7_init_43 : decode cX7_init 43 = .ok (.aload_n 3, 1) := dk_45 (dk_at dksX7_init_1 21 rfl rfl)
theorem dX7_init_44 : decode cX7_init 44 = .ok (.iload 5, 2) := dk_21 5 (dk_at dksX7_init_1 22 rfl rfl)
theorem dX7_init_46 : decode cX7_init 46 = .ok (.iaload, 1) := dk_46 (dk_at dksX7_init_2 0 rfl rfl)
theorem dX7_init_47 : decode cX7_init 47 = .ok (.aload_n 3, 1) := dk_45 (dk_at dksX7_init_2 1 rfl rfl)
theorem dX7_init_48 : decode cX7_init 48 = .ok (.iload 4, 2) := dk_21 4 (dk_at dksX7_init_2 2 rfl rfl)
theorem dX7_init_50 : decode cX7_init 50 = .ok (.iaload, 1) := dk_46 (dk_at dksX7_init_2 4 rfl rfl)
theorem dX7_init_51 : decode cX7_init 51 = .ok (.isub, 1) := dk_100 (dk_at dksX7_init_2 5 rfl rfl)
theorem dX7_init_52 : decode cX7_init 52 = .ok (.iastore, 1) := dk_79 (dk_at dksX7_init_2 6 rfl rfl)
theorem dX7_init_53 : decode cX7_init 53 = .ok (.iinc 5 1, 3) := dk_132 5 1 (dk_at dksX7_init_2 7 rfl rfl)
theorem dX7_init_56 : decode cX7_init 56 = .ok (.goto (-41), 3) := dk_167 255 215 (dk_at dksX7_init_2 10 rfl rfl)
theorem dX7_init_59 : decode cX7_init 59 = .ok (.return_, 1) := dk_177 (dk_at dksX7_init_2 13 rfl rfl)
abbrev cX7_init_2 : ByteArray := prog_7_method_1_code
def yX7_init_2 : MethodName := ⟨RX7, "<init>", "([I[II)V"⟩
def dkwX7_init_2_0 : List UInt8 := [42, 183, 0, 3, 42, 43, 181, 0, 9, 42, 44, 181, 0, 15, 42, 29, 181, 0, 18, 177]
abbrev dktX7_init_2_0 : List UInt8 := dkwX7_init_2_0 ++ []
theorem dksX7_init_2_0 : cX7_init_2.data.toList.drop 0 = dktX7_init_2_0 := by decide +kernel
theorem dX7_init_2_0 : decode cX7_init_2 0 = .ok (.aload_n 0, 1) := dk_42 (dk_at dksX7_init_2_0 0 rfl rfl)
theorem dX7_init_2_1 : decode cX7_init_2 1 = .ok (.invokespecial 3, 3) := dk_183 0 3 (dk_at dksX7_init_2_0 1 rfl rfl)
theorem dX7_init_2_4 : decode cX7_init_2 4 = .ok (.aload_n 0, 1) := dk_42 (dk_at dksX7_init_2_0 4 rfl rfl)
theorem dX7_init_2_5 : decode cX7_init_2 5 = .ok (.aload_n 1, 1) := dk_43 (dk_at dksX7_init_2_0 5 rfl rfl)
theorem dX7_init_2_6 : decode cX7_init_2 6 = .ok (.putfield 9, 3) := dk_181 0 9 (dk_at dksX7_init_2_0 6 rfl rfl)
theorem dX7_init_2_9 : decode cX7_init_2 9 = .ok (.aload_n 0, 1) := dk_42 (dk_at dksX7_init_2_0 9 rfl rfl)
theorem dX7_init_2_10 : decode cX7_init_2 10 = .ok (.aload_n 2, 1) := dk_44 (dk_at dksX7_init_2_0 10 rfl rfl)
theorem dX7_init_2_11 : decode cX7_init_2 11 = .ok (.putfield 15, 3) := dk_181 0 15 (dk_at dksX7_init_2_0 11 rfl rfl)
theorem dX7_init_2_14 : decode cX7_init_2 14 = .ok (.aload_n 0, 1) := dk_42 (dk_at dksX7_init_2_0 14 rfl rfl)
theorem dX7_init_2_15 : decode cX7_init_2 15 = .ok (.iload_n 3, 1) := dk_29 (dk_at dksX7_init_2_0 15 rfl rfl)
theorem dX7_init_2_16 : decode cX7_init_2 16 = .ok (.putfield 18, 3) := dk_181 0 18 (dk_at dksX7_init_2_0 16 rfl rfl)
theorem dX7_init_2_19 : decode cX7_init_2 19 = .ok (.return_, 1) := dk_177 (dk_at dksX7_init_2_0 19 rfl rfl)
abbrev cX7_size : ByteArray := prog_7_method_3_code
def yX7_size : MethodName := ⟨RX7, "size", "()I"⟩
def dkwX7_size_0 : List UInt8 := [42, 180, 0, 9, 190, 172]
abbrev dktX7_size_0 : List UInt8 := dkwX7_size_0 ++ []
theorem dksX7_size_0 : cX7_size.data.toList.drop 0 = dktX7_size_0 := by decide +kernel
theorem dX7_size_0 : decode cX7_size 0 = .ok (.aload_n 0, 1) := dk_42 (dk_at dksX7_size_0 0 rfl rfl)
theorem dX7_size_1 : decode cX7_size 1 = .ok (.getfield 9, 3) := dk_180 0 9 (dk_at dksX7_size_0 1 rfl rfl)
theorem dX7_size_4 : decode cX7_size 4 = .ok (.arraylength, 1) := dk_190 (dk_at dksX7_size_0 4 rfl rfl)
theorem dX7_size_5 : decode cX7_size 5 = .ok (.ireturn, 1) := dk_172 (dk_at dksX7_size_0 5 rfl rfl)
abbrev cX7_told : ByteArray := prog_7_method_4_code
def yX7_told : MethodName := ⟨RX7, "told", "(I)I"⟩
def dkwX7_told_3 : List UInt8 := [167, 0, 5, 16, 156, 172]
abbrev dktX7_told_3 : List UInt8 := dkwX7_told_3 ++ []
def dkwX7_told_2 : List UInt8 := [16, 29, 42, 182, 0, 25, 96, 184, 0, 29, 153, 0, 15, 42, 180, 0, 15, 27, 16, 30, 100, 46]
abbrev dktX7_told_2 : List UInt8 := dkwX7_told_2 ++ dktX7_told_3
def dkwX7_told_1 : List UInt8 := [42, 182, 0, 25, 96, 184, 0, 29, 153, 0, 13, 42, 180, 0, 9, 27, 16, 10, 100, 46, 172, 27, 16, 30]
abbrev dktX7_told_1 : List UInt8 := dkwX7_told_1 ++ dktX7_told_2
def dkwX7_told_0 : List UInt8 := [27, 154, 0, 8, 42, 182, 0, 25, 172, 27, 4, 160, 0, 8, 42, 180, 0, 18, 172, 27, 16, 10, 16, 9]
abbrev dktX7_told_0 : List UInt8 := dkwX7_told_0 ++ dktX7_told_1
theorem dksX7_told_0 : cX7_told.data.toList.drop 0 = dktX7_told_0 := by decide +kernel
theorem dksX7_told_1 : cX7_told.data.toList.drop 24 = dktX7_told_1 := dk_seg dksX7_told_0 24 rfl rfl
theorem dksX7_told_2 : cX7_told.data.toList.drop 48 = dktX7_told_2 := dk_seg dksX7_told_1 24 rfl rfl
theorem dksX7_told_3 : cX7_told.data.toList.drop 70 = dktX7_told_3 := dk_seg dksX7_told_2 22 rfl rfl
theorem dX7_told_0 : decode cX7_told 0 = .ok (.iload_n 1, 1) := dk_27 (dk_at dksX7_told_0 0 rfl rfl)
theorem dX7_told_1 : decode cX7_told 1 = .ok (.ifCond .ne 8, 3) := dk_154 0 8 (dk_at dksX7_told_0 1 rfl rfl)
theorem dX7_told_4 : decode cX7_told 4 = .ok (.aload_n 0, 1) := dk_42 (dk_at dksX7_told_0 4 rfl rfl)
theorem dX7_told_5 : decode cX7_told 5 = .ok (.invokevirtual 25, 3) := dk_182 0 25 (dk_at dksX7_told_0 5 rfl rfl)
theorem dX7_told_8 : decode cX7_told 8 = .ok (.ireturn, 1) := dk_172 (dk_at dksX7_told_0 8 rfl rfl)
theorem dX7_told_9 : decode cX7_told 9 = .ok (.iload_n 1, 1) := dk_27 (dk_at dksX7_told_0 9 rfl rfl)
theorem dX7_told_10 : decode cX7_told 10 = .ok (.iconst 1, 1) := dk_4 (dk_at dksX7_told_0 10 rfl rfl)
theorem dX7_told_11 : decode cX7_told 11 = .ok (.if_icmp .ne 8, 3) := dk_160 0 8 (dk_at dksX7_told_0 11 rfl rfl)
theorem dX7_told_14 : decode cX7_told 14 = .ok (.aload_n 0, 1) := dk_42 (dk_at dksX7_told_0 14 rfl rfl)
theorem dX7_told_15 : decode cX7_told 15 = .ok (.getfield 18, 3) := dk_180 0 18 (dk_at dksX7_told_0 15 rfl rfl)
theorem dX7_told_18 : decode cX7_told 18 = .ok (.ireturn, 1) := dk_172 (dk_at dksX7_told_0 18 rfl rfl)
theorem dX7_told_19 : decode cX7_told 19 = .ok (.iload_n 1, 1) := dk_27 (dk_at dksX7_told_0 19 rfl rfl)
theorem dX7_told_20 : decode cX7_told 20 = .ok (.bipush 10, 2) := dk_16 10 (dk_at dksX7_told_0 20 rfl rfl)
theorem dX7_told_22 : decode cX7_told 22 = .ok (.bipush 9, 2) := dk_16 9 (dk_at dksX7_told_0 22 rfl rfl)
theorem dX7_told_24 : decode cX7_told 24 = .ok (.aload_n 0, 1) := dk_42 (dk_at dksX7_told_1 0 rfl rfl)
theorem dX7_told_25 : decode cX7_told 25 = .ok (.invokevirtual 25, 3) := dk_182 0 25 (dk_at dksX7_told_1 1 rfl rfl)
theorem dX7_told_28 : decode cX7_told 28 = .ok (.iadd, 1) := dk_96 (dk_at dksX7_told_1 4 rfl rfl)
theorem dX7_told_29 : decode cX7_told 29 = .ok (.invokestatic 29, 3) := dk_184 0 29 (dk_at dksX7_told_1 5 rfl rfl)
theorem dX7_told_32 : decode cX7_told 32 = .ok (.ifCond .eq 13, 3) := dk_153 0 13 (dk_at dksX7_told_1 8 rfl rfl)
theorem dX7_told_35 : decode cX7_told 35 = .ok (.aload_n 0, 1) := dk_42 (dk_at dksX7_told_1 11 rfl rfl)
theorem dX7_told_36 : decode cX7_told 36 = .ok (.getfield 9, 3) := dk_180 0 9 (dk_at dksX7_told_1 12 rfl rfl)
theorem dX7_told_39 : decode cX7_told 39 = .ok (.iload_n 1, 1) := dk_27 (dk_at dksX7_told_1 15 rfl rfl)
theorem dX7_told_40 : decode cX7_told 40 = .ok (.bipush 10, 2) := dk_16 10 (dk_at dksX7_told_1 16 rfl rfl)
theorem dX7_told_42 : decode cX7_told 42 = .ok (.isub, 1) := dk_100 (dk_at dksX7_told_1 18 rfl rfl)
theorem dX7_told_43 : decode cX7_told 43 = .ok (.iaload, 1) := dk_46 (dk_at dksX7_told_1 19 rfl rfl)
theorem dX7_told_44 : decode cX7_told 44 = .ok (.ireturn, 1) := dk_172 (dk_at dksX7_told_1 20 rfl rfl)
theorem dX7_told_45 : decode cX7_told 45 = .ok (.iload_n 1, 1) := dk_27 (dk_at dksX7_told_1 21 rfl rfl)
theorem dX7_told_46 : decode cX7_told 46 = .ok (.bipush 30, 2) := dk_16 30 (dk_at dksX7_told_1 22 rfl rfl)
theorem dX7_told_48 : decode cX7_told 48 = .ok (.bipush 29, 2) := dk_16 29 (dk_at dksX7_told_2 0 rfl rfl)
theorem dX7_told_50 : decode cX7_told 50 = .ok (.aload_n 0, 1) := dk_42 (dk_at dksX7_told_2 2 rfl rfl)
theorem dX7_told_51 : decode cX7_told 51 = .ok (.invokevirtual 25, 3) := dk_182 0 25 (dk_at dksX7_told_2 3 rfl rfl)
theorem dX7_told_54 : decode cX7_told 54 = .ok (.iadd, 1) := dk_96 (dk_at dksX7_told_2 6 rfl rfl)
theorem dX7_told_55 : decode cX7_told 55 = .ok (.invokestatic 29, 3) := dk_184 0 29 (dk_at dksX7_told_2 7 rfl rfl)
theorem dX7_told_58 : decode cX7_told 58 = .ok (.ifCond .eq 15, 3) := dk_153 0 15 (dk_at dksX7_told_2 10 rfl rfl)
theorem dX7_told_61 : decode cX7_told 61 = .ok (.aload_n 0, 1) := dk_42 (dk_at dksX7_told_2 13 rfl rfl)
theorem dX7_told_62 : decode cX7_told 62 = .ok (.getfield 15, 3) := dk_180 0 15 (dk_at dksX7_told_2 14 rfl rfl)
theorem dX7_told_65 : decode cX7_told 65 = .ok (.iload_n 1, 1) := dk_27 (dk_at dksX7_told_2 17 rfl rfl)
theorem dX7_told_66 : decode cX7_told 66 = .ok (.bipush 30, 2) := dk_16 30 (dk_at dksX7_told_2 18 rfl rfl)
theorem dX7_told_68 : decode cX7_told 68 = .ok (.isub, 1) := dk_100 (dk_at dksX7_told_2 20 rfl rfl)
theorem dX7_told_69 : decode cX7_told 69 = .ok (.iaload, 1) := dk_46 (dk_at dksX7_told_2 21 rfl rfl)
theorem dX7_told_70 : decode cX7_told 70 = .ok (.goto 5, 3) := dk_167 0 5 (dk_at dksX7_told_3 0 rfl rfl)
theorem dX7_told_73 : decode cX7_told 73 = .ok (.bipush (-100), 2) := dk_16 156 (dk_at dksX7_told_3 3 rfl rfl)
theorem dX7_told_75 : decode cX7_told 75 = .ok (.ireturn, 1) := dk_172 (dk_at dksX7_told_3 5 rfl rfl)
abbrev cX7_lies : ByteArray := prog_7_method_7_code
def yX7_lies : MethodName := ⟨RX7, "lies", "(III[I)Z"⟩
def dkwX7_lies_2 : List UInt8 := [21, 6, 155, 0, 11, 25, 4, 21, 6, 46, 156, 0, 5, 3, 172, 132, 5, 1, 167, 255, 195, 4, 172]
abbrev dktX7_lies_2 : List UInt8 := dkwX7_lies_2 ++ []
def dkwX7_lies_1 : List UInt8 := [182, 0, 33, 100, 42, 21, 5, 27, 182, 0, 37, 42, 28, 27, 182, 0, 37, 100, 184, 0, 40, 54, 6]
abbrev dktX7_lies_1 : List UInt8 := dkwX7_lies_1 ++ dktX7_lies_2
def dkwX7_lies_0 : List UInt8 := [3, 54, 5, 21, 5, 42, 182, 0, 25, 162, 0, 58, 29, 42, 21, 5, 27, 182, 0, 33, 42, 28, 27]
abbrev dktX7_lies_0 : List UInt8 := dkwX7_lies_0 ++ dktX7_lies_1
theorem dksX7_lies_0 : cX7_lies.data.toList.drop 0 = dktX7_lies_0 := by decide +kernel
theorem dksX7_lies_1 : cX7_lies.data.toList.drop 23 = dktX7_lies_1 := dk_seg dksX7_lies_0 23 rfl rfl
theorem dksX7_lies_2 : cX7_lies.data.toList.drop 46 = dktX7_lies_2 := dk_seg dksX7_lies_1 23 rfl rfl
theorem dX7_lies_0 : decode cX7_lies 0 = .ok (.iconst 0, 1) := dk_3 (dk_at dksX7_lies_0 0 rfl rfl)
theorem dX7_lies_1 : decode cX7_lies 1 = .ok (.istore 5, 2) := dk_54 5 (dk_at dksX7_lies_0 1 rfl rfl)
theorem dX7_lies_3 : decode cX7_lies 3 = .ok (.iload 5, 2) := dk_21 5 (dk_at dksX7_lies_0 3 rfl rfl)
theorem dX7_lies_5 : decode cX7_lies 5 = .ok (.aload_n 0, 1) := dk_42 (dk_at dksX7_lies_0 5 rfl rfl)
theorem dX7_lies_6 : decode cX7_lies 6 = .ok (.invokevirtual 25, 3) := dk_182 0 25 (dk_at dksX7_lies_0 6 rfl rfl)
theorem dX7_lies_9 : decode cX7_lies 9 = .ok (.if_icmp .ge 58, 3) := dk_162 0 58 (dk_at dksX7_lies_0 9 rfl rfl)
theorem dX7_lies_12 : decode cX7_lies 12 = .ok (.iload_n 3, 1) := dk_29 (dk_at dksX7_lies_0 12 rfl rfl)
theorem dX7_lies_13 : decode cX7_lies 13 = .ok (.aload_n 0, 1) := dk_42 (dk_at dksX7_lies_0 13 rfl rfl)
theorem dX7_lies_14 : decode cX7_lies 14 = .ok (.iload 5, 2) := dk_21 5 (dk_at dksX7_lies_0 14 rfl rfl)
theorem dX7_lies_16 : decode cX7_lies 16 = .ok (.iload_n 1, 1) := dk_27 (dk_at dksX7_lies_0 16 rfl rfl)
theorem dX7_lies_17 : decode cX7_lies 17 = .ok (.invokevirtual 33, 3) := dk_182 0 33 (dk_at dksX7_lies_0 17 rfl rfl)
theorem dX7_lies_20 : decode cX7_lies 20 = .ok (.aload_n 0, 1) := dk_42 (dk_at dksX7_lies_0 20 rfl rfl)
theorem dX7_lies_21 : decode cX7_lies 21 = .ok (.iload_n 2, 1) := dk_28 (dk_at dksX7_lies_0 21 rfl rfl)
theorem dX7_lies_22 : decode cX7_lies 22 = .ok (.iload_n 1, 1) := dk_27 (dk_at dksX7_lies_0 22 rfl rfl)
theorem dX7_lies_23 : decode cX7_lies 23 = .ok (.invokevirtual 33, 3) := dk_182 0 33 (dk_at dksX7_lies_1 0 rfl rfl)
theorem dX7_lies_26 : decode cX7_lies 26 = .ok (.isub, 1) := dk_100 (dk_at dksX7_lies_1 3 rfl rfl)
theorem dX7_lies_27 : decode cX7_lies 27 = .ok (.aload_n 0, 1) := dk_42 (dk_at dksX7_lies_1 4 rfl rfl)
theorem dX7_lies_28 : decode cX7_lies 28 = .ok (.iload 5, 2) := dk_21 5 (dk_at dksX7_lies_1 5 rfl rfl)
theorem dX7_lies_30 : decode cX7_lies 30 = .ok (.iload_n 1, 1) := dk_27 (dk_at dksX7_lies_1 7 rfl rfl)
theorem dX7_lies_31 : decode cX7_lies 31 = .ok (.invokevirtual 37, 3) := dk_182 0 37 (dk_at dksX7_lies_1 8 rfl rfl)
theorem dX7_lies_34 : decode cX7_lies 34 = .ok (.aload_n 0, 1) := dk_42 (dk_at dksX7_lies_1 11 rfl rfl)
theorem dX7_lies_35 : decode cX7_lies 35 = .ok (.iload_n 2, 1) := dk_28 (dk_at dksX7_lies_1 12 rfl rfl)
theorem dX7_lies_36 : decode cX7_lies 36 = .ok (.iload_n 1, 1) := dk_27 (dk_at dksX7_lies_1 13 rfl rfl)
theorem dX7_lies_37 : decode cX7_lies 37 = .ok (.invokevirtual 37, 3) := dk_182 0 37 (dk_at dksX7_lies_1 14 rfl rfl)
theorem dX7_lies_40 : decode cX7_lies 40 = .ok (.isub, 1) := dk_100 (dk_at dksX7_lies_1 17 rfl rfl)
theorem dX7_lies_41 : decode cX7_lies 41 = .ok (.invokestatic 40, 3) := dk_184 0 40 (dk_at dksX7_lies_1 18 rfl rfl)
theorem dX7_lies_44 : decode cX7_lies 44 = .ok (.istore 6, 2) := dk_54 6 (dk_at dksX7_lies_1 21 rfl rfl)
theorem dX7_lies_46 : decode cX7_lies 46 = .ok (.iload 6, 2) := dk_21 6 (dk_at dksX7_lies_2 0 rfl rfl)
theorem dX7_lies_48 : decode cX7_lies 48 = .ok (.ifCond .lt 11, 3) := dk_155 0 11 (dk_at dksX7_lies_2 2 rfl rfl)
theorem dX7_lies_51 : decode cX7_lies 51 = .ok (.aload 4, 2) := dk_25 4 (dk_at dksX7_lies_2 5 rfl rfl)
theorem dX7_lies_53 : decode cX7_lies 53 = .ok (.iload 6, 2) := dk_21 6 (dk_at dksX7_lies_2 7 rfl rfl)
theorem dX7_lies_55 : decode cX7_lies 55 = .ok (.iaload, 1) := dk_46 (dk_at dksX7_lies_2 9 rfl rfl)
theorem dX7_lies_56 : decode cX7_lies 56 = .ok (.ifCond .ge 5, 3) := dk_156 0 5 (dk_at dksX7_lies_2 10 rfl rfl)
theorem dX7_lies_59 : decode cX7_lies 59 = .ok (.iconst 0, 1) := dk_3 (dk_at dksX7_lies_2 13 rfl rfl)
theorem dX7_lies_60 : decode cX7_lies 60 = .ok (.ireturn, 1) := dk_172 (dk_at dksX7_lies_2 14 rfl rfl)
theorem dX7_lies_61 : decode cX7_lies 61 = .ok (.iinc 5 1, 3) := dk_132 5 1 (dk_at dksX7_lies_2 15 rfl rfl)
theorem dX7_lies_64 : decode cX7_lies 64 = .ok (.goto (-61), 3) := dk_167 255 195 (dk_at dksX7_lies_2 18 rfl rfl)
theorem dX7_lies_67 : decode cX7_lies 67 = .ok (.iconst 1, 1) := dk_4 (dk_at dksX7_lies_2 21 rfl rfl)
theorem dX7_lies_68 : decode cX7_lies 68 = .ok (.ireturn, 1) := dk_172 (dk_at dksX7_lies_2 22 rfl rfl)
abbrev cX7_turnedColumn : ByteArray := prog_7_method_5_code
def yX7_turnedColumn : MethodName := ⟨RX7, "turnedColumn", "(II)I"⟩
def dkwX7_turnedColumn_3 : List UInt8 := [29, 167, 0, 16, 21, 4, 116, 167, 0, 10, 29, 116, 167, 0, 5, 21, 4, 172]
abbrev dktX7_turnedColumn_3 : List UInt8 := dkwX7_turnedColumn_3 ++ []
def dkwX7_turnedColumn_2 : List UInt8 := [170, 0, 0, 0, 0, 0, 42, 0, 0, 0, 0, 0, 0, 0, 2, 0, 0, 0, 27, 0, 0, 0, 31, 0, 0, 0, 37]
abbrev dktX7_turnedColumn_2 : List UInt8 := dkwX7_turnedColumn_2 ++ dktX7_turnedColumn_3
def dkwX7_turnedColumn_1 : List UInt8 := [180, 0, 15, 27, 46, 54, 4, 28, 7, 112]
abbrev dktX7_turnedColumn_1 : List UInt8 := dkwX7_turnedColumn_1 ++ dktX7_turnedColumn_2
def dkwX7_turnedColumn_0 : List UInt8 := [28, 7, 161, 0, 13, 42, 180, 0, 9, 27, 46, 116, 167, 0, 9, 42, 180, 0, 9, 27, 46, 62, 42]
abbrev dktX7_turnedColumn_0 : List UInt8 := dkwX7_turnedColumn_0 ++ dktX7_turnedColumn_1
theorem dksX7_turnedColumn_0 : cX7_turnedColumn.data.toList.drop 0 = dktX7_turnedColumn_0 := by decide +kernel
theorem dksX7_turnedColumn_1 : cX7_turnedColumn.data.toList.drop 23 = dktX7_turnedColumn_1 := dk_seg dksX7_turnedColumn_0 23 rfl rfl
theorem dksX7_turnedColumn_2 : cX7_turnedColumn.data.toList.drop 33 = dktX7_turnedColumn_2 := dk_seg dksX7_turnedColumn_1 10 rfl rfl
theorem dksX7_turnedColumn_3 : cX7_turnedColumn.data.toList.drop 60 = dktX7_turnedColumn_3 := dk_seg dksX7_turnedColumn_2 27 rfl rfl
theorem dX7_turnedColumn_0 : decode cX7_turnedColumn 0 = .ok (.iload_n 2, 1) := dk_28 (dk_at dksX7_turnedColumn_0 0 rfl rfl)
theorem dX7_turnedColumn_1 : decode cX7_turnedColumn 1 = .ok (.iconst 4, 1) := dk_7 (dk_at dksX7_turnedColumn_0 1 rfl rfl)
theorem dX7_turnedColumn_2 : decode cX7_turnedColumn 2 = .ok (.if_icmp .lt 13, 3) := dk_161 0 13 (dk_at dksX7_turnedColumn_0 2 rfl rfl)
theorem dX7_turnedColumn_5 : decode cX7_turnedColumn 5 = .ok (.aload_n 0, 1) := dk_42 (dk_at dksX7_turnedColumn_0 5 rfl rfl)
theorem dX7_turnedColumn_6 : decode cX7_turnedColumn 6 = .ok (.getfield 9, 3) := dk_180 0 9 (dk_at dksX7_turnedColumn_0 6 rfl rfl)
theorem dX7_turnedColumn_9 : decode cX7_turnedColumn 9 = .ok (.iload_n 1, 1) := dk_27 (dk_at dksX7_turnedColumn_0 9 rfl rfl)
theorem dX7_turnedColumn_10 : decode cX7_turnedColumn 10 = .ok (.iaload, 1) := dk_46 (dk_at dksX7_turnedColumn_0 10 rfl rfl)
theorem dX7_turnedColumn_11 : decode cX7_turnedColumn 11 = .ok (.ineg, 1) := dk_116 (dk_at dksX7_turnedColumn_0 11 rfl rfl)
theorem dX7_turnedColumn_12 : decode cX7_turnedColumn 12 = .ok (.goto 9, 3) := dk_167 0 9 (dk_at dksX7_turnedColumn_0 12 rfl rfl)
theorem dX7_turnedColumn_15 : decode cX7_turnedColumn 15 = .ok (.aload_n 0, 1) := dk_42 (dk_at dksX7_turnedColumn_0 15 rfl rfl)
theorem dX7_turnedColumn_16 : decode cX7_turnedColumn 16 = .ok (.getfield 9, 3) := dk_180 0 9 (dk_at dksX7_turnedColumn_0 16 rfl rfl)
theorem dX7_turnedColumn_19 : decode cX7_turnedColumn 19 = .ok (.iload_n 1, 1) := dk_27 (dk_at dksX7_turnedColumn_0 19 rfl rfl)
theorem dX7_turnedColumn_20 : decode cX7_turnedColumn 20 = .ok (.iaload, 1) := dk_46 (dk_at dksX7_turnedColumn_0 20 rfl rfl)
theorem dX7_turnedColumn_21 : decode cX7_turnedColumn 21 = .ok (.istore_n 3, 1) := dk_62 (dk_at dksX7_turnedColumn_0 21 rfl rfl)
theorem dX7_turnedColumn_22 : decode cX7_turnedColumn 22 = .ok (.aload_n 0, 1) := dk_42 (dk_at dksX7_turnedColumn_0 22 rfl rfl)
theorem dX7_turnedColumn_23 : decode cX7_turnedColumn 23 = .ok (.getfield 15, 3) := dk_180 0 15 (dk_at dksX7_turnedColumn_1 0 rfl rfl)
theorem dX7_turnedColumn_26 : decode cX7_turnedColumn 26 = .ok (.iload_n 1, 1) := dk_27 (dk_at dksX7_turnedColumn_1 3 rfl rfl)
theorem dX7_turnedColumn_27 : decode cX7_turnedColumn 27 = .ok (.iaload, 1) := dk_46 (dk_at dksX7_turnedColumn_1 4 rfl rfl)
theorem dX7_turnedColumn_28 : decode cX7_turnedColumn 28 = .ok (.istore 4, 2) := dk_54 4 (dk_at dksX7_turnedColumn_1 5 rfl rfl)
theorem dX7_turnedColumn_30 : decode cX7_turnedColumn 30 = .ok (.iload_n 2, 1) := dk_28 (dk_at dksX7_turnedColumn_1 7 rfl rfl)
theorem dX7_turnedColumn_31 : decode cX7_turnedColumn 31 = .ok (.iconst 4, 1) := dk_7 (dk_at dksX7_turnedColumn_1 8 rfl rfl)
theorem dX7_turnedColumn_32 : decode cX7_turnedColumn 32 = .ok (.irem, 1) := dk_112 (dk_at dksX7_turnedColumn_1 9 rfl rfl)
theorem dX7_turnedColumn_33 : decode cX7_turnedColumn 33 = .ok (.tableswitch 42 0 2 #[27, 31, 37], 27) := by decide +kernel
theorem dX7_turnedColumn_60 : decode cX7_turnedColumn 60 = .ok (.iload_n 3, 1) := dk_29 (dk_at dksX7_turnedColumn_3 0 rfl rfl)
theorem dX7_turnedColumn_61 : decode cX7_turnedColumn 61 = .ok (.goto 16, 3) := dk_167 0 16 (dk_at dksX7_turnedColumn_3 1 rfl rfl)
theorem dX7_turnedColumn_64 : decode cX7_turnedColumn 64 = .ok (.iload 4, 2) := dk_21 4 (dk_at dksX7_turnedColumn_3 4 rfl rfl)
theorem dX7_turnedColumn_66 : decode cX7_turnedColumn 66 = .ok (.ineg, 1) := dk_116 (dk_at dksX7_turnedColumn_3 6 rfl rfl)
theorem dX7_turnedColumn_67 : decode cX7_turnedColumn 67 = .ok (.goto 10, 3) := dk_167 0 10 (dk_at dksX7_turnedColumn_3 7 rfl rfl)
theorem dX7_turnedColumn_70 : decode cX7_turnedColumn 70 = .ok (.iload_n 3, 1) := dk_29 (dk_at dksX7_turnedColumn_3 10 rfl rfl)
theorem dX7_turnedColumn_71 : decode cX7_turnedColumn 71 = .ok (.ineg, 1) := dk_116 (dk_at dksX7_turnedColumn_3 11 rfl rfl)
theorem dX7_turnedColumn_72 : decode cX7_turnedColumn 72 = .ok (.goto 5, 3) := dk_167 0 5 (dk_at dksX7_turnedColumn_3 12 rfl rfl)
theorem dX7_turnedColumn_75 : decode cX7_turnedColumn 75 = .ok (.iload 4, 2) := dk_21 4 (dk_at dksX7_turnedColumn_3 15 rfl rfl)
theorem dX7_turnedColumn_77 : decode cX7_turnedColumn 77 = .ok (.ireturn, 1) := dk_172 (dk_at dksX7_turnedColumn_3 17 rfl rfl)
abbrev cX7_turnedRow : ByteArray := prog_7_method_6_code
def yX7_turnedRow : MethodName := ⟨RX7, "turnedRow", "(II)I"⟩
def dkwX7_turnedRow_3 : List UInt8 := [21, 4, 167, 0, 15, 29, 167, 0, 11, 21, 4, 116, 167, 0, 5, 29, 116, 172]
abbrev dktX7_turnedRow_3 : List UInt8 := dkwX7_turnedRow_3 ++ []
def dkwX7_turnedRow_2 : List UInt8 := [170, 0, 0, 0, 0, 0, 42, 0, 0, 0, 0, 0, 0, 0, 2, 0, 0, 0, 27, 0, 0, 0, 32, 0, 0, 0, 36]
abbrev dktX7_turnedRow_2 : List UInt8 := dkwX7_turnedRow_2 ++ dktX7_turnedRow_3
def dkwX7_turnedRow_1 : List UInt8 := [180, 0, 15, 27, 46, 54, 4, 28, 7, 112]
abbrev dktX7_turnedRow_1 : List UInt8 := dkwX7_turnedRow_1 ++ dktX7_turnedRow_2
def dkwX7_turnedRow_0 : List UInt8 := [28, 7, 161, 0, 13, 42, 180, 0, 9, 27, 46, 116, 167, 0, 9, 42, 180, 0, 9, 27, 46, 62, 42]
abbrev dktX7_turnedRow_0 : List UInt8 := dkwX7_turnedRow_0 ++ dktX7_turnedRow_1
theorem dksX7_turnedRow_0 : cX7_turnedRow.data.toList.drop 0 = dktX7_turnedRow_0 := by decide +kernel
theorem dksX7_turnedRow_1 : cX7_turnedRow.data.toList.drop 23 = dktX7_turnedRow_1 := dk_seg dksX7_turnedRow_0 23 rfl rfl
theorem dksX7_turnedRow_2 : cX7_turnedRow.data.toList.drop 33 = dktX7_turnedRow_2 := dk_seg dksX7_turnedRow_1 10 rfl rfl
theorem dksX7_turnedRow_3 : cX7_turnedRow.data.toList.drop 60 = dktX7_turnedRow_3 := dk_seg dksX7_turnedRow_2 27 rfl rfl
theorem dX7_turnedRow_0 : decode cX7_turnedRow 0 = .ok (.iload_n 2, 1) := dk_28 (dk_at dksX7_turnedRow_0 0 rfl rfl)
theorem dX7_turnedRow_1 : decode cX7_turnedRow 1 = .ok (.iconst 4, 1) := dk_7 (dk_at dksX7_turnedRow_0 1 rfl rfl)
theorem dX7_turnedRow_2 : decode cX7_turnedRow 2 = .ok (.if_icmp .lt 13, 3) := dk_161 0 13 (dk_at dksX7_turnedRow_0 2 rfl rfl)
theorem dX7_turnedRow_5 : decode cX7_turnedRow 5 = .ok (.aload_n 0, 1) := dk_42 (dk_at dksX7_turnedRow_0 5 rfl rfl)
theorem dX7_turnedRow_6 : decode cX7_turnedRow 6 = .ok (.getfield 9, 3) := dk_180 0 9 (dk_at dksX7_turnedRow_0 6 rfl rfl)
theorem dX7_turnedRow_9 : decode cX7_turnedRow 9 = .ok (.iload_n 1, 1) := dk_27 (dk_at dksX7_turnedRow_0 9 rfl rfl)
theorem dX7_turnedRow_10 : decode cX7_turnedRow 10 = .ok (.iaload, 1) := dk_46 (dk_at dksX7_turnedRow_0 10 rfl rfl)
theorem dX7_turnedRow_11 : decode cX7_turnedRow 11 = .ok (.ineg, 1) := dk_116 (dk_at dksX7_turnedRow_0 11 rfl rfl)
theorem dX7_turnedRow_12 : decode cX7_turnedRow 12 = .ok (.goto 9, 3) := dk_167 0 9 (dk_at dksX7_turnedRow_0 12 rfl rfl)
theorem dX7_turnedRow_15 : decode cX7_turnedRow 15 = .ok (.aload_n 0, 1) := dk_42 (dk_at dksX7_turnedRow_0 15 rfl rfl)
theorem dX7_turnedRow_16 : decode cX7_turnedRow 16 = .ok (.getfield 9, 3) := dk_180 0 9 (dk_at dksX7_turnedRow_0 16 rfl rfl)
theorem dX7_turnedRow_19 : decode cX7_turnedRow 19 = .ok (.iload_n 1, 1) := dk_27 (dk_at dksX7_turnedRow_0 19 rfl rfl)
theorem dX7_turnedRow_20 : decode cX7_turnedRow 20 = .ok (.iaload, 1) := dk_46 (dk_at dksX7_turnedRow_0 20 rfl rfl)
theorem dX7_turnedRow_21 : decode cX7_turnedRow 21 = .ok (.istore_n 3, 1) := dk_62 (dk_at dksX7_turnedRow_0 21 rfl rfl)
theorem dX7_turnedRow_22 : decode cX7_turnedRow 22 = .ok (.aload_n 0, 1) := dk_42 (dk_at dksX7_turnedRow_0 22 rfl rfl)
theorem dX7_turnedRow_23 : decode cX7_turnedRow 23 = .ok (.getfield 15, 3) := dk_180 0 15 (dk_at dksX7_turnedRow_1 0 rfl rfl)
theorem dX7_turnedRow_26 : decode cX7_turnedRow 26 = .ok (.iload_n 1, 1) := dk_27 (dk_at dksX7_turnedRow_1 3 rfl rfl)
theorem dX7_turnedRow_27 : decode cX7_turnedRow 27 = .ok (.iaload, 1) := dk_46 (dk_at dksX7_turnedRow_1 4 rfl rfl)
theorem dX7_turnedRow_28 : decode cX7_turnedRow 28 = .ok (.istore 4, 2) := dk_54 4 (dk_at dksX7_turnedRow_1 5 rfl rfl)
theorem dX7_turnedRow_30 : decode cX7_turnedRow 30 = .ok (.iload_n 2, 1) := dk_28 (dk_at dksX7_turnedRow_1 7 rfl rfl)
theorem dX7_turnedRow_31 : decode cX7_turnedRow 31 = .ok (.iconst 4, 1) := dk_7 (dk_at dksX7_turnedRow_1 8 rfl rfl)
theorem dX7_turnedRow_32 : decode cX7_turnedRow 32 = .ok (.irem, 1) := dk_112 (dk_at dksX7_turnedRow_1 9 rfl rfl)
theorem dX7_turnedRow_33 : decode cX7_turnedRow 33 = .ok (.tableswitch 42 0 2 #[27, 32, 36], 27) := by decide +kernel
theorem dX7_turnedRow_60 : decode cX7_turnedRow 60 = .ok (.iload 4, 2) := dk_21 4 (dk_at dksX7_turnedRow_3 0 rfl rfl)
theorem dX7_turnedRow_62 : decode cX7_turnedRow 62 = .ok (.goto 15, 3) := dk_167 0 15 (dk_at dksX7_turnedRow_3 2 rfl rfl)
theorem dX7_turnedRow_65 : decode cX7_turnedRow 65 = .ok (.iload_n 3, 1) := dk_29 (dk_at dksX7_turnedRow_3 5 rfl rfl)
theorem dX7_turnedRow_66 : decode cX7_turnedRow 66 = .ok (.goto 11, 3) := dk_167 0 11 (dk_at dksX7_turnedRow_3 6 rfl rfl)
theorem dX7_turnedRow_69 : decode cX7_turnedRow 69 = .ok (.iload 4, 2) := dk_21 4 (dk_at dksX7_turnedRow_3 9 rfl rfl)
theorem dX7_turnedRow_71 : decode cX7_turnedRow 71 = .ok (.ineg, 1) := dk_116 (dk_at dksX7_turnedRow_3 11 rfl rfl)
theorem dX7_turnedRow_72 : decode cX7_turnedRow 72 = .ok (.goto 5, 3) := dk_167 0 5 (dk_at dksX7_turnedRow_3 12 rfl rfl)
theorem dX7_turnedRow_75 : decode cX7_turnedRow 75 = .ok (.iload_n 3, 1) := dk_29 (dk_at dksX7_turnedRow_3 15 rfl rfl)
theorem dX7_turnedRow_76 : decode cX7_turnedRow 76 = .ok (.ineg, 1) := dk_116 (dk_at dksX7_turnedRow_3 16 rfl rfl)
theorem dX7_turnedRow_77 : decode cX7_turnedRow 77 = .ok (.ireturn, 1) := dk_172 (dk_at dksX7_turnedRow_3 17 rfl rfl)
theorem q122 : (Jvm.Cond.initialized "SwarmPlanner$Shape") ∈ lw_all := lw_g (lw_at lw_m1 19 rfl) rfl
theorem q403 : (Jvm.Cond.selects "SwarmPlanner$Shape" ({ cls := "java/lang/Object", name := "getClass", desc := "()Ljava/lang/Class;" } : Jvm.MethodName) ({ cls := "java/lang/Object", name := "getClass", desc := "()Ljava/lang/Class;" } : Jvm.MethodName)) ∈ lw_all := lw_g (lw_at lw_m2 60 rfl) rfl
theorem q616 : (Jvm.Cond.instantiable "SwarmPlanner$Shape" (3 : Nat)) ∈ lw_all := lw_g (lw_at lw_m3 33 rfl) rfl
theorem q618 : (Jvm.Cond.instanceMethod ({ cls := "SwarmPlanner$Shape", name := "<init>", desc := "(I[I[II)V" } : Jvm.MethodName)) ∈ lw_all := lw_g (lw_at lw_m3 35 rfl) rfl
theorem q619 : (Jvm.Cond.code ({ cls := "SwarmPlanner$Shape", name := "<init>", desc := "(I[I[II)V" } : Jvm.MethodName) prog_7_method_2_code (6 : Nat) (Option.none : Option Jvm.ClassFile.FieldType)) ∈ lw_all := lw_g (lw_at lw_m3 36 rfl) rfl
theorem q620 : (Jvm.Cond.methodLink "SwarmPlanner$Shape" (22 : Nat) ({ cls := "SwarmPlanner$Shape", name := "<init>", desc := "([I[II)V" } : Jvm.MethodName)) ∈ lw_all := lw_g (lw_at lw_m3 37 rfl) rfl
theorem q621 : (Jvm.Cond.instanceMethod ({ cls := "SwarmPlanner$Shape", name := "<init>", desc := "([I[II)V" } : Jvm.MethodName)) ∈ lw_all := lw_g (lw_at lw_m3 38 rfl) rfl
theorem q622 : (Jvm.Cond.code ({ cls := "SwarmPlanner$Shape", name := "<init>", desc := "([I[II)V" } : Jvm.MethodName) prog_7_method_1_code (4 : Nat) (Option.none : Option Jvm.ClassFile.FieldType)) ∈ lw_all := lw_g (lw_at lw_m3 39 rfl) rfl
theorem q623 : (Jvm.Cond.methodLink "SwarmPlanner$Shape" (3 : Nat) ({ cls := "java/lang/Object", name := "<init>", desc := "()V" } : Jvm.MethodName)) ∈ lw_all := lw_g (lw_at lw_m3 40 rfl) rfl
theorem q624 : (Jvm.Cond.fieldLink "SwarmPlanner$Shape" (9 : Nat) "SwarmPlanner$Shape" "columns" "[I") ∈ lw_all := lw_g (lw_at lw_m3 41 rfl) rfl
theorem q626 : (Jvm.Cond.fieldLink "SwarmPlanner$Shape" (15 : Nat) "SwarmPlanner$Shape" "rows" "[I") ∈ lw_all := lw_g (lw_at lw_m3 43 rfl) rfl
theorem q628 : (Jvm.Cond.fieldLink "SwarmPlanner$Shape" (18 : Nat) "SwarmPlanner$Shape" "anchor" "I") ∈ lw_all := lw_g (lw_at lw_m3 45 rfl) rfl
theorem q630 : (Jvm.Cond.laysFinal "SwarmPlanner$Shape" "SwarmPlanner$Shape" "columns" "[I") ∈ lw_all := lw_g (lw_at lw_m3 47 rfl) rfl
theorem q631 : (Jvm.Cond.soleField "SwarmPlanner$Shape" "columns") ∈ lw_all := lw_g (lw_at lw_m3 48 rfl) rfl
theorem q632 : (Jvm.Cond.laysFinal "SwarmPlanner$Shape" "SwarmPlanner$Shape" "rows" "[I") ∈ lw_all := lw_g (lw_at lw_m3 49 rfl) rfl
theorem q633 : (Jvm.Cond.soleField "SwarmPlanner$Shape" "rows") ∈ lw_all := lw_g (lw_at lw_m3 50 rfl) rfl
theorem q634 : (Jvm.Cond.laysFinal "SwarmPlanner$Shape" "SwarmPlanner$Shape" "anchor" "I") ∈ lw_all := lw_g (lw_at lw_m3 51 rfl) rfl
theorem q635 : (Jvm.Cond.soleField "SwarmPlanner$Shape" "anchor") ∈ lw_all := lw_g (lw_at lw_m3 52 rfl) rfl
theorem q636 : (Jvm.Cond.superclass "SwarmPlanner$Shape" "java/lang/Object") ∈ lw_all := lw_g (lw_at lw_m3 53 rfl) rfl
theorem q638 : (Jvm.Cond.instanceMethod ({ cls := "SwarmPlanner$Shape", name := "size", desc := "()I" } : Jvm.MethodName)) ∈ lw_all := lw_g (lw_at lw_m3 55 rfl) rfl
theorem q639 : (Jvm.Cond.selects "SwarmPlanner$Shape" ({ cls := "SwarmPlanner$Shape", name := "size", desc := "()I" } : Jvm.MethodName) ({ cls := "SwarmPlanner$Shape", name := "size", desc := "()I" } : Jvm.MethodName)) ∈ lw_all := lw_g (lw_at lw_m3 56 rfl) rfl
theorem q640 : (Jvm.Cond.code ({ cls := "SwarmPlanner$Shape", name := "size", desc := "()I" } : Jvm.MethodName) prog_7_method_3_code (1 : Nat) (Option.some Jvm.ClassFile.FieldType.int)) ∈ lw_all := lw_g (lw_at lw_m3 57 rfl) rfl
theorem q1031 : (Jvm.Cond.instanceMethod ({ cls := "SwarmPlanner$Shape", name := "told", desc := "(I)I" } : Jvm.MethodName)) ∈ lw_all := lw_g (lw_at lw_m4 208 rfl) rfl
theorem q1032 : (Jvm.Cond.selects "SwarmPlanner$Shape" ({ cls := "SwarmPlanner$Shape", name := "told", desc := "(I)I" } : Jvm.MethodName) ({ cls := "SwarmPlanner$Shape", name := "told", desc := "(I)I" } : Jvm.MethodName)) ∈ lw_all := lw_g (lw_at lw_m4 209 rfl) rfl
theorem q1033 : (Jvm.Cond.code ({ cls := "SwarmPlanner$Shape", name := "told", desc := "(I)I" } : Jvm.MethodName) prog_7_method_4_code (2 : Nat) (Option.some Jvm.ClassFile.FieldType.int)) ∈ lw_all := lw_g (lw_at lw_m4 210 rfl) rfl
theorem q1034 : (Jvm.Cond.methodLink "SwarmPlanner$Shape" (25 : Nat) ({ cls := "SwarmPlanner$Shape", name := "size", desc := "()I" } : Jvm.MethodName)) ∈ lw_all := lw_g (lw_at lw_m4 211 rfl) rfl
theorem q1035 : (Jvm.Cond.methodLinkNest "SwarmPlanner$Shape" (29 : Nat) ({ cls := "SwarmPlanner", name := "in", desc := "(III)Z" } : Jvm.MethodName) "SwarmPlanner") ∈ lw_tbl := lw_at lw_m4 212 rfl
theorem q1045 : (Jvm.Cond.instanceMethod ({ cls := "SwarmPlanner$Shape", name := "lies", desc := "(III[I)Z" } : Jvm.MethodName)) ∈ lw_all := lw_g (lw_at lw_m4 222 rfl) rfl
theorem q1046 : (Jvm.Cond.selects "SwarmPlanner$Shape" ({ cls := "SwarmPlanner$Shape", name := "lies", desc := "(III[I)Z" } : Jvm.MethodName) ({ cls := "SwarmPlanner$Shape", name := "lies", desc := "(III[I)Z" } : Jvm.MethodName)) ∈ lw_all := lw_g (lw_at lw_m4 223 rfl) rfl
theorem q1047 : (Jvm.Cond.code ({ cls := "SwarmPlanner$Shape", name := "lies", desc := "(III[I)Z" } : Jvm.MethodName) prog_7_method_7_code (7 : Nat) (Option.some Jvm.ClassFile.FieldType.boolean)) ∈ lw_all := lw_g (lw_at lw_m4 224 rfl) rfl
theorem q1048 : (Jvm.Cond.methodLink "SwarmPlanner$Shape" (33 : Nat) ({ cls := "SwarmPlanner$Shape", name := "turnedColumn", desc := "(II)I" } : Jvm.MethodName)) ∈ lw_all := lw_g (lw_at lw_m4 225 rfl) rfl
theorem q1049 : (Jvm.Cond.privateMethod ({ cls := "SwarmPlanner$Shape", name := "turnedColumn", desc := "(II)I" } : Jvm.MethodName)) ∈ lw_tbl := lw_at lw_m4 226 rfl
theorem q1050 : (Jvm.Cond.instanceMethod ({ cls := "SwarmPlanner$Shape", name := "turnedColumn", desc := "(II)I" } : Jvm.MethodName)) ∈ lw_all := lw_g (lw_at lw_m4 227 rfl) rfl
theorem q1051 : (Jvm.Cond.code ({ cls := "SwarmPlanner$Shape", name := "turnedColumn", desc := "(II)I" } : Jvm.MethodName) prog_7_method_5_code (5 : Nat) (Option.some Jvm.ClassFile.FieldType.int)) ∈ lw_all := lw_g (lw_at lw_m4 228 rfl) rfl
theorem q1052 : (Jvm.Cond.methodLink "SwarmPlanner$Shape" (37 : Nat) ({ cls := "SwarmPlanner$Shape", name := "turnedRow", desc := "(II)I" } : Jvm.MethodName)) ∈ lw_all := lw_g (lw_at lw_m4 229 rfl) rfl
theorem q1053 : (Jvm.Cond.privateMethod ({ cls := "SwarmPlanner$Shape", name := "turnedRow", desc := "(II)I" } : Jvm.MethodName)) ∈ lw_tbl := lw_at lw_m4 230 rfl
theorem q1054 : (Jvm.Cond.instanceMethod ({ cls := "SwarmPlanner$Shape", name := "turnedRow", desc := "(II)I" } : Jvm.MethodName)) ∈ lw_all := lw_g (lw_at lw_m4 231 rfl) rfl
theorem q1055 : (Jvm.Cond.code ({ cls := "SwarmPlanner$Shape", name := "turnedRow", desc := "(II)I" } : Jvm.MethodName) prog_7_method_6_code (5 : Nat) (Option.some Jvm.ClassFile.FieldType.int)) ∈ lw_all := lw_g (lw_at lw_m4 232 rfl) rfl
theorem q1056 : (Jvm.Cond.methodLinkNest "SwarmPlanner$Shape" (40 : Nat) ({ cls := "SwarmPlanner", name := "shifted", desc := "(III)I" } : Jvm.MethodName) "SwarmPlanner") ∈ lw_tbl := lw_at lw_m4 233 rfl
theorem q1484 : (Jvm.Cond.castable "SwarmPlanner$Shape" "java/lang/Object") ∈ lw_tbl := lw_at lw_m6 181 rfl
theorem in_X7 : ∀ w ∈ wsX70, w ∈ lw_all := lw_in wsX70 [630, 632, 634] (by decide +kernel) (by decide +kernel)
