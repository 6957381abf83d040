/-! SwarmPlanner$Chain -/
set_option maxRecDepth 100000
def RX8 : String := "SwarmPlanner$Chain"
def TX8 : u_T := fun k => match k with
  | 0 => ("SwarmPlanner$Chain", "member", "LSwarmPlanner$Member;", true)
  | 1 => ("SwarmPlanner$Chain", "behind", "LSwarmPlanner$Chain;", true)
  | 2 => ("SwarmPlanner$Chain", "known", "[I", true)
  | _ => ("SwarmPlanner$Chain", "this$0", "LSwarmPlanner;", true)
def tyX8 : Nat → FieldType := fun k => match k with
  | 0 => .object "SwarmPlanner$Member"
  | 1 => .object "SwarmPlanner$Chain"
  | 2 => .array .int
  | _ => .object "SwarmPlanner"
abbrev wsX80 : List Cond := u_ws RX8 TX8 4
theorem nmX8 : ∀ a, a < 4 → ∀ b, b < 4 → a ≠ b → (TX8 a).2.1 ≠ (TX8 b).2.1 := by decide +kernel
theorem tyX8_ok : ∀ k, k < 4 → parseFieldDescriptor (TX8 k).2.2.1 = some (tyX8 k) := by decide +kernel
abbrev cX8_init : ByteArray := prog_3_method_1_code
def yX8_init : MethodName := ⟨RX8, "<init>", "(LSwarmPlanner;LSwarmPlanner$Member;LSwarmPlanner$Chain;)V"⟩
def dkwX8_init_1 : List UInt8 := [44, 180, 0, 27, 50, 181, 0, 33, 42, 180, 0, 33, 2, 184, 0, 37, 177]
abbrev dktX8_init_1 : List UInt8 := dkwX8_init_1 ++ []
def dkwX8_init_0 : List UInt8 := [42, 43, 181, 0, 3, 42, 183, 0, 9, 42, 44, 181, 0, 15, 42, 45, 181, 0, 19, 42, 43, 180, 0, 23]
abbrev dktX8_init_0 : List UInt8 := dkwX8_init_0 ++ dktX8_init_1
theorem dksX8_init_0 : cX8_init.data.toList.drop 0 = dktX8_init_0 := by decide +kernel
theorem dksX8_init_1 : cX8_init.data.toList.drop 24 = dktX8_init_1 := dk_seg dksX8_init_0 24 rfl rfl
theorem dX8_init_0 : decode cX8_init 0 = .ok (.aload_n 0, 1) := dk_42 (dk_at dksX8_init_0 0 rfl rfl)
theorem dX8_init_1 : decode cX8_init 1 = .ok (.aload_n 1, 1) := dk_43 (dk_at dksX8_init_0 1 rfl rfl)
theorem dX8_init_2 : decode cX8_init 2 = .ok (.putfield 3, 3) := dk_181 0 3 (dk_at dksX8_init_0 2 rfl rfl)
theorem dX8_init_5 : decode cX8_init 5 = .ok (.aload_n 0, 1) := dk_42 (dk_at dksX8_init_0 5 rfl rfl)
theorem dX8_init_6 : decode cX8_init 6 = .ok (.invokespecial 9, 3) := dk_183 0 9 (dk_at dksX8_init_0 6 rfl rfl)
theorem dX8_init_9 : decode cX8_init 9 = .ok (.aload_n 0, 1) := dk_42 (dk_at dksX8_init_0 9 rfl rfl)
theorem dX8_init_10 : decode cX8_init 10 = .ok (.aload_n 2, 1) := dk_44 (dk_at dksX8_init_0 10 rfl rfl)
theorem dX8_init_11 : decode cX8_init 11 = .ok (.putfield 15, 3) := dk_181 0 15 (dk_at dksX8_init_0 11 rfl rfl)
theorem dX8_init_14 : decode cX8_init 14 = .ok (.aload_n 0, 1) := dk_42 (dk_at dksX8_init_0 14 rfl rfl)
theorem dX8_init_15 : decode cX8_init 15 = .ok (.aload_n 3, 1) := dk_45 (dk_at dksX8_init_0 15 rfl rfl)
theorem dX8_init_16 : decode cX8_init 16 = .ok (.putfield 19, 3) := dk_181 0 19 (dk_at dksX8_init_0 16 rfl rfl)
theorem dX8_init_19 : decode cX8_init 19 = .ok (.aload_n 0, 1) := dk_42 (dk_at dksX8_init_0 19 rfl rfl)
theorem dX8_init_20 : decode cX8_init 20 = .ok (.aload_n 1, 1) := dk_43 (dk_at dksX8_init_0 20 rfl rfl)
theorem dX8_init_21 : decode cX8_init 21 = .ok (.getfield 23, 3) := dk_180 0 23 (dk_at dksX8_init_0 21 rfl rfl)
theorem dX8_init_24 : decode cX8_init 24 = .ok (.aload_n 2, 1) := dk_44 (dk_at dksX8_init_1 0 rfl rfl)
theorem dX8_init_25 : decode cX8_init 25 = .ok (.getfield 27, 3) := dk_180 0 27 (dk_at dksX8_init_1 1 rfl rfl)
theorem dX8_init_28 : decode cX8_init 28 = .ok (.aaload, 1) := dk_50 (dk_at dksX8_init_1 4 rfl rfl)
theorem dX8_init_29 : decode cX8_init 29 = .ok (.putfield 33, 3) := dk_181 0 33 (dk_at dksX8_init_1 5 rfl rfl)
theorem dX8_init_32 : decode cX8_init 32 = .ok (.aload_n 0, 1) := dk_42 (dk_at dksX8_init_1 8 rfl rfl)
theorem dX8_init_33 : decode cX8_init 33 = .ok (.getfield 33, 3) := dk_180 0 33 (dk_at dksX8_init_1 9 rfl rfl)
theorem dX8_init_36 : decode cX8_init 36 = .ok (.iconst (-1), 1) := dk_2 (dk_at dksX8_init_1 12 rfl rfl)
theorem dX8_init_37 : decode cX8_init 37 = .ok (.invokestatic 37, 3) := dk_184 0 37 (dk_at dksX8_init_1 13 rfl rfl)
theorem dX8_init_40 : decode cX8_init 40 = .ok (.return_, 1) := dk_177 (dk_at dksX8_init_1 16 rfl rfl)
abbrev cX8_gives : ByteArray := prog_3_method_4_code
def yX8_gives : MethodName := ⟨RX8, "gives", "(I)V"⟩
def dkwX8_gives_4 : List UInt8 := [167, 0, 8, 27, 4, 29, 120, 128, 182, 0, 76, 177]
abbrev dktX8_gives_4 : List UInt8 := dkwX8_gives_4 ++ []
def dkwX8_gives_3 : List UInt8 := [180, 0, 15, 180, 0, 27, 29, 79, 42, 180, 0, 19, 198, 0, 23, 42, 180, 0, 19, 29, 156, 0, 7, 27]
abbrev dktX8_gives_3 : List UInt8 := dkwX8_gives_3 ++ dktX8_gives_4
def dkwX8_gives_2 : List UInt8 := [182, 0, 60, 28, 160, 0, 6, 21, 4, 62, 132, 4, 255, 167, 255, 217, 42, 180, 0, 3, 180, 0, 73, 42]
abbrev dktX8_gives_2 : List UInt8 := dkwX8_gives_2 ++ dktX8_gives_3
def dkwX8_gives_1 : List UInt8 := [155, 0, 40, 42, 180, 0, 3, 21, 4, 27, 42, 180, 0, 15, 182, 0, 56, 153, 0, 17, 42, 21, 4, 27]
abbrev dktX8_gives_1 : List UInt8 := dkwX8_gives_1 ++ dktX8_gives_2
def dkwX8_gives_0 : List UInt8 := [42, 27, 182, 0, 69, 61, 16, 251, 62, 42, 180, 0, 3, 180, 0, 53, 4, 100, 54, 4, 21, 4]
abbrev dktX8_gives_0 : List UInt8 := dkwX8_gives_0 ++ dktX8_gives_1
theorem dksX8_gives_0 : cX8_gives.data.toList.drop 0 = dktX8_gives_0 := by decide +kernel
theorem dksX8_gives_1 : cX8_gives.data.toList.drop 22 = dktX8_gives_1 := dk_seg dksX8_gives_0 22 rfl rfl
theorem dksX8_gives_2 : cX8_gives.data.toList.drop 46 = dktX8_gives_2 := dk_seg dksX8_gives_1 24 rfl rfl
theorem dksX8_gives_3 : cX8_gives.data.toList.drop 70 = dktX8_gives_3 := dk_seg dksX8_gives_2 24 rfl rfl
theorem dksX8_gives_4 : cX8_gives.data.toList.drop 94 = dktX8_gives_4 := dk_seg dksX8_gives_3 24 rfl rfl
theorem dX8_gives_0 : decode cX8_gives 0 = .ok (.aload_n 0, 1) := dk_42 (dk_at dksX8_gives_0 0 rfl rfl)
theorem dX8_gives_1 : decode cX8_gives 1 = .ok (.iload_n 1, 1) := dk_27 (dk_at dksX8_gives_0 1 rfl rfl)
theorem dX8_gives_2 : decode cX8_gives 2 = .ok (.invokevirtual 69, 3) := dk_182 0 69 (dk_at dksX8_gives_0 2 rfl rfl)
theorem dX8_gives_5 : decode cX8_gives 5 = .ok (.istore_n 2, 1) := dk_61 (dk_at dksX8_gives_0 5 rfl rfl)
theorem dX8_gives_6 : decode cX8_gives 6 = .ok (.bipush (-5), 2) := dk_16 251 (dk_at dksX8_gives_0 6 rfl rfl)
theorem dX8_gives_8 : decode cX8_gives 8 = .ok (.istore_n 3, 1) := dk_62 (dk_at dksX8_gives_0 8 rfl rfl)
theorem dX8_gives_9 : decode cX8_gives 9 = .ok (.aload_n 0, 1) := dk_42 (dk_at dksX8_gives_0 9 rfl rfl)
theorem dX8_gives_10 : decode cX8_gives 10 = .ok (.getfield 3, 3) := dk_180 0 3 (dk_at dksX8_gives_0 10 rfl rfl)
theorem dX8_gives_13 : decode cX8_gives 13 = .ok (.getfield 53, 3) := dk_180 0 53 (dk_at dksX8_gives_0 13 rfl rfl)
theorem dX8_gives_16 : decode cX8_gives 16 = .ok (.iconst 1, 1) := dk_4 (dk_at dksX8_gives_0 16 rfl rfl)
theorem dX8_gives_17 : decode cX8_gives 17 = .ok (.isub, 1) := dk_100 (dk_at dksX8_gives_0 17 rfl rfl)
theorem dX8_gives_18 : decode cX8_gives 18 = .ok (.istore 4, 2) := dk_54 4 (dk_at dksX8_gives_0 18 rfl rfl)
theorem dX8_gives_20 : decode cX8_gives 20 = .ok (.iload 4, 2) := dk_21 4 (dk_at dksX8_gives_0 20 rfl rfl)
theorem dX8_gives_22 : decode cX8_gives 22 = .ok (.ifCond .lt 40, 3) := dk_155 0 40 (dk_at dksX8_gives_1 0 rfl rfl)
theorem dX8_gives_25 : decode cX8_gives 25 = .ok (.aload_n 0, 1) := dk_42 (dk_at dksX8_gives_1 3 rfl rfl)
theorem dX8_gives_26 : decode cX8_gives 26 = .ok (.getfield 3, 3) := dk_180 0 3 (dk_at dksX8_gives_1 4 rfl rfl)
theorem dX8_gives_29 : decode cX8_gives 29 = .ok (.iload 4, 2) := dk_21 4 (dk_at dksX8_gives_1 7 rfl rfl)
theorem dX8_gives_31 : decode cX8_gives 31 = .ok (.iload_n 1, 1) := dk_27 (dk_at dksX8_gives_1 9 rfl rfl)
theorem dX8_gives_32 : decode cX8_gives 32 = .ok (.aload_n 0, 1) := dk_42 (dk_at dksX8_gives_1 10 rfl rfl)
theorem dX8_gives_33 : decode cX8_gives 33 = .ok (.getfield 15, 3) := dk_180 0 15 (dk_at dksX8_gives_1 11 rfl rfl)
theorem dX8_gives_36 : decode cX8_gives 36 = .ok (.invokevirtual 56, 3) := dk_182 0 56 (dk_at dksX8_gives_1 14 rfl rfl)
theorem dX8_gives_39 : decode cX8_gives 39 = .ok (.ifCond .eq 17, 3) := dk_153 0 17 (dk_at dksX8_gives_1 17 rfl rfl)
theorem dX8_gives_42 : decode cX8_gives 42 = .ok (.aload_n 0, 1) := dk_42 (dk_at dksX8_gives_1 20 rfl rfl)
theorem dX8_gives_43 : decode cX8_gives 43 = .ok (.iload 4, 2) := dk_21 4 (dk_at dksX8_gives_1 21 rfl rfl)
theorem dX8_gives_45 : decode cX8_gives 45 = .ok (.iload_n 1, 1) := dk_27 (dk_at dksX8_gives_1 23 rfl rfl)
theorem dX8_gives_46 : decode cX8_gives 46 = .ok (.invokevirtual 60, 3) := dk_182 0 60 (dk_at dksX8_gives_2 0 rfl rfl)
theorem dX8_gives_49 : decode cX8_gives 49 = .ok (.iload_n 2, 1) := dk_28 (dk_at dksX8_gives_2 3 rfl rfl)
theorem dX8_gives_50 : decode cX8_gives 50 = .ok (.if_icmp .ne 6, 3) := dk_160 0 6 (dk_at dksX8_gives_2 4 rfl rfl)
theorem dX8_gives_53 : decode cX8_gives 53 = .ok (.iload 4, 2) := dk_21 4 (dk_at dksX8_gives_2 7 rfl rfl)
theorem dX8_gives_55 : decode cX8_gives 55 = .ok (.istore_n 3, 1) := dk_62 (dk_at dksX8_gives_2 9 rfl rfl)
theorem dX8_gives_56 : decode cX8_gives 56 = .ok (.iinc 4 (-1), 3) := dk_132 4 255 (dk_at dksX8_gives_2 10 rfl rfl)
theorem dX8_gives_59 : decode cX8_gives 59 = .ok (.goto (-39), 3) := dk_167 255 217 (dk_at dksX8_gives_2 13 rfl rfl)
theorem dX8_gives_62 : decode cX8_gives 62 = .ok (.aload_n 0, 1) := dk_42 (dk_at dksX8_gives_2 16 rfl rfl)
theorem dX8_gives_63 : decode cX8_gives 63 = .ok (.getfield 3, 3) := dk_180 0 3 (dk_at dksX8_gives_2 17 rfl rfl)
theorem dX8_gives_66 : decode cX8_gives 66 = .ok (.getfield 73, 3) := dk_180 0 73 (dk_at dksX8_gives_2 20 rfl rfl)
theorem dX8_gives_69 : decode cX8_gives 69 = .ok (.aload_n 0, 1) := dk_42 (dk_at dksX8_gives_2 23 rfl rfl)
theorem dX8_gives_70 : decode cX8_gives 70 = .ok (.getfield 15, 3) := dk_180 0 15 (dk_at dksX8_gives_3 0 rfl rfl)
theorem dX8_gives_73 : decode cX8_gives 73 = .ok (.getfield 27, 3) := dk_180 0 27 (dk_at dksX8_gives_3 3 rfl rfl)
theorem dX8_gives_76 : decode cX8_gives 76 = .ok (.iload_n 3, 1) := dk_29 (dk_at dksX8_gives_3 6 rfl rfl)
theorem dX8_gives_77 : decode cX8_gives 77 = .ok (.iastore, 1) := dk_79 (dk_at dksX8_gives_3 7 rfl rfl)
theorem dX8_gives_78 : decode cX8_gives 78 = .ok (.aload_n 0, 1) := dk_42 (dk_at dksX8_gives_3 8 rfl rfl)
theorem dX8_gives_79 : decode cX8_gives 79 = .ok (.getfield 19, 3) := dk_180 0 19 (dk_at dksX8_gives_3 9 rfl rfl)
theorem dX8_gives_82 : decode cX8_gives 82 = .ok (.ifnull 23, 3) := dk_198 0 23 (dk_at dksX8_gives_3 12 rfl rfl)
theorem dX8_gives_85 : decode cX8_gives 85 = .ok (.aload_n 0, 1) := dk_42 (dk_at dksX8_gives_3 15 rfl rfl)
theorem dX8_gives_86 : decode cX8_gives 86 = .ok (.getfield 19, 3) := dk_180 0 19 (dk_at dksX8_gives_3 16 rfl rfl)
theorem dX8_gives_89 : decode cX8_gives 89 = .ok (.iload_n 3, 1) := dk_29 (dk_at dksX8_gives_3 19 rfl rfl)
theorem dX8_gives_90 : decode cX8_gives 90 = .ok (.ifCond .ge 7, 3) := dk_156 0 7 (dk_at dksX8_gives_3 20 rfl rfl)
theorem dX8_gives_93 : decode cX8_gives 93 = .ok (.iload_n 1, 1) := dk_27 (dk_at dksX8_gives_3 23 rfl rfl)
theorem dX8_gives_94 : decode cX8_gives 94 = .ok (.goto 8, 3) := dk_167 0 8 (dk_at dksX8_gives_4 0 rfl rfl)
theorem dX8_gives_97 : decode cX8_gives 97 = .ok (.iload_n 1, 1) := dk_27 (dk_at dksX8_gives_4 3 rfl rfl)
theorem dX8_gives_98 : decode cX8_gives 98 = .ok (.iconst 1, 1) := dk_4 (dk_at dksX8_gives_4 4 rfl rfl)
theorem dX8_gives_99 : decode cX8_gives 99 = .ok (.iload_n 3, 1) := dk_29 (dk_at dksX8_gives_4 5 rfl rfl)
theorem dX8_gives_100 : decode cX8_gives 100 = .ok (.ishl, 1) := dk_120 (dk_at dksX8_gives_4 6 rfl rfl)
theorem dX8_gives_101 : decode cX8_gives 101 = .ok (.ior, 1) := dk_128 (dk_at dksX8_gives_4 7 rfl rfl)
theorem dX8_gives_102 : decode cX8_gives 102 = .ok (.invokevirtual 76, 3) := dk_182 0 76 (dk_at dksX8_gives_4 8 rfl rfl)
theorem dX8_gives_105 : decode cX8_gives 105 = .ok (.return_, 1) := dk_177 (dk_at dksX8_gives_4 11 rfl rfl)
abbrev cX8_sum : ByteArray := prog_3_method_3_code
def yX8_sum : MethodName := ⟨RX8, "sum", "(I)I"⟩
def dkwX8_sum_3 : List UInt8 := [167, 255, 215, 42, 180, 0, 33, 27, 28, 79, 28, 172]
abbrev dktX8_sum_3 : List UInt8 := dkwX8_sum_3 ++ []
def dkwX8_sum_2 : List UInt8 := [42, 180, 0, 15, 182, 0, 56, 153, 0, 14, 28, 42, 29, 27, 182, 0, 60, 184, 0, 64, 61, 132, 3, 1]
abbrev dktX8_sum_2 : List UInt8 := dkwX8_sum_2 ++ dktX8_sum_3
def dkwX8_sum_1 : List UInt8 := [184, 0, 49, 96, 61, 3, 62, 29, 42, 180, 0, 3, 180, 0, 53, 162, 0, 36, 42, 180, 0, 3, 29, 27]
abbrev dktX8_sum_1 : List UInt8 := dkwX8_sum_1 ++ dktX8_sum_2
def dkwX8_sum_0 : List UInt8 := [42, 180, 0, 33, 27, 46, 155, 0, 10, 42, 180, 0, 33, 27, 46, 172, 17, 39, 16, 42, 180, 0, 19, 27]
abbrev dktX8_sum_0 : List UInt8 := dkwX8_sum_0 ++ dktX8_sum_1
theorem dksX8_sum_0 : cX8_sum.data.toList.drop 0 = dktX8_sum_0 := by decide +kernel
theorem dksX8_sum_1 : cX8_sum.data.toList.drop 24 = dktX8_sum_1 := dk_seg dksX8_sum_0 24 rfl rfl
theorem dksX8_sum_2 : cX8_sum.data.toList.drop 48 = dktX8_sum_2 := dk_seg dksX8_sum_1 24 rfl rfl
theorem dksX8_sum_3 : cX8_sum.data.toList.drop 72 = dktX8_sum_3 := dk_seg dksX8_sum_2 24 rfl rfl
theorem dX8_sum_0 : decode cX8_sum 0 = .ok (.aload_n 0, 1) := dk_42 (dk_at dksX8_sum_0 0 rfl rfl)
theorem dX8_sum_1 : decode cX8_sum 1 = .ok (.getfield 33, 3) := dk_180 0 33 (dk_at dksX8_sum_0 1 rfl rfl)
theorem dX8_sum_4 : decode cX8_sum 4 = .ok (.iload_n 1, 1) := dk_27 (dk_at dksX8_sum_0 4 rfl rfl)
theorem dX8_sum_5 : decode cX8_sum 5 = .ok (.iaload, 1) := dk_46 (dk_at dksX8_sum_0 5 rfl rfl)
theorem dX8_sum_6 : decode cX8_sum 6 = .ok (.ifCond .lt 10, 3) := dk_155 0 10 (dk_at dksX8_sum_0 6 rfl rfl)
theorem dX8_sum_9 : decode cX8_sum 9 = .ok (.aload_n 0, 1) := dk_42 (dk_at dksX8_sum_0 9 rfl rfl)
theorem dX8_sum_10 : decode cX8_sum 10 = .ok (.getfield 33, 3) := dk_180 0 33 (dk_at dksX8_sum_0 10 rfl rfl)
theorem dX8_sum_13 : decode cX8_sum 13 = .ok (.iload_n 1, 1) := dk_27 (dk_at dksX8_sum_0 13 rfl rfl)
theorem dX8_sum_14 : decode cX8_sum 14 = .ok (.iaload, 1) := dk_46 (dk_at dksX8_sum_0 14 rfl rfl)
theorem dX8_sum_15 : decode cX8_sum 15 = .ok (.ireturn, 1) := dk_172 (dk_at dksX8_sum_0 15 rfl rfl)
theorem dX8_sum_16 : decode cX8_sum 16 = .ok (.sipush 10000, 3) := dk_17 39 16 (dk_at dksX8_sum_0 16 rfl rfl)
theorem dX8_sum_19 : decode cX8_sum 19 = .ok (.aload_n 0, 1) := dk_42 (dk_at dksX8_sum_0 19 rfl rfl)
theorem dX8_sum_20 : decode cX8_sum 20 = .ok (.getfield 19, 3) := dk_180 0 19 (dk_at dksX8_sum_0 20 rfl rfl)
theorem dX8_sum_23 : decode cX8_sum 23 = .ok (.iload_n 1, 1) := dk_27 (dk_at dksX8_sum_0 23 rfl rfl)
theorem dX8_sum_24 : decode cX8_sum 24 = .ok (.invokestatic 49, 3) := dk_184 0 49 (dk_at dksX8_sum_1 0 rfl rfl)
theorem dX8_sum_27 : decode cX8_sum 27 = .ok (.iadd, 1) := dk_96 (dk_at dksX8_sum_1 3 rfl rfl)
theorem dX8_sum_28 : decode cX8_sum 28 = .ok (.istore_n 2, 1) := dk_61 (dk_at dksX8_sum_1 4 rfl rfl)
theorem dX8_sum_29 : decode cX8_sum 29 = .ok (.iconst 0, 1) := dk_3 (dk_at dksX8_sum_1 5 rfl rfl)
theorem dX8_sum_30 : decode cX8_sum 30 = .ok (.istore_n 3, 1) := dk_62 (dk_at dksX8_sum_1 6 rfl rfl)
theorem dX8_sum_31 : decode cX8_sum 31 = .ok (.iload_n 3, 1) := dk_29 (dk_at dksX8_sum_1 7 rfl rfl)
theorem dX8_sum_32 : decode cX8_sum 32 = .ok (.aload_n 0, 1) := dk_42 (dk_at dksX8_sum_1 8 rfl rfl)
theorem dX8_sum_33 : decode cX8_sum 33 = .ok (.getfield 3, 3) := dk_180 0 3 (dk_at dksX8_sum_1 9 rfl rfl)
theorem dX8_sum_36 : decode cX8_sum 36 = .ok (.getfield 53, 3) := dk_180 0 53 (dk_at dksX8_sum_1 12 rfl rfl)
theorem dX8_sum_39 : decode cX8_sum 39 = .ok (.if_icmp .ge 36, 3) := dk_162 0 36 (dk_at dksX8_sum_1 15 rfl rfl)
theorem dX8_sum_42 : decode cX8_sum 42 = .ok (.aload_n 0, 1) := dk_42 (dk_at dksX8_sum_1 18 rfl rfl)
theorem dX8_sum_43 : decode cX8_sum 43 = .ok (.getfield 3, 3) := dk_180 0 3 (dk_at dksX8_sum_1 19 rfl rfl)
theorem dX8_sum_46 : decode cX8_sum 46 = .ok (.iload_n 3, 1) := dk_29 (dk_at dksX8_sum_1 22 rfl rfl)
theorem dX8_sum_47 : decode cX8_sum 47 = .ok (.iload_n 1, 1) := dk_27 (dk_at dksX8_sum_1 23 rfl rfl)
theorem dX8_sum_48 : decode cX8_sum 48 = .ok (.aload_n 0, 1) := dk_42 (dk_at dksX8_sum_2 0 rfl rfl)
theorem dX8_sum_49 : decode cX8_sum 49 = .ok (.getfield 15, 3) := dk_180 0 15 (dk_at dksX8_sum_2 1 rfl rfl)
theorem dX8_sum_52 : decode cX8_sum 52 = .ok (.invokevirtual 56, 3) := dk_182 0 56 (dk_at dksX8_sum_2 4 rfl rfl)
theorem dX8_sum_55 : decode cX8_sum 55 = .ok (.ifCond .eq 14, 3) := dk_153 0 14 (dk_at dksX8_sum_2 7 rfl rfl)
theorem dX8_sum_58 : decode cX8_sum 58 = .ok (.iload_n 2, 1) := dk_28 (dk_at dksX8_sum_2 10 rfl rfl)
theorem dX8_sum_59 : decode cX8_sum 59 = .ok (.aload_n 0, 1) := dk_42 (dk_at dksX8_sum_2 11 rfl rfl)
theorem dX8_sum_60 : decode cX8_sum 60 = .ok (.iload_n 3, 1) := dk_29 (dk_at dksX8_sum_2 12 rfl rfl)
theorem dX8_sum_61 : decode cX8_sum 61 = .ok (.iload_n 1, 1) := dk_27 (dk_at dksX8_sum_2 13 rfl rfl)
theorem dX8_sum_62 : decode cX8_sum 62 = .ok (.invokevirtual 60, 3) := dk_182 0 60 (dk_at dksX8_sum_2 14 rfl rfl)
theorem dX8_sum_65 : decode cX8_sum 65 = .ok (.invokestatic 64, 3) := dk_184 0 64 (dk_at dksX8_sum_2 17 rfl rfl)
theorem dX8_sum_68 : decode cX8_sum 68 = .ok (.istore_n 2, 1) := dk_61 (dk_at dksX8_sum_2 20 rfl rfl)
theorem dX8_sum_69 : decode cX8_sum 69 = .ok (.iinc 3 1, 3) := dk_132 3 1 (dk_at dksX8_sum_2 21 rfl rfl)
theorem dX8_sum_72 : decode cX8_sum 72 = .ok (.goto (-41), 3) := dk_167 255 215 (dk_at dksX8_sum_3 0 rfl rfl)
theorem dX8_sum_75 : decode cX8_sum 75 = .ok (.aload_n 0, 1) := dk_42 (dk_at dksX8_sum_3 3 rfl rfl)
theorem dX8_sum_76 : decode cX8_sum 76 = .ok (.getfield 33, 3) := dk_180 0 33 (dk_at dksX8_sum_3 4 rfl rfl)
theorem dX8_sum_79 : decode cX8_sum 79 = .ok (.iload_n 1, 1) := dk_27 (dk_at dksX8_sum_3 7 rfl rfl)
theorem dX8_sum_80 : decode cX8_sum 80 = .ok (.iload_n 2, 1) := dk_28 (dk_at dksX8_sum_3 8 rfl rfl)
theorem dX8_sum_81 : decode cX8_sum 81 = .ok (.iastore, 1) := dk_79 (dk_at dksX8_sum_3 9 rfl rfl)
theorem dX8_sum_82 : decode cX8_sum 82 = .ok (.iload_n 2, 1) := dk_28 (dk_at dksX8_sum_3 10 rfl rfl)
theorem dX8_sum_83 : decode cX8_sum 83 = .ok (.ireturn, 1) := dk_172 (dk_at dksX8_sum_3 11 rfl rfl)
abbrev cX8_with : ByteArray := prog_3_method_2_code
def yX8_with : MethodName := ⟨RX8, "with", "(II)I"⟩
def dkwX8_with_1 : List UInt8 := [120, 128, 184, 0, 49, 96, 172]
abbrev dktX8_with_1 : List UInt8 := dkwX8_with_1 ++ []
def dkwX8_with_0 : List UInt8 := [42, 180, 0, 3, 180, 0, 43, 27, 50, 42, 180, 0, 15, 180, 0, 46, 46, 42, 180, 0, 19, 28, 4, 27]
abbrev dktX8_with_0 : List UInt8 := dkwX8_with_0 ++ dktX8_with_1
theorem dksX8_with_0 : cX8_with.data.toList.drop 0 = dktX8_with_0 := by decide +kernel
theorem dksX8_with_1 : cX8_with.data.toList.drop 24 = dktX8_with_1 := dk_seg dksX8_with_0 24 rfl rfl
theorem dX8_with_0 : decode cX8_with 0 = .ok (.aload_n 0, 1) := dk_42 (dk_at dksX8_with_0 0 rfl rfl)
theorem dX8_with_1 : decode cX8_with 1 = .ok (.getfield 3, 3) := dk_180 0 3 (dk_at dksX8_with_0 1 rfl rfl)
theorem dX8_with_4 : decode cX8_with 4 = .ok (.getfield 43, 3) := dk_180 0 43 (dk_at dksX8_with_0 4 rfl rfl)
theorem dX8_with_7 : decode cX8_with 7 = .ok (.iload_n 1, 1) := dk_27 (dk_at dksX8_with_0 7 rfl rfl)
theorem dX8_with_8 : decode cX8_with 8 = .ok (.aaload, 1) := dk_50 (dk_at dksX8_with_0 8 rfl rfl)
theorem dX8_with_9 : decode cX8_with 9 = .ok (.aload_n 0, 1) := dk_42 (dk_at dksX8_with_0 9 rfl rfl)
theorem dX8_with_10 : decode cX8_with 10 = .ok (.getfield 15, 3) := dk_180 0 15 (dk_at dksX8_with_0 10 rfl rfl)
theorem dX8_with_13 : decode cX8_with 13 = .ok (.getfield 46, 3) := dk_180 0 46 (dk_at dksX8_with_0 13 rfl rfl)
theorem dX8_with_16 : decode cX8_with 16 = .ok (.iaload, 1) := dk_46 (dk_at dksX8_with_0 16 rfl rfl)
theorem dX8_with_17 : decode cX8_with 17 = .ok (.aload_n 0, 1) := dk_42 (dk_at dksX8_with_0 17 rfl rfl)
theorem dX8_with_18 : decode cX8_with 18 = .ok (.getfield 19, 3) := dk_180 0 19 (dk_at dksX8_with_0 18 rfl rfl)
theorem dX8_with_21 : decode cX8_with 21 = .ok (.iload_n 2, 1) := dk_28 (dk_at dksX8_with_0 21 rfl rfl)
theorem dX8_with_22 : decode cX8_with 22 = .ok (.iconst 1, 1) := dk_4 (dk_at dksX8_with_0 22 rfl rfl)
theorem dX8_with_23 : decode cX8_with 23 = .ok (.iload_n 1, 1) := dk_27 (dk_at dksX8_with_0 23 rfl rfl)
theorem dX8_with_24 : decode cX8_with 24 = .ok (.ishl, 1) := dk_120 (dk_at dksX8_with_1 0 rfl rfl)
theorem dX8_with_25 : decode cX8_with 25 = .ok (.ior, 1) := dk_128 (dk_at dksX8_with_1 1 rfl rfl)
theorem dX8_with_26 : decode cX8_with 26 = .ok (.invokestatic 49, 3) := dk_184 0 49 (dk_at dksX8_with_1 2 rfl rfl)
theorem dX8_with_29 : decode cX8_with 29 = .ok (.iadd, 1) := dk_96 (dk_at dksX8_with_1 5 rfl rfl)
theorem dX8_with_30 : decode cX8_with 30 = .ok (.ireturn, 1) := dk_172 (dk_at dksX8_with_1 6 rfl rfl)
theorem q123 : (Jvm.Cond.initialized "SwarmPlanner$Chain") ∈ lw_all := lw_g (lw_at lw_m1 20 rfl) rfl
theorem q224 : (Jvm.Cond.fieldLinkNest "SwarmPlanner$Chain" (23 : Nat) "SwarmPlanner" "sums" "[[I" "SwarmPlanner") ∈ lw_tbl := lw_at lw_m1 121 rfl
theorem q227 : (Jvm.Cond.fieldLinkNest "SwarmPlanner$Chain" (43 : Nat) "SwarmPlanner" "fromPlace" "[[I" "SwarmPlanner") ∈ lw_tbl := lw_at lw_m1 124 rfl
theorem q229 : (Jvm.Cond.fieldLinkNest "SwarmPlanner$Chain" (73 : Nat) "SwarmPlanner" "slotOf" "[I" "SwarmPlanner") ∈ lw_tbl := lw_at lw_m1 126 rfl
theorem q231 : (Jvm.Cond.fieldLinkNest "SwarmPlanner$Chain" (53 : Nat) "SwarmPlanner" "slotMany" "I" "SwarmPlanner") ∈ lw_tbl := lw_at lw_m1 128 rfl
theorem q332 : (Jvm.Cond.fieldLinkNest "SwarmPlanner$Chain" (27 : Nat) "SwarmPlanner$Member" "number" "I" "SwarmPlanner") ∈ lw_tbl := lw_at lw_m1 229 rfl
theorem q337 : (Jvm.Cond.fieldLinkNest "SwarmPlanner$Chain" (46 : Nat) "SwarmPlanner$Member" "cell" "I" "SwarmPlanner") ∈ lw_tbl := lw_at lw_m1 234 rfl
theorem q399 : (Jvm.Cond.selects "SwarmPlanner$Chain" ({ cls := "java/lang/Object", name := "getClass", desc := "()Ljava/lang/Class;" } : Jvm.MethodName) ({ cls := "java/lang/Object", name := "getClass", desc := "()Ljava/lang/Class;" } : Jvm.MethodName)) ∈ lw_all := lw_g (lw_at lw_m2 56 rfl) rfl
theorem q701 : (Jvm.Cond.instantiable "SwarmPlanner$Chain" (4 : Nat)) ∈ lw_all := lw_g (lw_at lw_m3 118 rfl) rfl
theorem q703 : (Jvm.Cond.instanceMethod ({ cls := "SwarmPlanner$Chain", name := "<init>", desc := "(LSwarmPlanner;LSwarmPlanner$Member;LSwarmPlanner$Chain;)V" } : Jvm.MethodName)) ∈ lw_all := lw_g (lw_at lw_m3 120 rfl) rfl
theorem q704 : (Jvm.Cond.code ({ cls := "SwarmPlanner$Chain", name := "<init>", desc := "(LSwarmPlanner;LSwarmPlanner$Member;LSwarmPlanner$Chain;)V" } : Jvm.MethodName) prog_3_method_1_code (4 : Nat) (Option.none : Option Jvm.ClassFile.FieldType)) ∈ lw_all := lw_g (lw_at lw_m3 121 rfl) rfl
theorem q705 : (Jvm.Cond.methodLink "SwarmPlanner$Chain" (9 : Nat) ({ cls := "java/lang/Object", name := "<init>", desc := "()V" } : Jvm.MethodName)) ∈ lw_all := lw_g (lw_at lw_m3 122 rfl) rfl
theorem q706 : (Jvm.Cond.methodLink "SwarmPlanner$Chain" (37 : Nat) ({ cls := "java/util/Arrays", name := "fill", desc := "([II)V" } : Jvm.MethodName)) ∈ lw_all := lw_g (lw_at lw_m3 123 rfl) rfl
theorem q709 : (Jvm.Cond.fieldLink "SwarmPlanner$Chain" (15 : Nat) "SwarmPlanner$Chain" "member" "LSwarmPlanner$Member;") ∈ lw_all := lw_g (lw_at lw_m3 126 rfl) rfl
theorem q710 : (Jvm.Cond.fieldLink "SwarmPlanner$Chain" (19 : Nat) "SwarmPlanner$Chain" "behind" "LSwarmPlanner$Chain;") ∈ lw_all := lw_g (lw_at lw_m3 127 rfl) rfl
theorem q711 : (Jvm.Cond.fieldLink "SwarmPlanner$Chain" (33 : Nat) "SwarmPlanner$Chain" "known" "[I") ∈ lw_all := lw_g (lw_at lw_m3 128 rfl) rfl
theorem q712 : (Jvm.Cond.fieldLink "SwarmPlanner$Chain" (3 : Nat) "SwarmPlanner$Chain" "this$0" "LSwarmPlanner;") ∈ lw_all := lw_g (lw_at lw_m3 129 rfl) rfl
theorem q713 : (Jvm.Cond.laysFinal "SwarmPlanner$Chain" "SwarmPlanner$Chain" "member" "LSwarmPlanner$Member;") ∈ lw_all := lw_g (lw_at lw_m3 130 rfl) rfl
theorem q714 : (Jvm.Cond.soleField "SwarmPlanner$Chain" "member") ∈ lw_all := lw_g (lw_at lw_m3 131 rfl) rfl
theorem q715 : (Jvm.Cond.laysFinal "SwarmPlanner$Chain" "SwarmPlanner$Chain" "behind" "LSwarmPlanner$Chain;") ∈ lw_all := lw_g (lw_at lw_m3 132 rfl) rfl
theorem q716 : (Jvm.Cond.soleField "SwarmPlanner$Chain" "behind") ∈ lw_all := lw_g (lw_at lw_m3 133 rfl) rfl
theorem q717 : (Jvm.Cond.laysFinal "SwarmPlanner$Chain" "SwarmPlanner$Chain" "known" "[I") ∈ lw_all := lw_g (lw_at lw_m3 134 rfl) rfl
theorem q718 : (Jvm.Cond.soleField "SwarmPlanner$Chain" "known") ∈ lw_all := lw_g (lw_at lw_m3 135 rfl) rfl
theorem q719 : (Jvm.Cond.laysFinal "SwarmPlanner$Chain" "SwarmPlanner$Chain" "this$0" "LSwarmPlanner;") ∈ lw_all := lw_g (lw_at lw_m3 136 rfl) rfl
theorem q720 : (Jvm.Cond.soleField "SwarmPlanner$Chain" "this$0") ∈ lw_all := lw_g (lw_at lw_m3 137 rfl) rfl
theorem q721 : (Jvm.Cond.superclass "SwarmPlanner$Chain" "java/lang/Object") ∈ lw_all := lw_g (lw_at lw_m3 138 rfl) rfl
theorem q723 : (Jvm.Cond.instanceMethod ({ cls := "SwarmPlanner$Chain", name := "gives", desc := "(I)V" } : Jvm.MethodName)) ∈ lw_all := lw_g (lw_at lw_m3 140 rfl) rfl
theorem q724 : (Jvm.Cond.selects "SwarmPlanner$Chain" ({ cls := "SwarmPlanner$Chain", name := "gives", desc := "(I)V" } : Jvm.MethodName) ({ cls := "SwarmPlanner$Chain", name := "gives", desc := "(I)V" } : Jvm.MethodName)) ∈ lw_all := lw_g (lw_at lw_m3 141 rfl) rfl
theorem q725 : (Jvm.Cond.code ({ cls := "SwarmPlanner$Chain", name := "gives", desc := "(I)V" } : Jvm.MethodName) prog_3_method_4_code (5 : Nat) (Option.none : Option Jvm.ClassFile.FieldType)) ∈ lw_all := lw_g (lw_at lw_m3 142 rfl) rfl
theorem q726 : (Jvm.Cond.methodLink "SwarmPlanner$Chain" (69 : Nat) ({ cls := "SwarmPlanner$Chain", name := "sum", desc := "(I)I" } : Jvm.MethodName)) ∈ lw_all := lw_g (lw_at lw_m3 143 rfl) rfl
theorem q727 : (Jvm.Cond.privateMethod ({ cls := "SwarmPlanner$Chain", name := "sum", desc := "(I)I" } : Jvm.MethodName)) ∈ lw_tbl := lw_at lw_m3 144 rfl
theorem q728 : (Jvm.Cond.instanceMethod ({ cls := "SwarmPlanner$Chain", name := "sum", desc := "(I)I" } : Jvm.MethodName)) ∈ lw_all := lw_g (lw_at lw_m3 145 rfl) rfl
theorem q729 : (Jvm.Cond.code ({ cls := "SwarmPlanner$Chain", name := "sum", desc := "(I)I" } : Jvm.MethodName) prog_3_method_3_code (4 : Nat) (Option.some Jvm.ClassFile.FieldType.int)) ∈ lw_all := lw_g (lw_at lw_m3 146 rfl) rfl
theorem q730 : (Jvm.Cond.methodLinkNest "SwarmPlanner$Chain" (49 : Nat) ({ cls := "SwarmPlanner", name := "best", desc := "(LSwarmPlanner$Chain;I)I" } : Jvm.MethodName) "SwarmPlanner") ∈ lw_tbl := lw_at lw_m3 147 rfl
theorem q734 : (Jvm.Cond.methodLinkNest "SwarmPlanner$Chain" (56 : Nat) ({ cls := "SwarmPlanner", name := "isGiveable", desc := "(IILSwarmPlanner$Member;)Z" } : Jvm.MethodName) "SwarmPlanner") ∈ lw_tbl := lw_at lw_m3 151 rfl
theorem q738 : (Jvm.Cond.methodLink "SwarmPlanner$Chain" (60 : Nat) ({ cls := "SwarmPlanner$Chain", name := "with", desc := "(II)I" } : Jvm.MethodName)) ∈ lw_all := lw_g (lw_at lw_m3 155 rfl) rfl
theorem q739 : (Jvm.Cond.privateMethod ({ cls := "SwarmPlanner$Chain", name := "with", desc := "(II)I" } : Jvm.MethodName)) ∈ lw_tbl := lw_at lw_m3 156 rfl
theorem q740 : (Jvm.Cond.instanceMethod ({ cls := "SwarmPlanner$Chain", name := "with", desc := "(II)I" } : Jvm.MethodName)) ∈ lw_all := lw_g (lw_at lw_m3 157 rfl) rfl
theorem q741 : (Jvm.Cond.code ({ cls := "SwarmPlanner$Chain", name := "with", desc := "(II)I" } : Jvm.MethodName) prog_3_method_2_code (3 : Nat) (Option.some Jvm.ClassFile.FieldType.int)) ∈ lw_all := lw_g (lw_at lw_m3 158 rfl) rfl
theorem q742 : (Jvm.Cond.methodLink "SwarmPlanner$Chain" (64 : Nat) ({ cls := "java/lang/Math", name := "min", desc := "(II)I" } : Jvm.MethodName)) ∈ lw_all := lw_g (lw_at lw_m3 159 rfl) rfl
theorem q743 : (Jvm.Cond.methodLink "SwarmPlanner$Chain" (76 : Nat) ({ cls := "SwarmPlanner$Chain", name := "gives", desc := "(I)V" } : Jvm.MethodName)) ∈ lw_all := lw_g (lw_at lw_m3 160 rfl) rfl
theorem q1492 : (Jvm.Cond.castable "SwarmPlanner$Chain" "java/lang/Object") ∈ lw_tbl := lw_at lw_m6 189 rfl
theorem in_X8 : ∀ w ∈ wsX80, w ∈ lw_all := lw_in wsX80 [713, 715, 717, 719] (by decide +kernel) (by decide +kernel)
