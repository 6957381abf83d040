/-! SwarmPlanner$Command -/
set_option maxRecDepth 100000
def RX9 : String := "SwarmPlanner$Command"
def TX9 : u_T := fun k => match k with
  | 0 => ("SwarmPlanner$Command", "letter", "I", true)
  | 1 => ("SwarmPlanner$Command", "first", "I", true)
  | 2 => ("SwarmPlanner$Command", "second", "I", true)
  | _ => ("SwarmPlanner$Command", "this$0", "LSwarmPlanner;", true)
def tyX9 : Nat → FieldType := fun k => match k with
  | 0 => .int
  | 1 => .int
  | 2 => .int
  | _ => .object "SwarmPlanner"
abbrev wsX90 : List Cond := u_ws RX9 TX9 4
theorem nmX9 : ∀ a, a < 4 → ∀ b, b < 4 → a ≠ b → (TX9 a).2.1 ≠ (TX9 b).2.1 := by decide +kernel
theorem tyX9_ok : ∀ k, k < 4 → parseFieldDescriptor (TX9 k).2.2.1 = some (tyX9 k) := by decide +kernel
abbrev cX9_init : ByteArray := prog_4_method_1_code
def yX9_init : MethodName := ⟨RX9, "<init>", "(LSwarmPlanner;III)V"⟩
def dkwX9_init_1 : List UInt8 := [181, 0, 22, 177]
abbrev dktX9_init_1 : List UInt8 := dkwX9_init_1 ++ []
def dkwX9_init_0 : List UInt8 := [42, 43, 181, 0, 3, 42, 183, 0, 9, 42, 28, 181, 0, 15, 42, 29, 181, 0, 19, 42, 21, 4]
abbrev dktX9_init_0 : List UInt8 := dkwX9_init_0 ++ dktX9_init_1
theorem dksX9_init_0 : cX9_init.data.toList.drop 0 = dktX9_init_0 := by decide +kernel
theorem dksX9_init_1 : cX9_init.data.toList.drop 22 = dktX9_init_1 := dk_seg dksX9_init_0 22 rfl rfl
theorem dX9_init_0 : decode cX9_init 0 = .ok (.aload_n 0, 1) := dk_42 (dk_at dksX9_init_0 0 rfl rfl)
theorem dX9_init_1 : decode cX9_init 1 = .ok (.aload_n 1, 1) := dk_43 (dk_at dksX9_init_0 1 rfl rfl)
theorem dX9_init_2 : decode cX9_init 2 = .ok (.putfield 3, 3) := dk_181 0 3 (dk_at dksX9_init_0 2 rfl rfl)
theorem dX9_init_5 : decode cX9_init 5 = .ok (.aload_n 0, 1) := dk_42 (dk_at dksX9_init_0 5 rfl rfl)
theorem dX9_init_6 : decode cX9_init 6 = .ok (.invokespecial 9, 3) := dk_183 0 9 (dk_at dksX9_init_0 6 rfl rfl)
theorem dX9_init_9 : decode cX9_init 9 = .ok (.aload_n 0, 1) := dk_42 (dk_at dksX9_init_0 9 rfl rfl)
theorem dX9_init_10 : decode cX9_init 10 = .ok (.iload_n 2, 1) := dk_28 (dk_at dksX9_init_0 10 rfl rfl)
theorem dX9_init_11 : decode cX9_init 11 = .ok (.putfield 15, 3) := dk_181 0 15 (dk_at dksX9_init_0 11 rfl rfl)
theorem dX9_init_14 : decode cX9_init 14 = .ok (.aload_n 0, 1) := dk_42 (dk_at dksX9_init_0 14 rfl rfl)
theorem dX9_init_15 : decode cX9_init 15 = .ok (.iload_n 3, 1) := dk_29 (dk_at dksX9_init_0 15 rfl rfl)
theorem dX9_init_16 : decode cX9_init 16 = .ok (.putfield 19, 3) := dk_181 0 19 (dk_at dksX9_init_0 16 rfl rfl)
theorem dX9_init_19 : decode cX9_init 19 = .ok (.aload_n 0, 1) := dk_42 (dk_at dksX9_init_0 19 rfl rfl)
theorem dX9_init_20 : decode cX9_init 20 = .ok (.iload 4, 2) := dk_21 4 (dk_at dksX9_init_0 20 rfl rfl)
theorem dX9_init_22 : decode cX9_init 22 = .ok (.putfield 22, 3) := dk_181 0 22 (dk_at dksX9_init_1 0 rfl rfl)
theorem dX9_init_25 : decode cX9_init 25 = .ok (.return_, 1) := dk_177 (dk_at dksX9_init_1 3 rfl rfl)
abbrev cX9_against : ByteArray := prog_4_method_4_code
def yX9_against : MethodName := ⟨RX9, "against", "()I"⟩
def dkwX9_against_7 : List UInt8 := [180, 0, 37, 42, 180, 0, 19, 182, 0, 54, 153, 0, 7, 3, 167, 0, 4, 8, 172]
abbrev dktX9_against_7 : List UInt8 := dkwX9_against_7 ++ []
def dkwX9_against_6 : List UInt8 := [4, 16, 40, 184, 0, 25, 153, 0, 7, 3, 167, 0, 30, 16, 6, 167, 0, 25, 42, 180, 0, 3]
abbrev dktX9_against_6 : List UInt8 := dkwX9_against_6 ++ dktX9_against_7
def dkwX9_against_5 : List UInt8 := [167, 0, 64, 42, 180, 0, 3, 180, 0, 37, 182, 0, 51, 156, 0, 7, 8, 167, 0, 47, 42, 180, 0, 19]
abbrev dktX9_against_5 : List UInt8 := dkwX9_against_5 ++ dktX9_against_6
def dkwX9_against_4 : List UInt8 := [155, 0, 7, 6, 167, 0, 83, 3, 167, 0, 79, 42, 182, 0, 33, 153, 0, 7, 3, 167, 0, 68, 4]
abbrev dktX9_against_4 : List UInt8 := dkwX9_against_4 ++ dktX9_against_5
def dkwX9_against_3 : List UInt8 := [154, 0, 7, 4, 167, 0, 105, 42, 180, 0, 3, 180, 0, 37, 180, 0, 41, 42, 182, 0, 47, 46]
abbrev dktX9_against_3 : List UInt8 := dkwX9_against_3 ++ dktX9_against_4
def dkwX9_against_2 : List UInt8 := [42, 180, 0, 3, 42, 180, 0, 19, 42, 180, 0, 22, 182, 0, 29, 167, 0, 116, 42, 182, 0, 33]
abbrev dktX9_against_2 : List UInt8 := dkwX9_against_2 ++ dktX9_against_3
def dkwX9_against_1 : List UInt8 := [171, 0, 0, 0, 0, 0, 0, 153, 0, 0, 0, 4, 0, 0, 0, 97, 0, 0, 0, 44, 0, 0, 0, 103, 0, 0, 0, 114, 0, 0, 0, 111, 0, 0, 0, 62, 0, 0, 0, 116, 0, 0, 0, 99]
abbrev dktX9_against_1 : List UInt8 := dkwX9_against_1 ++ dktX9_against_2
def dkwX9_against_0 : List UInt8 := [42, 180, 0, 15]
abbrev dktX9_against_0 : List UInt8 := dkwX9_against_0 ++ dktX9_against_1
theorem dksX9_against_0 : cX9_against.data.toList.drop 0 = dktX9_against_0 := by decide +kernel
theorem dksX9_against_1 : cX9_against.data.toList.drop 4 = dktX9_against_1 := dk_seg dksX9_against_0 4 rfl rfl
theorem dksX9_against_2 : cX9_against.data.toList.drop 48 = dktX9_against_2 := dk_seg dksX9_against_1 44 rfl rfl
theorem dksX9_against_3 : cX9_against.data.toList.drop 70 = dktX9_against_3 := dk_seg dksX9_against_2 22 rfl rfl
theorem dksX9_against_4 : cX9_against.data.toList.drop 92 = dktX9_against_4 := dk_seg dksX9_against_3 22 rfl rfl
theorem dksX9_against_5 : cX9_against.data.toList.drop 115 = dktX9_against_5 := dk_seg dksX9_against_4 23 rfl rfl
theorem dksX9_against_6 : cX9_against.data.toList.drop 139 = dktX9_against_6 := dk_seg dksX9_against_5 24 rfl rfl
theorem dksX9_against_7 : cX9_against.data.toList.drop 161 = dktX9_against_7 := dk_seg dksX9_against_6 22 rfl rfl
theorem dX9_against_0 : decode cX9_against 0 = .ok (.aload_n 0, 1) := dk_42 (dk_at dksX9_against_0 0 rfl rfl)
theorem dX9_against_1 : decode cX9_against 1 = .ok (.getfield 15, 3) := dk_180 0 15 (dk_at dksX9_against_0 1 rfl rfl)
theorem dX9_against_4 : decode cX9_against 4 = .ok (.lookupswitch 153 #[(97, 44), (103, 114), (111, 62), (116, 99)], 44) := by decide +kernel
theorem dX9_against_48 : decode cX9_against 48 = .ok (.aload_n 0, 1) := dk_42 (dk_at dksX9_against_2 0 rfl rfl)
theorem dX9_against_49 : decode cX9_against 49 = .ok (.getfield 3, 3) := dk_180 0 3 (dk_at dksX9_against_2 1 rfl rfl)
theorem dX9_against_52 : decode cX9_against 52 = .ok (.aload_n 0, 1) := dk_42 (dk_at dksX9_against_2 4 rfl rfl)
theorem dX9_against_53 : decode cX9_against 53 = .ok (.getfield 19, 3) := dk_180 0 19 (dk_at dksX9_against_2 5 rfl rfl)
theorem dX9_against_56 : decode cX9_against 56 = .ok (.aload_n 0, 1) := dk_42 (dk_at dksX9_against_2 8 rfl rfl)
theorem dX9_against_57 : decode cX9_against 57 = .ok (.getfield 22, 3) := dk_180 0 22 (dk_at dksX9_against_2 9 rfl rfl)
theorem dX9_against_60 : decode cX9_against 60 = .ok (.invokevirtual 29, 3) := dk_182 0 29 (dk_at dksX9_against_2 12 rfl rfl)
theorem dX9_against_63 : decode cX9_against 63 = .ok (.goto 116, 3) := dk_167 0 116 (dk_at dksX9_against_2 15 rfl rfl)
theorem dX9_against_66 : decode cX9_against 66 = .ok (.aload_n 0, 1) := dk_42 (dk_at dksX9_against_2 18 rfl rfl)
theorem dX9_against_67 : decode cX9_against 67 = .ok (.invokevirtual 33, 3) := dk_182 0 33 (dk_at dksX9_against_2 19 rfl rfl)
theorem dX9_against_70 : decode cX9_against 70 = .ok (.ifCond .ne 7, 3) := dk_154 0 7 (dk_at dksX9_against_3 0 rfl rfl)
theorem dX9_against_73 : decode cX9_against 73 = .ok (.iconst 1, 1) := dk_4 (dk_at dksX9_against_3 3 rfl rfl)
theorem dX9_against_74 : decode cX9_against 74 = .ok (.goto 105, 3) := dk_167 0 105 (dk_at dksX9_against_3 4 rfl rfl)
theorem dX9_against_77 : decode cX9_against 77 = .ok (.aload_n 0, 1) := dk_42 (dk_at dksX9_against_3 7 rfl rfl)
theorem dX9_against_78 : decode cX9_against 78 = .ok (.getfield 3, 3) := dk_180 0 3 (dk_at dksX9_against_3 8 rfl rfl)
theorem dX9_against_81 : decode cX9_against 81 = .ok (.getfield 37, 3) := dk_180 0 37 (dk_at dksX9_against_3 11 rfl rfl)
theorem dX9_against_84 : decode cX9_against 84 = .ok (.getfield 41, 3) := dk_180 0 41 (dk_at dksX9_against_3 14 rfl rfl)
theorem dX9_against_87 : decode cX9_against 87 = .ok (.aload_n 0, 1) := dk_42 (dk_at dksX9_against_3 17 rfl rfl)
theorem dX9_against_88 : decode cX9_against 88 = .ok (.invokevirtual 47, 3) := dk_182 0 47 (dk_at dksX9_against_3 18 rfl rfl)
theorem dX9_against_91 : decode cX9_against 91 = .ok (.iaload, 1) := dk_46 (dk_at dksX9_against_3 21 rfl rfl)
theorem dX9_against_92 : decode cX9_against 92 = .ok (.ifCond .lt 7, 3) := dk_155 0 7 (dk_at dksX9_against_4 0 rfl rfl)
theorem dX9_against_95 : decode cX9_against 95 = .ok (.iconst 3, 1) := dk_6 (dk_at dksX9_against_4 3 rfl rfl)
theorem dX9_against_96 : decode cX9_against 96 = .ok (.goto 83, 3) := dk_167 0 83 (dk_at dksX9_against_4 4 rfl rfl)
theorem dX9_against_99 : decode cX9_against 99 = .ok (.iconst 0, 1) := dk_3 (dk_at dksX9_against_4 7 rfl rfl)
theorem dX9_against_100 : decode cX9_against 100 = .ok (.goto 79, 3) := dk_167 0 79 (dk_at dksX9_against_4 8 rfl rfl)
theorem dX9_against_103 : decode cX9_against 103 = .ok (.aload_n 0, 1) := dk_42 (dk_at dksX9_against_4 11 rfl rfl)
theorem dX9_against_104 : decode cX9_against 104 = .ok (.invokevirtual 33, 3) := dk_182 0 33 (dk_at dksX9_against_4 12 rfl rfl)
theorem dX9_against_107 : decode cX9_against 107 = .ok (.ifCond .eq 7, 3) := dk_153 0 7 (dk_at dksX9_against_4 15 rfl rfl)
theorem dX9_against_110 : decode cX9_against 110 = .ok (.iconst 0, 1) := dk_3 (dk_at dksX9_against_4 18 rfl rfl)
theorem dX9_against_111 : decode cX9_against 111 = .ok (.goto 68, 3) := dk_167 0 68 (dk_at dksX9_against_4 19 rfl rfl)
theorem dX9_against_114 : decode cX9_against 114 = .ok (.iconst 1, 1) := dk_4 (dk_at dksX9_against_4 22 rfl rfl)
theorem dX9_against_115 : decode cX9_against 115 = .ok (.goto 64, 3) := dk_167 0 64 (dk_at dksX9_against_5 0 rfl rfl)
theorem dX9_against_118 : decode cX9_against 118 = .ok (.aload_n 0, 1) := dk_42 (dk_at dksX9_against_5 3 rfl rfl)
theorem dX9_against_119 : decode cX9_against 119 = .ok (.getfield 3, 3) := dk_180 0 3 (dk_at dksX9_against_5 4 rfl rfl)
theorem dX9_against_122 : decode cX9_against 122 = .ok (.getfield 37, 3) := dk_180 0 37 (dk_at dksX9_against_5 7 rfl rfl)
theorem dX9_against_125 : decode cX9_against 125 = .ok (.invokevirtual 51, 3) := dk_182 0 51 (dk_at dksX9_against_5 10 rfl rfl)
theorem dX9_against_128 : decode cX9_against 128 = .ok (.ifCond .ge 7, 3) := dk_156 0 7 (dk_at dksX9_against_5 13 rfl rfl)
theorem dX9_against_131 : decode cX9_against 131 = .ok (.iconst 5, 1) := dk_8 (dk_at dksX9_against_5 16 rfl rfl)
theorem dX9_against_132 : decode cX9_against 132 = .ok (.goto 47, 3) := dk_167 0 47 (dk_at dksX9_against_5 17 rfl rfl)
theorem dX9_against_135 : decode cX9_against 135 = .ok (.aload_n 0, 1) := dk_42 (dk_at dksX9_against_5 20 rfl rfl)
theorem dX9_against_136 : decode cX9_against 136 = .ok (.getfield 19, 3) := dk_180 0 19 (dk_at dksX9_against_5 21 rfl rfl)
theorem dX9_against_139 : decode cX9_against 139 = .ok (.iconst 1, 1) := dk_4 (dk_at dksX9_against_6 0 rfl rfl)
theorem dX9_against_140 : decode cX9_against 140 = .ok (.bipush 40, 2) := dk_16 40 (dk_at dksX9_against_6 1 rfl rfl)
theorem dX9_against_142 : decode cX9_against 142 = .ok (.invokestatic 25, 3) := dk_184 0 25 (dk_at dksX9_against_6 3 rfl rfl)
theorem dX9_against_145 : decode cX9_against 145 = .ok (.ifCond .eq 7, 3) := dk_153 0 7 (dk_at dksX9_against_6 6 rfl rfl)
theorem dX9_against_148 : decode cX9_against 148 = .ok (.iconst 0, 1) := dk_3 (dk_at dksX9_against_6 9 rfl rfl)
theorem dX9_against_149 : decode cX9_against 149 = .ok (.goto 30, 3) := dk_167 0 30 (dk_at dksX9_against_6 10 rfl rfl)
theorem dX9_against_152 : decode cX9_against 152 = .ok (.bipush 6, 2) := dk_16 6 (dk_at dksX9_against_6 13 rfl rfl)
theorem dX9_against_154 : decode cX9_against 154 = .ok (.goto 25, 3) := dk_167 0 25 (dk_at dksX9_against_6 15 rfl rfl)
theorem dX9_against_157 : decode cX9_against 157 = .ok (.aload_n 0, 1) := dk_42 (dk_at dksX9_against_6 18 rfl rfl)
theorem dX9_against_158 : decode cX9_against 158 = .ok (.getfield 3, 3) := dk_180 0 3 (dk_at dksX9_against_6 19 rfl rfl)
theorem dX9_against_161 : decode cX9_against 161 = .ok (.getfield 37, 3) := dk_180 0 37 (dk_at dksX9_against_7 0 rfl rfl)
theorem dX9_against_164 : decode cX9_against 164 = .ok (.aload_n 0, 1) := dk_42 (dk_at dksX9_against_7 3 rfl rfl)
theorem dX9_against_165 : decode cX9_against 165 = .ok (.getfield 19, 3) := dk_180 0 19 (dk_at dksX9_against_7 4 rfl rfl)
theorem dX9_against_168 : decode cX9_against 168 = .ok (.invokevirtual 54, 3) := dk_182 0 54 (dk_at dksX9_against_7 7 rfl rfl)
theorem dX9_against_171 : decode cX9_against 171 = .ok (.ifCond .eq 7, 3) := dk_153 0 7 (dk_at dksX9_against_7 10 rfl rfl)
theorem dX9_against_174 : decode cX9_against 174 = .ok (.iconst 0, 1) := dk_3 (dk_at dksX9_against_7 13 rfl rfl)
theorem dX9_against_175 : decode cX9_against 175 = .ok (.goto 4, 3) := dk_167 0 4 (dk_at dksX9_against_7 14 rfl rfl)
theorem dX9_against_178 : decode cX9_against 178 = .ok (.iconst 5, 1) := dk_8 (dk_at dksX9_against_7 17 rfl rfl)
theorem dX9_against_179 : decode cX9_against 179 = .ok (.ireturn, 1) := dk_172 (dk_at dksX9_against_7 18 rfl rfl)
abbrev cX9_isThere : ByteArray := prog_4_method_2_code
def yX9_isThere : MethodName := ⟨RX9, "isThere", "()Z"⟩
def dkwX9_isThere_1 : List UInt8 := [153, 0, 7, 4, 167, 0, 4, 3, 172]
abbrev dktX9_isThere_1 : List UInt8 := dkwX9_isThere_1 ++ []
def dkwX9_isThere_0 : List UInt8 := [42, 180, 0, 19, 3, 16, 11, 184, 0, 25, 153, 0, 20, 42, 180, 0, 22, 3, 16, 9, 184, 0, 25]
abbrev dktX9_isThere_0 : List UInt8 := dkwX9_isThere_0 ++ dktX9_isThere_1
theorem dksX9_isThere_0 : cX9_isThere.data.toList.drop 0 = dktX9_isThere_0 := by decide +kernel
theorem dksX9_isThere_1 : cX9_isThere.data.toList.drop 23 = dktX9_isThere_1 := dk_seg dksX9_isThere_0 23 rfl rfl
theorem dX9_isThere_0 : decode cX9_isThere 0 = .ok (.aload_n 0, 1) := dk_42 (dk_at dksX9_isThere_0 0 rfl rfl)
theorem dX9_isThere_1 : decode cX9_isThere 1 = .ok (.getfield 19, 3) := dk_180 0 19 (dk_at dksX9_isThere_0 1 rfl rfl)
theorem dX9_isThere_4 : decode cX9_isThere 4 = .ok (.iconst 0, 1) := dk_3 (dk_at dksX9_isThere_0 4 rfl rfl)
theorem dX9_isThere_5 : decode cX9_isThere 5 = .ok (.bipush 11, 2) := dk_16 11 (dk_at dksX9_isThere_0 5 rfl rfl)
theorem dX9_isThere_7 : decode cX9_isThere 7 = .ok (.invokestatic 25, 3) := dk_184 0 25 (dk_at dksX9_isThere_0 7 rfl rfl)
theorem dX9_isThere_10 : decode cX9_isThere 10 = .ok (.ifCond .eq 20, 3) := dk_153 0 20 (dk_at dksX9_isThere_0 10 rfl rfl)
theorem dX9_isThere_13 : decode cX9_isThere 13 = .ok (.aload_n 0, 1) := dk_42 (dk_at dksX9_isThere_0 13 rfl rfl)
theorem dX9_isThere_14 : decode cX9_isThere 14 = .ok (.getfield 22, 3) := dk_180 0 22 (dk_at dksX9_isThere_0 14 rfl rfl)
theorem dX9_isThere_17 : decode cX9_isThere 17 = .ok (.iconst 0, 1) := dk_3 (dk_at dksX9_isThere_0 17 rfl rfl)
theorem dX9_isThere_18 : decode cX9_isThere 18 = .ok (.bipush 9, 2) := dk_16 9 (dk_at dksX9_isThere_0 18 rfl rfl)
theorem dX9_isThere_20 : decode cX9_isThere 20 = .ok (.invokestatic 25, 3) := dk_184 0 25 (dk_at dksX9_isThere_0 20 rfl rfl)
theorem dX9_isThere_23 : decode cX9_isThere 23 = .ok (.ifCond .eq 7, 3) := dk_153 0 7 (dk_at dksX9_isThere_1 0 rfl rfl)
theorem dX9_isThere_26 : decode cX9_isThere 26 = .ok (.iconst 1, 1) := dk_4 (dk_at dksX9_isThere_1 3 rfl rfl)
theorem dX9_isThere_27 : decode cX9_isThere 27 = .ok (.goto 4, 3) := dk_167 0 4 (dk_at dksX9_isThere_1 4 rfl rfl)
theorem dX9_isThere_30 : decode cX9_isThere 30 = .ok (.iconst 0, 1) := dk_3 (dk_at dksX9_isThere_1 7 rfl rfl)
theorem dX9_isThere_31 : decode cX9_isThere 31 = .ok (.ireturn, 1) := dk_172 (dk_at dksX9_isThere_1 8 rfl rfl)
abbrev cX9_cell : ByteArray := prog_4_method_3_code
def yX9_cell : MethodName := ⟨RX9, "cell", "()I"⟩
def dkwX9_cell_0 : List UInt8 := [16, 12, 42, 180, 0, 22, 104, 42, 180, 0, 19, 96, 172]
abbrev dktX9_cell_0 : List UInt8 := dkwX9_cell_0 ++ []
theorem dksX9_cell_0 : cX9_cell.data.toList.drop 0 = dktX9_cell_0 := by decide +kernel
theorem dX9_cell_0 : decode cX9_cell 0 = .ok (.bipush 12, 2) := dk_16 12 (dk_at dksX9_cell_0 0 rfl rfl)
theorem dX9_cell_2 : decode cX9_cell 2 = .ok (.aload_n 0, 1) := dk_42 (dk_at dksX9_cell_0 2 rfl rfl)
theorem dX9_cell_3 : decode cX9_cell 3 = .ok (.getfield 22, 3) := dk_180 0 22 (dk_at dksX9_cell_0 3 rfl rfl)
theorem dX9_cell_6 : decode cX9_cell 6 = .ok (.imul, 1) := dk_104 (dk_at dksX9_cell_0 6 rfl rfl)
theorem dX9_cell_7 : decode cX9_cell 7 = .ok (.aload_n 0, 1) := dk_42 (dk_at dksX9_cell_0 7 rfl rfl)
theorem dX9_cell_8 : decode cX9_cell 8 = .ok (.getfield 19, 3) := dk_180 0 19 (dk_at dksX9_cell_0 8 rfl rfl)
theorem dX9_cell_11 : decode cX9_cell 11 = .ok (.iadd, 1) := dk_96 (dk_at dksX9_cell_0 11 rfl rfl)
theorem dX9_cell_12 : decode cX9_cell 12 = .ok (.ireturn, 1) := dk_172 (dk_at dksX9_cell_0 12 rfl rfl)
abbrev cX9_does : ByteArray := prog_4_method_5_code
def yX9_does : MethodName := ⟨RX9, "does", "()V"⟩
def dkwX9_does_6 : List UInt8 := [177]
abbrev dktX9_does_6 : List UInt8 := dkwX9_does_6 ++ []
def dkwX9_does_5 : List UInt8 := [180, 0, 37, 42, 180, 0, 19, 182, 0, 71, 167, 0, 14, 42, 180, 0, 3, 42, 180, 0, 19, 182, 0, 75]
abbrev dktX9_does_5 : List UInt8 := dkwX9_does_5 ++ dktX9_does_6
def dkwX9_does_4 : List UInt8 := [167, 0, 48, 42, 180, 0, 3, 180, 0, 37, 42, 180, 0, 19, 181, 0, 68, 167, 0, 31, 42, 180, 0, 3]
abbrev dktX9_does_4 : List UInt8 := dkwX9_does_4 ++ dktX9_does_5
def dkwX9_does_3 : List UInt8 := [182, 0, 47, 182, 0, 61, 60, 167, 0, 65, 42, 180, 0, 3, 180, 0, 37, 42, 182, 0, 47, 181, 0, 65]
abbrev dktX9_does_3 : List UInt8 := dkwX9_does_3 ++ dktX9_does_4
def dkwX9_does_2 : List UInt8 := [42, 180, 0, 3, 42, 180, 0, 19, 42, 180, 0, 22, 182, 0, 58, 60, 167, 0, 80, 42, 180, 0, 3, 42]
abbrev dktX9_does_2 : List UInt8 := dkwX9_does_2 ++ dktX9_does_3
def dkwX9_does_1 : List UInt8 := [171, 0, 0, 0, 0, 0, 0, 137, 0, 0, 0, 5, 0, 0, 0, 97, 0, 0, 0, 52, 0, 0, 0, 108, 0, 0, 0, 103, 0, 0, 0, 111, 0, 0, 0, 71, 0, 0, 0, 116, 0, 0, 0, 86, 0, 0, 0, 120, 0, 0, 0, 120]
abbrev dktX9_does_1 : List UInt8 := dkwX9_does_1 ++ dktX9_does_2
def dkwX9_does_0 : List UInt8 := [42, 180, 0, 15]
abbrev dktX9_does_0 : List UInt8 := dkwX9_does_0 ++ dktX9_does_1
theorem dksX9_does_0 : cX9_does.data.toList.drop 0 = dktX9_does_0 := by decide +kernel
theorem dksX9_does_1 : cX9_does.data.toList.drop 4 = dktX9_does_1 := dk_seg dksX9_does_0 4 rfl rfl
theorem dksX9_does_2 : cX9_does.data.toList.drop 56 = dktX9_does_2 := dk_seg dksX9_does_1 52 rfl rfl
theorem dksX9_does_3 : cX9_does.data.toList.drop 80 = dktX9_does_3 := dk_seg dksX9_does_2 24 rfl rfl
theorem dksX9_does_4 : cX9_does.data.toList.drop 104 = dktX9_does_4 := dk_seg dksX9_does_3 24 rfl rfl
theorem dksX9_does_5 : cX9_does.data.toList.drop 128 = dktX9_does_5 := dk_seg dksX9_does_4 24 rfl rfl
theorem dksX9_does_6 : cX9_does.data.toList.drop 152 = dktX9_does_6 := dk_seg dksX9_does_5 24 rfl rfl
theorem dX9_does_0 : decode cX9_does 0 = .ok (.aload_n 0, 1) := dk_42 (dk_at dksX9_does_0 0 rfl rfl)
theorem dX9_does_1 : decode cX9_does 1 = .ok (.getfield 15, 3) := dk_180 0 15 (dk_at dksX9_does_0 1 rfl rfl)
theorem dX9_does_4 : decode cX9_does 4 = .ok (.lookupswitch 137 #[(97, 52), (108, 103), (111, 71), (116, 86), (120, 120)], 52) := by decide +kernel
theorem dX9_does_56 : decode cX9_does 56 = .ok (.aload_n 0, 1) := dk_42 (dk_at dksX9_does_2 0 rfl rfl)
theorem dX9_does_57 : decode cX9_does 57 = .ok (.getfield 3, 3) := dk_180 0 3 (dk_at dksX9_does_2 1 rfl rfl)
theorem dX9_does_60 : decode cX9_does 60 = .ok (.aload_n 0, 1) := dk_42 (dk_at dksX9_does_2 4 rfl rfl)
theorem dX9_does_61 : decode cX9_does 61 = .ok (.getfield 19, 3) := dk_180 0 19 (dk_at dksX9_does_2 5 rfl rfl)
theorem dX9_does_64 : decode cX9_does 64 = .ok (.aload_n 0, 1) := dk_42 (dk_at dksX9_does_2 8 rfl rfl)
theorem dX9_does_65 : decode cX9_does 65 = .ok (.getfield 22, 3) := dk_180 0 22 (dk_at dksX9_does_2 9 rfl rfl)
theorem dX9_does_68 : decode cX9_does 68 = .ok (.invokevirtual 58, 3) := dk_182 0 58 (dk_at dksX9_does_2 12 rfl rfl)
theorem dX9_does_71 : decode cX9_does 71 = .ok (.istore_n 1, 1) := dk_60 (dk_at dksX9_does_2 15 rfl rfl)
theorem dX9_does_72 : decode cX9_does 72 = .ok (.goto 80, 3) := dk_167 0 80 (dk_at dksX9_does_2 16 rfl rfl)
theorem dX9_does_75 : decode cX9_does 75 = .ok (.aload_n 0, 1) := dk_42 (dk_at dksX9_does_2 19 rfl rfl)
theorem dX9_does_76 : decode cX9_does 76 = .ok (.getfield 3, 3) := dk_180 0 3 (dk_at dksX9_does_2 20 rfl rfl)
theorem dX9_does_79 : decode cX9_does 79 = .ok (.aload_n 0, 1) := dk_42 (dk_at dksX9_does_2 23 rfl rfl)
theorem dX9_does_80 : decode cX9_does 80 = .ok (.invokevirtual 47, 3) := dk_182 0 47 (dk_at dksX9_does_3 0 rfl rfl)
theorem dX9_does_83 : decode cX9_does 83 = .ok (.invokevirtual 61, 3) := dk_182 0 61 (dk_at dksX9_does_3 3 rfl rfl)
theorem dX9_does_86 : decode cX9_does 86 = .ok (.istore_n 1, 1) := dk_60 (dk_at dksX9_does_3 6 rfl rfl)
theorem dX9_does_87 : decode cX9_does 87 = .ok (.goto 65, 3) := dk_167 0 65 (dk_at dksX9_does_3 7 rfl rfl)
theorem dX9_does_90 : decode cX9_does 90 = .ok (.aload_n 0, 1) := dk_42 (dk_at dksX9_does_3 10 rfl rfl)
theorem dX9_does_91 : decode cX9_does 91 = .ok (.getfield 3, 3) := dk_180 0 3 (dk_at dksX9_does_3 11 rfl rfl)
theorem dX9_does_94 : decode cX9_does 94 = .ok (.getfield 37, 3) := dk_180 0 37 (dk_at dksX9_does_3 14 rfl rfl)
theorem dX9_does_97 : decode cX9_does 97 = .ok (.aload_n 0, 1) := dk_42 (dk_at dksX9_does_3 17 rfl rfl)
theorem dX9_does_98 : decode cX9_does 98 = .ok (.invokevirtual 47, 3) := dk_182 0 47 (dk_at dksX9_does_3 18 rfl rfl)
theorem dX9_does_101 : decode cX9_does 101 = .ok (.putfield 65, 3) := dk_181 0 65 (dk_at dksX9_does_3 21 rfl rfl)
theorem dX9_does_104 : decode cX9_does 104 = .ok (.goto 48, 3) := dk_167 0 48 (dk_at dksX9_does_4 0 rfl rfl)
theorem dX9_does_107 : decode cX9_does 107 = .ok (.aload_n 0, 1) := dk_42 (dk_at dksX9_does_4 3 rfl rfl)
theorem dX9_does_108 : decode cX9_does 108 = .ok (.getfield 3, 3) := dk_180 0 3 (dk_at dksX9_does_4 4 rfl rfl)
theorem dX9_does_111 : decode cX9_does 111 = .ok (.getfield 37, 3) := dk_180 0 37 (dk_at dksX9_does_4 7 rfl rfl)
theorem dX9_does_114 : decode cX9_does 114 = .ok (.aload_n 0, 1) := dk_42 (dk_at dksX9_does_4 10 rfl rfl)
theorem dX9_does_115 : decode cX9_does 115 = .ok (.getfield 19, 3) := dk_180 0 19 (dk_at dksX9_does_4 11 rfl rfl)
theorem dX9_does_118 : decode cX9_does 118 = .ok (.putfield 68, 3) := dk_181 0 68 (dk_at dksX9_does_4 14 rfl rfl)
theorem dX9_does_121 : decode cX9_does 121 = .ok (.goto 31, 3) := dk_167 0 31 (dk_at dksX9_does_4 17 rfl rfl)
theorem dX9_does_124 : decode cX9_does 124 = .ok (.aload_n 0, 1) := dk_42 (dk_at dksX9_does_4 20 rfl rfl)
theorem dX9_does_125 : decode cX9_does 125 = .ok (.getfield 3, 3) := dk_180 0 3 (dk_at dksX9_does_4 21 rfl rfl)
theorem dX9_does_128 : decode cX9_does 128 = .ok (.getfield 37, 3) := dk_180 0 37 (dk_at dksX9_does_5 0 rfl rfl)
theorem dX9_does_131 : decode cX9_does 131 = .ok (.aload_n 0, 1) := dk_42 (dk_at dksX9_does_5 3 rfl rfl)
theorem dX9_does_132 : decode cX9_does 132 = .ok (.getfield 19, 3) := dk_180 0 19 (dk_at dksX9_does_5 4 rfl rfl)
theorem dX9_does_135 : decode cX9_does 135 = .ok (.invokevirtual 71, 3) := dk_182 0 71 (dk_at dksX9_does_5 7 rfl rfl)
theorem dX9_does_138 : decode cX9_does 138 = .ok (.goto 14, 3) := dk_167 0 14 (dk_at dksX9_does_5 10 rfl rfl)
theorem dX9_does_141 : decode cX9_does 141 = .ok (.aload_n 0, 1) := dk_42 (dk_at dksX9_does_5 13 rfl rfl)
theorem dX9_does_142 : decode cX9_does 142 = .ok (.getfield 3, 3) := dk_180 0 3 (dk_at dksX9_does_5 14 rfl rfl)
theorem dX9_does_145 : decode cX9_does 145 = .ok (.aload_n 0, 1) := dk_42 (dk_at dksX9_does_5 17 rfl rfl)
theorem dX9_does_146 : decode cX9_does 146 = .ok (.getfield 19, 3) := dk_180 0 19 (dk_at dksX9_does_5 18 rfl rfl)
theorem dX9_does_149 : decode cX9_does 149 = .ok (.invokevirtual 75, 3) := dk_182 0 75 (dk_at dksX9_does_5 21 rfl rfl)
theorem dX9_does_152 : decode cX9_does 152 = .ok (.return_, 1) := dk_177 (dk_at dksX9_does_6 0 rfl rfl)
theorem q126 : (Jvm.Cond.initialized "SwarmPlanner$Command") ∈ lw_all := lw_g (lw_at lw_m1 23 rfl) rfl
theorem q148 : (Jvm.Cond.fieldLinkNest "SwarmPlanner$Command" (41 : Nat) "SwarmPlanner$World" "memberAt" "[I" "SwarmPlanner") ∈ lw_tbl := lw_at lw_m1 45 rfl
theorem q157 : (Jvm.Cond.fieldLinkNest "SwarmPlanner$Command" (68 : Nat) "SwarmPlanner$World" "leader" "I" "SwarmPlanner") ∈ lw_tbl := lw_at lw_m1 54 rfl
theorem q160 : (Jvm.Cond.fieldLinkNest "SwarmPlanner$Command" (65 : Nat) "SwarmPlanner$World" "target" "I" "SwarmPlanner") ∈ lw_tbl := lw_at lw_m1 57 rfl
theorem q222 : (Jvm.Cond.fieldLinkNest "SwarmPlanner$Command" (37 : Nat) "SwarmPlanner" "now" "LSwarmPlanner$World;" "SwarmPlanner") ∈ lw_tbl := lw_at lw_m1 119 rfl
theorem q400 : (Jvm.Cond.selects "SwarmPlanner$Command" ({ cls := "java/lang/Object", name := "getClass", desc := "()Ljava/lang/Class;" } : Jvm.MethodName) ({ cls := "java/lang/Object", name := "getClass", desc := "()Ljava/lang/Class;" } : Jvm.MethodName)) ∈ lw_all := lw_g (lw_at lw_m2 57 rfl) rfl
theorem q926 : (Jvm.Cond.instantiable "SwarmPlanner$Command" (4 : Nat)) ∈ lw_all := lw_g (lw_at lw_m4 103 rfl) rfl
theorem q928 : (Jvm.Cond.instanceMethod ({ cls := "SwarmPlanner$Command", name := "<init>", desc := "(LSwarmPlanner;III)V" } : Jvm.MethodName)) ∈ lw_all := lw_g (lw_at lw_m4 105 rfl) rfl
theorem q929 : (Jvm.Cond.code ({ cls := "SwarmPlanner$Command", name := "<init>", desc := "(LSwarmPlanner;III)V" } : Jvm.MethodName) prog_4_method_1_code (5 : Nat) (Option.none : Option Jvm.ClassFile.FieldType)) ∈ lw_all := lw_g (lw_at lw_m4 106 rfl) rfl
theorem q930 : (Jvm.Cond.methodLink "SwarmPlanner$Command" (9 : Nat) ({ cls := "java/lang/Object", name := "<init>", desc := "()V" } : Jvm.MethodName)) ∈ lw_all := lw_g (lw_at lw_m4 107 rfl) rfl
theorem q931 : (Jvm.Cond.fieldLink "SwarmPlanner$Command" (15 : Nat) "SwarmPlanner$Command" "letter" "I") ∈ lw_all := lw_g (lw_at lw_m4 108 rfl) rfl
theorem q932 : (Jvm.Cond.fieldLink "SwarmPlanner$Command" (19 : Nat) "SwarmPlanner$Command" "first" "I") ∈ lw_all := lw_g (lw_at lw_m4 109 rfl) rfl
theorem q933 : (Jvm.Cond.fieldLink "SwarmPlanner$Command" (22 : Nat) "SwarmPlanner$Command" "second" "I") ∈ lw_all := lw_g (lw_at lw_m4 110 rfl) rfl
theorem q934 : (Jvm.Cond.fieldLink "SwarmPlanner$Command" (3 : Nat) "SwarmPlanner$Command" "this$0" "LSwarmPlanner;") ∈ lw_all := lw_g (lw_at lw_m4 111 rfl) rfl
theorem q935 : (Jvm.Cond.laysFinal "SwarmPlanner$Command" "SwarmPlanner$Command" "letter" "I") ∈ lw_all := lw_g (lw_at lw_m4 112 rfl) rfl
theorem q936 : (Jvm.Cond.soleField "SwarmPlanner$Command" "letter") ∈ lw_all := lw_g (lw_at lw_m4 113 rfl) rfl
theorem q937 : (Jvm.Cond.laysFinal "SwarmPlanner$Command" "SwarmPlanner$Command" "first" "I") ∈ lw_all := lw_g (lw_at lw_m4 114 rfl) rfl
theorem q938 : (Jvm.Cond.soleField "SwarmPlanner$Command" "first") ∈ lw_all := lw_g (lw_at lw_m4 115 rfl) rfl
theorem q939 : (Jvm.Cond.laysFinal "SwarmPlanner$Command" "SwarmPlanner$Command" "second" "I") ∈ lw_all := lw_g (lw_at lw_m4 116 rfl) rfl
theorem q940 : (Jvm.Cond.soleField "SwarmPlanner$Command" "second") ∈ lw_all := lw_g (lw_at lw_m4 117 rfl) rfl
theorem q941 : (Jvm.Cond.laysFinal "SwarmPlanner$Command" "SwarmPlanner$Command" "this$0" "LSwarmPlanner;") ∈ lw_all := lw_g (lw_at lw_m4 118 rfl) rfl
theorem q942 : (Jvm.Cond.soleField "SwarmPlanner$Command" "this$0") ∈ lw_all := lw_g (lw_at lw_m4 119 rfl) rfl
theorem q943 : (Jvm.Cond.superclass "SwarmPlanner$Command" "java/lang/Object") ∈ lw_all := lw_g (lw_at lw_m4 120 rfl) rfl
theorem q951 : (Jvm.Cond.instanceMethod ({ cls := "SwarmPlanner$Command", name := "against", desc := "()I" } : Jvm.MethodName)) ∈ lw_all := lw_g (lw_at lw_m4 128 rfl) rfl
theorem q952 : (Jvm.Cond.selects "SwarmPlanner$Command" ({ cls := "SwarmPlanner$Command", name := "against", desc := "()I" } : Jvm.MethodName) ({ cls := "SwarmPlanner$Command", name := "against", desc := "()I" } : Jvm.MethodName)) ∈ lw_all := lw_g (lw_at lw_m4 129 rfl) rfl
theorem q953 : (Jvm.Cond.code ({ cls := "SwarmPlanner$Command", name := "against", desc := "()I" } : Jvm.MethodName) prog_4_method_4_code (1 : Nat) (Option.some Jvm.ClassFile.FieldType.int)) ∈ lw_all := lw_g (lw_at lw_m4 130 rfl) rfl
theorem q954 : (Jvm.Cond.methodLinkNest "SwarmPlanner$Command" (29 : Nat) ({ cls := "SwarmPlanner", name := "againstAdding", desc := "(II)I" } : Jvm.MethodName) "SwarmPlanner") ∈ lw_tbl := lw_at lw_m4 131 rfl
theorem q955 : (Jvm.Cond.methodLink "SwarmPlanner$Command" (33 : Nat) ({ cls := "SwarmPlanner$Command", name := "isThere", desc := "()Z" } : Jvm.MethodName)) ∈ lw_all := lw_g (lw_at lw_m4 132 rfl) rfl
theorem q956 : (Jvm.Cond.privateMethod ({ cls := "SwarmPlanner$Command", name := "isThere", desc := "()Z" } : Jvm.MethodName)) ∈ lw_tbl := lw_at lw_m4 133 rfl
theorem q957 : (Jvm.Cond.instanceMethod ({ cls := "SwarmPlanner$Command", name := "isThere", desc := "()Z" } : Jvm.MethodName)) ∈ lw_all := lw_g (lw_at lw_m4 134 rfl) rfl
theorem q958 : (Jvm.Cond.code ({ cls := "SwarmPlanner$Command", name := "isThere", desc := "()Z" } : Jvm.MethodName) prog_4_method_2_code (1 : Nat) (Option.some Jvm.ClassFile.FieldType.boolean)) ∈ lw_all := lw_g (lw_at lw_m4 135 rfl) rfl
theorem q959 : (Jvm.Cond.methodLinkNest "SwarmPlanner$Command" (25 : Nat) ({ cls := "SwarmPlanner", name := "in", desc := "(III)Z" } : Jvm.MethodName) "SwarmPlanner") ∈ lw_tbl := lw_at lw_m4 136 rfl
theorem q960 : (Jvm.Cond.methodLink "SwarmPlanner$Command" (47 : Nat) ({ cls := "SwarmPlanner$Command", name := "cell", desc := "()I" } : Jvm.MethodName)) ∈ lw_all := lw_g (lw_at lw_m4 137 rfl) rfl
theorem q961 : (Jvm.Cond.privateMethod ({ cls := "SwarmPlanner$Command", name := "cell", desc := "()I" } : Jvm.MethodName)) ∈ lw_tbl := lw_at lw_m4 138 rfl
theorem q962 : (Jvm.Cond.instanceMethod ({ cls := "SwarmPlanner$Command", name := "cell", desc := "()I" } : Jvm.MethodName)) ∈ lw_all := lw_g (lw_at lw_m4 139 rfl) rfl
theorem q963 : (Jvm.Cond.code ({ cls := "SwarmPlanner$Command", name := "cell", desc := "()I" } : Jvm.MethodName) prog_4_method_3_code (1 : Nat) (Option.some Jvm.ClassFile.FieldType.int)) ∈ lw_all := lw_g (lw_at lw_m4 140 rfl) rfl
theorem q964 : (Jvm.Cond.methodLink "SwarmPlanner$Command" (51 : Nat) ({ cls := "SwarmPlanner$World", name := "leads", desc := "()I" } : Jvm.MethodName)) ∈ lw_all := lw_g (lw_at lw_m4 141 rfl) rfl
theorem q965 : (Jvm.Cond.methodLink "SwarmPlanner$Command" (54 : Nat) ({ cls := "SwarmPlanner$World", name := "isMember", desc := "(I)Z" } : Jvm.MethodName)) ∈ lw_all := lw_g (lw_at lw_m4 142 rfl) rfl
theorem q967 : (Jvm.Cond.instanceMethod ({ cls := "SwarmPlanner$Command", name := "does", desc := "()V" } : Jvm.MethodName)) ∈ lw_all := lw_g (lw_at lw_m4 144 rfl) rfl
theorem q968 : (Jvm.Cond.selects "SwarmPlanner$Command" ({ cls := "SwarmPlanner$Command", name := "does", desc := "()V" } : Jvm.MethodName) ({ cls := "SwarmPlanner$Command", name := "does", desc := "()V" } : Jvm.MethodName)) ∈ lw_all := lw_g (lw_at lw_m4 145 rfl) rfl
theorem q969 : (Jvm.Cond.code ({ cls := "SwarmPlanner$Command", name := "does", desc := "()V" } : Jvm.MethodName) prog_4_method_5_code (2 : Nat) (Option.none : Option Jvm.ClassFile.FieldType)) ∈ lw_all := lw_g (lw_at lw_m4 146 rfl) rfl
theorem q970 : (Jvm.Cond.methodLinkNest "SwarmPlanner$Command" (58 : Nat) ({ cls := "SwarmPlanner", name := "adds", desc := "(II)I" } : Jvm.MethodName) "SwarmPlanner") ∈ lw_tbl := lw_at lw_m4 147 rfl
theorem q971 : (Jvm.Cond.methodLinkNest "SwarmPlanner$Command" (61 : Nat) ({ cls := "SwarmPlanner", name := "turns", desc := "(I)I" } : Jvm.MethodName) "SwarmPlanner") ∈ lw_tbl := lw_at lw_m4 148 rfl
theorem q972 : (Jvm.Cond.methodLink "SwarmPlanner$Command" (71 : Nat) ({ cls := "SwarmPlanner$World", name := "loses", desc := "(I)V" } : Jvm.MethodName)) ∈ lw_all := lw_g (lw_at lw_m4 149 rfl) rfl
theorem q973 : (Jvm.Cond.methodLinkNest "SwarmPlanner$Command" (75 : Nat) ({ cls := "SwarmPlanner", name := "makes", desc := "(I)V" } : Jvm.MethodName) "SwarmPlanner") ∈ lw_tbl := lw_at lw_m4 150 rfl
theorem q1494 : (Jvm.Cond.castable "SwarmPlanner$Command" "java/lang/Object") ∈ lw_tbl := lw_at lw_m6 191 rfl
theorem in_X9 : ∀ w ∈ wsX90, w ∈ lw_all := lw_in wsX90 [935, 937, 939, 941] (by decide +kernel) (by decide +kernel)
