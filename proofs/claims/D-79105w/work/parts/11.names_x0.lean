/-! SwarmPlanner -/
set_option maxRecDepth 100000
def RX0 : String := "SwarmPlanner"
def TX0 : u_T := fun k => match k with
  | 0 => ("SwarmPlanner", "queue", "[I", true)
  | 1 => ("SwarmPlanner", "now", "LSwarmPlanner$World;", false)
  | 2 => ("SwarmPlanner", "sums", "[[I", true)
  | 3 => ("SwarmPlanner", "places", "[I", true)
  | 4 => ("SwarmPlanner", "fromPlace", "[[I", true)
  | 5 => ("SwarmPlanner", "slotOf", "[I", true)
  | 6 => ("SwarmPlanner", "slotMany", "I", false)
  | 7 => ("SwarmPlanner", "open", "I", false)
  | 8 => ("SwarmPlanner", "fromTarget", "[I", true)
  | 9 => ("SwarmPlanner", "hasActed", "[Z", true)
  | 10 => ("SwarmPlanner", "turns", "Ljava/util/ArrayList;", true)
  | 11 => ("SwarmPlanner", "byDistance", "Ljava/util/Comparator;", true)
  | 12 => ("SwarmPlanner", "kept", "Ljava/util/ArrayList;", true)
  | 13 => ("SwarmPlanner", "tape", "[B", true)
  | 14 => ("SwarmPlanner", "taped", "I", false)
  | 15 => ("SwarmPlanner", "cellsWere", "[I", true)
  | 16 => ("SwarmPlanner", "refusedReason", "I", false)
  | 17 => ("SwarmPlanner", "refusedCommand", "I", false)
  | 18 => ("SwarmPlanner", "bySlots", "[I", true)
  | 19 => ("SwarmPlanner", "bySlotsThen", "[I", true)
  | _ => ("SwarmPlanner", "image", "LSwarmPlanner$World;", false)
def tyX0 : Nat → FieldType := fun k => match k with
  | 0 => .array .int
  | 1 => .object "SwarmPlanner$World"
  | 2 => .array (.array .int)
  | 3 => .array .int
  | 4 => .array (.array .int)
  | 5 => .array .int
  | 6 => .int
  | 7 => .int
  | 8 => .array .int
  | 9 => .array .boolean
  | 10 => .object "java/util/ArrayList"
  | 11 => .object "java/util/Comparator"
  | 12 => .object "java/util/ArrayList"
  | 13 => .array .byte
  | 14 => .int
  | 15 => .array .int
  | 16 => .int
  | 17 => .int
  | 18 => .array .int
  | 19 => .array .int
  | _ => .object "SwarmPlanner$World"
abbrev wsX00 : List Cond := u_ws RX0 TX0 21
set_option maxRecDepth 100000 in
theorem nmX0 : ∀ a, a < 21 → ∀ b, b < 21 → a ≠ b → (TX0 a).2.1 ≠ (TX0 b).2.1 := by decide +kernel
set_option maxRecDepth 100000 in
theorem tyX0_ok : ∀ k, k < 21 → parseFieldDescriptor (TX0 k).2.2.1 = some (tyX0 k) := by decide +kernel
abbrev cX0_init : ByteArray := prog_1_method_30_code
def yX0_init : MethodName := ⟨RX0, "<init>", "()V"⟩
def dkwX0_init_6 : List UInt8 := [181, 1, 16, 42, 17, 4, 0, 188, 10, 181, 1, 19, 42, 17, 4, 0, 188, 10, 181, 1, 22, 177]
abbrev dktX0_init_6 : List UInt8 := dkwX0_init_6 ++ []
def dkwX0_init_5 : List UInt8 := [16, 60, 188, 8, 181, 1, 6, 42, 16, 10, 188, 10, 181, 1, 10, 42, 16, 251, 181, 1, 13, 42, 16, 251]
abbrev dktX0_init_5 : List UInt8 := dkwX0_init_5 ++ dktX0_init_6
def dkwX0_init_4 : List UInt8 := [187, 0, 254, 89, 42, 183, 1, 0, 181, 0, 201, 42, 187, 0, 220, 89, 183, 0, 253, 181, 1, 3, 42]
abbrev dktX0_init_4 : List UInt8 := dkwX0_init_4 ++ dktX0_init_5
def dkwX0_init_3 : List UInt8 := [181, 0, 147, 42, 16, 10, 188, 4, 181, 0, 250, 42, 187, 0, 220, 89, 183, 0, 253, 181, 0, 215, 42]
abbrev dktX0_init_3 : List UInt8 := dkwX0_init_3 ++ dktX0_init_4
def dkwX0_init_2 : List UInt8 := [16, 120, 197, 0, 246, 2, 181, 0, 45, 42, 16, 10, 188, 10, 181, 0, 98, 42, 16, 120, 188, 10]
abbrev dktX0_init_2 : List UInt8 := dkwX0_init_2 ++ dktX0_init_3
def dkwX0_init_1 : List UInt8 := [16, 10, 17, 4, 0, 197, 0, 246, 2, 181, 0, 247, 42, 16, 10, 188, 10, 181, 0, 42, 42, 16, 10]
abbrev dktX0_init_1 : List UInt8 := dkwX0_init_1 ++ dktX0_init_2
def dkwX0_init_0 : List UInt8 := [42, 183, 0, 241, 42, 16, 120, 188, 10, 181, 0, 29, 42, 187, 0, 24, 89, 183, 0, 245, 181, 0, 19, 42]
abbrev dktX0_init_0 : List UInt8 := dkwX0_init_0 ++ dktX0_init_1
theorem dksX0_init_0 : cX0_init.data.toList.drop 0 = dktX0_init_0 := by decide +kernel
theorem dksX0_init_1 : cX0_init.data.toList.drop 24 = dktX0_init_1 := dk_seg dksX0_init_0 24 rfl rfl
theorem dksX0_init_2 : cX0_init.data.toList.drop 47 = dktX0_init_2 := dk_seg dksX0_init_1 23 rfl rfl
theorem dksX0_init_3 : cX0_init.data.toList.drop 69 = dktX0_init_3 := dk_seg dksX0_init_2 22 rfl rfl
theorem dksX0_init_4 : cX0_init.data.toList.drop 92 = dktX0_init_4 := dk_seg dksX0_init_3 23 rfl rfl
theorem dksX0_init_5 : cX0_init.data.toList.drop 115 = dktX0_init_5 := dk_seg dksX0_init_4 23 rfl rfl
theorem dksX0_init_6 : cX0_init.data.toList.drop 139 = dktX0_init_6 := dk_seg dksX0_init_5 24 rfl rfl
theorem dX0_init_0 : decode cX0_init 0 = .ok (.aload_n 0, 1) := dk_42 (dk_at dksX0_init_0 0 rfl rfl)
theorem dX0_init_1 : decode cX0_init 1 = .ok (.invokespecial 241, 3) := dk_183 0 241 (dk_at dksX0_init_0 1 rfl rfl)
theorem dX0_init_4 : decode cX0_init 4 = .ok (.aload_n 0, 1) := dk_42 (dk_at dksX0_init_0 4 rfl rfl)
theorem dX0_init_5 : decode cX0_init 5 = .ok (.bipush 120, 2) := dk_16 120 (dk_at dksX0_init_0 5 rfl rfl)
theorem dX0_init_7 : decode cX0_init 7 = .ok (.newarray .int, 2) := dk_188_10 (dk_at dksX0_init_0 7 rfl rfl)
theorem dX0_init_9 : decode cX0_init 9 = .ok (.putfield 29, 3) := dk_181 0 29 (dk_at dksX0_init_0 9 rfl rfl)
theorem dX0_init_12 : decode cX0_init 12 = .ok (.aload_n 0, 1) := dk_42 (dk_at dksX0_init_0 12 rfl rfl)
theorem dX0_init_13 : decode cX0_init 13 = .ok (.new 24, 3) := dk_187 0 24 (dk_at dksX0_init_0 13 rfl rfl)
theorem dX0_init_16 : decode cX0_init 16 = .ok (.dup, 1) := dk_89 (dk_at dksX0_init_0 16 rfl rfl)
theorem dX0_init_17 : decode cX0_init 17 = .ok (.invokespecial 245, 3) := dk_183 0 245 (dk_at dksX0_init_0 17 rfl rfl)
theorem dX0_init_20 : decode cX0_init 20 = .ok (.putfield 19, 3) := dk_181 0 19 (dk_at dksX0_init_0 20 rfl rfl)
theorem dX0_init_23 : decode cX0_init 23 = .ok (.aload_n 0, 1) := dk_42 (dk_at dksX0_init_0 23 rfl rfl)
theorem dX0_init_24 : decode cX0_init 24 = .ok (.bipush 10, 2) := dk_16 10 (dk_at dksX0_init_1 0 rfl rfl)
theorem dX0_init_26 : decode cX0_init 26 = .ok (.sipush 1024, 3) := dk_17 4 0 (dk_at dksX0_init_1 2 rfl rfl)
theorem dX0_init_29 : decode cX0_init 29 = .ok (.multianewarray 246 2, 4) := by decide +kernel
theorem dX0_init_33 : decode cX0_init 33 = .ok (.putfield 247, 3) := dk_181 0 247 (dk_at dksX0_init_1 9 rfl rfl)
theorem dX0_init_36 : decode cX0_init 36 = .ok (.aload_n 0, 1) := dk_42 (dk_at dksX0_init_1 12 rfl rfl)
theorem dX0_init_37 : decode cX0_init 37 = .ok (.bipush 10, 2) := dk_16 10 (dk_at dksX0_init_1 13 rfl rfl)
theorem dX0_init_39 : decode cX0_init 39 = .ok (.newarray .int, 2) := dk_188_10 (dk_at dksX0_init_1 15 rfl rfl)
theorem dX0_init_41 : decode cX0_init 41 = .ok (.putfield 42, 3) := dk_181 0 42 (dk_at dksX0_init_1 17 rfl rfl)
theorem dX0_init_44 : decode cX0_init 44 = .ok (.aload_n 0, 1) := dk_42 (dk_at dksX0_init_1 20 rfl rfl)
theorem dX0_init_45 : decode cX0_init 45 = .ok (.bipush 10, 2) := dk_16 10 (dk_at dksX0_init_1 21 rfl rfl)
theorem dX0_init_47 : decode cX0_init 47 = .ok (.bipush 120, 2) := dk_16 120 (dk_at dksX0_init_2 0 rfl rfl)
theorem dX0_init_49 : decode cX0_init 49 = .ok (.multianewarray 246 2, 4) := by decide +kernel
theorem dX0_init_53 : decode cX0_init 53 = .ok (.putfield 45, 3) := dk_181 0 45 (dk_at dksX0_init_2 6 rfl rfl)
theorem dX0_init_56 : decode cX0_init 56 = .ok (.aload_n 0, 1) := dk_42 (dk_at dksX0_init_2 9 rfl rfl)
theorem dX0_init_57 : decode cX0_init 57 = .ok (.bipush 10, 2) := dk_16 10 (dk_at dksX0_init_2 10 rfl rfl)
theorem dX0_init_59 : decode cX0_init 59 = .ok (.newarray .int, 2) := dk_188_10 (dk_at dksX0_init_2 12 rfl rfl)
theorem dX0_init_61 : decode cX0_init 61 = .ok (.putfield 98, 3) := dk_181 0 98 (dk_at dksX0_init_2 14 rfl rfl)
theorem dX0_init_64 : decode cX0_init 64 = .ok (.aload_n 0, 1) := dk_42 (dk_at dksX0_init_2 17 rfl rfl)
theorem dX0_init_65 : decode cX0_init 65 = .ok (.bipush 120, 2) := dk_16 120 (dk_at dksX0_init_2 18 rfl rfl)
theorem dX0_init_67 : decode cX0_init 67 = .ok (.newarray .int, 2) := dk_188_10 (dk_at dksX0_init_2 20 rfl rfl)
theorem dX0_init_69 : decode cX0_init 69 = .ok (.putfield 147, 3) := dk_181 0 147 (dk_at dksX0_init_3 0 rfl rfl)
theorem dX0_init_72 : decode cX0_init 72 = .ok (.aload_n 0, 1) := dk_42 (dk_at dksX0_init_3 3 rfl rfl)
theorem dX0_init_73 : decode cX0_init 73 = .ok (.bipush 10, 2) := dk_16 10 (dk_at dksX0_init_3 4 rfl rfl)
theorem dX0_init_75 : decode cX0_init 75 = .ok (.newarray .boolean, 2) := dk_188_4 (dk_at dksX0_init_3 6 rfl rfl)
theorem dX0_init_77 : decode cX0_init 77 = .ok (.putfield 250, 3) := dk_181 0 250 (dk_at dksX0_init_3 8 rfl rfl)
theorem dX0_init_80 : decode cX0_init 80 = .ok (.aload_n 0, 1) := dk_42 (dk_at dksX0_init_3 11 rfl rfl)
theorem dX0_init_81 : decode cX0_init 81 = .ok (.new 220, 3) := dk_187 0 220 (dk_at dksX0_init_3 12 rfl rfl)
theorem dX0_init_84 : decode cX0_init 84 = .ok (.dup, 1) := dk_89 (dk_at dksX0_init_3 15 rfl rfl)
theorem dX0_init_85 : decode cX0_init 85 = .ok (.invokespecial 253, 3) := dk_183 0 253 (dk_at dksX0_init_3 16 rfl rfl)
theorem dX0_init_88 : decode cX0_init 88 = .ok (.putfield 215, 3) := dk_181 0 215 (dk_at dksX0_init_3 19 rfl rfl)
theorem dX0_init_91 : decode cX0_init 91 = .ok (.aload_n 0, 1) := dk_42 (dk_at dksX0_init_3 22 rfl rfl)
theorem dX0_init_92 : decode cX0_init 92 = .ok (.new 254, 3) := dk_187 0 254 (dk_at dksX0_init_4 0 rfl rfl)
theorem dX0_init_95 : decode cX0_init 95 = .ok (.dup, 1) := dk_89 (dk_at dksX0_init_4 3 rfl rfl)
theorem dX0_init_96 : decode cX0_init 96 = .ok (.aload_n 0, 1) := dk_42 (dk_at dksX0_init_4 4 rfl rfl)
theorem dX0_init_97 : decode cX0_init 97 = .ok (.invokespecial 256, 3) := dk_183 1 0 (dk_at dksX0_init_4 5 rfl rfl)
theorem dX0_init_100 : decode cX0_init 100 = .ok (.putfield 201, 3) := dk_181 0 201 (dk_at dksX0_init_4 8 rfl rfl)
theorem dX0_init_103 : decode cX0_init 103 = .ok (.aload_n 0, 1) := dk_42 (dk_at dksX0_init_4 11 rfl rfl)
theorem dX0_init_104 : decode cX0_init 104 = .ok (.new 220, 3) := dk_187 0 220 (dk_at dksX0_init_4 12 rfl rfl)
theorem dX0_init_107 : decode cX0_init 107 = .ok (.dup, 1) := dk_89 (dk_at dksX0_init_4 15 rfl rfl)
theorem dX0_init_108 : decode cX0_init 108 = .ok (.invokespecial 253, 3) := dk_183 0 253 (dk_at dksX0_init_4 16 rfl rfl)
theorem dX0_init_111 : decode cX0_init 111 = .ok (.putfield 259, 3) := dk_181 1 3 (dk_at dksX0_init_4 19 rfl rfl)
theorem dX0_init_114 : decode cX0_init 114 = .ok (.aload_n 0, 1) := dk_42 (dk_at dksX0_init_4 22 rfl rfl)
theorem dX0_init_115 : decode cX0_init 115 = .ok (.bipush 60, 2) := dk_16 60 (dk_at dksX0_init_5 0 rfl rfl)
theorem dX0_init_117 : decode cX0_init 117 = .ok (.newarray .byte, 2) := dk_188_8 (dk_at dksX0_init_5 2 rfl rfl)
theorem dX0_init_119 : decode cX0_init 119 = .ok (.putfield 262, 3) := dk_181 1 6 (dk_at dksX0_init_5 4 rfl rfl)
theorem dX0_init_122 : decode cX0_init 122 = .ok (.aload_n 0, 1) := dk_42 (dk_at dksX0_init_5 7 rfl rfl)
theorem dX0_init_123 : decode cX0_init 123 = .ok (.bipush 10, 2) := dk_16 10 (dk_at dksX0_init_5 8 rfl rfl)
theorem dX0_init_125 : decode cX0_init 125 = .ok (.newarray .int, 2) := dk_188_10 (dk_at dksX0_init_5 10 rfl rfl)
theorem dX0_init_127 : decode cX0_init 127 = .ok (.putfield 266, 3) := dk_181 1 10 (dk_at dksX0_init_5 12 rfl rfl)
theorem dX0_init_130 : decode cX0_init 130 = .ok (.aload_n 0, 1) := dk_42 (dk_at dksX0_init_5 15 rfl rfl)
theorem dX0_init_131 : decode cX0_init 131 = .ok (.bipush (-5), 2) := dk_16 251 (dk_at dksX0_init_5 16 rfl rfl)
theorem dX0_init_133 : decode cX0_init 133 = .ok (.putfield 269, 3) := dk_181 1 13 (dk_at dksX0_init_5 18 rfl rfl)
theorem dX0_init_136 : decode cX0_init 136 = .ok (.aload_n 0, 1) := dk_42 (dk_at dksX0_init_5 21 rfl rfl)
theorem dX0_init_137 : decode cX0_init 137 = .ok (.bipush (-5), 2) := dk_16 251 (dk_at dksX0_init_5 22 rfl rfl)
theorem dX0_init_139 : decode cX0_init 139 = .ok (.putfield 272, 3) := dk_181 1 16 (dk_at dksX0_init_6 0 rfl rfl)
theorem dX0_init_142 : decode cX0_init 142 = .ok (.aload_n 0, 1) := dk_42 (dk_at dksX0_init_6 3 rfl rfl)
theorem dX0_init_143 : decode cX0_init 143 = .ok (.sipush 1024, 3) := dk_17 4 0 (dk_at dksX0_init_6 4 rfl rfl)
theorem dX0_init_146 : decode cX0_init 146 = .ok (.newarray .int, 2) := dk_188_10 (dk_at dksX0_init_6 7 rfl rfl)
theorem dX0_init_148 : decode cX0_init 148 = .ok (.putfield 275, 3) := dk_181 1 19 (dk_at dksX0_init_6 9 rfl rfl)
theorem dX0_init_151 : decode cX0_init 151 = .ok (.aload_n 0, 1) := dk_42 (dk_at dksX0_init_6 12 rfl rfl)
theorem dX0_init_152 : decode cX0_init 152 = .ok (.sipush 1024, 3) := dk_17 4 0 (dk_at dksX0_init_6 13 rfl rfl)
theorem dX0_init_155 : decode cX0_init 155 = .ok (.newarray .int, 2) := dk_188_10 (dk_at dksX0_init_6 16 rfl rfl)
theorem dX0_init_157 : decode cX0_init 157 = .ok (.putfield 278, 3) := dk_181 1 22 (dk_at dksX0_init_6 18 rfl rfl)
theorem dX0_init_160 : decode cX0_init 160 = .ok (.return_, 1) := dk_177 (dk_at dksX0_init_6 21 rfl rfl)
abbrev cX0_add : ByteArray := prog_1_method_35_code
def yX0_add : MethodName := ⟨RX0, "add", "(II)I"⟩
def dkwX0_add_1 : List UInt8 := [160, 0, 8, 16, 252, 167, 0, 5, 16, 253, 172, 42, 182, 1, 39, 42, 27, 28, 182, 1, 42, 172]
abbrev dktX0_add_1 : List UInt8 := dkwX0_add_1 ++ []
def dkwX0_add_0 : List UInt8 := [42, 27, 28, 182, 1, 36, 62, 29, 158, 0, 26, 29, 4, 160, 0, 8, 16, 254, 167, 0, 15, 29, 7]
abbrev dktX0_add_0 : List UInt8 := dkwX0_add_0 ++ dktX0_add_1
theorem dksX0_add_0 : cX0_add.data.toList.drop 0 = dktX0_add_0 := by decide +kernel
theorem dksX0_add_1 : cX0_add.data.toList.drop 23 = dktX0_add_1 := dk_seg dksX0_add_0 23 rfl rfl
theorem dX0_add_0 : decode cX0_add 0 = .ok (.aload_n 0, 1) := dk_42 (dk_at dksX0_add_0 0 rfl rfl)
theorem dX0_add_1 : decode cX0_add 1 = .ok (.iload_n 1, 1) := dk_27 (dk_at dksX0_add_0 1 rfl rfl)
theorem dX0_add_2 : decode cX0_add 2 = .ok (.iload_n 2, 1) := dk_28 (dk_at dksX0_add_0 2 rfl rfl)
theorem dX0_add_3 : decode cX0_add 3 = .ok (.invokevirtual 292, 3) := dk_182 1 36 (dk_at dksX0_add_0 3 rfl rfl)
theorem dX0_add_6 : decode cX0_add 6 = .ok (.istore_n 3, 1) := dk_62 (dk_at dksX0_add_0 6 rfl rfl)
theorem dX0_add_7 : decode cX0_add 7 = .ok (.iload_n 3, 1) := dk_29 (dk_at dksX0_add_0 7 rfl rfl)
theorem dX0_add_8 : decode cX0_add 8 = .ok (.ifCond .le 26, 3) := dk_158 0 26 (dk_at dksX0_add_0 8 rfl rfl)
theorem dX0_add_11 : decode cX0_add 11 = .ok (.iload_n 3, 1) := dk_29 (dk_at dksX0_add_0 11 rfl rfl)
theorem dX0_add_12 : decode cX0_add 12 = .ok (.iconst 1, 1) := dk_4 (dk_at dksX0_add_0 12 rfl rfl)
theorem dX0_add_13 : decode cX0_add 13 = .ok (.if_icmp .ne 8, 3) := dk_160 0 8 (dk_at dksX0_add_0 13 rfl rfl)
theorem dX0_add_16 : decode cX0_add 16 = .ok (.bipush (-2), 2) := dk_16 254 (dk_at dksX0_add_0 16 rfl rfl)
theorem dX0_add_18 : decode cX0_add 18 = .ok (.goto 15, 3) := dk_167 0 15 (dk_at dksX0_add_0 18 rfl rfl)
theorem dX0_add_21 : decode cX0_add 21 = .ok (.iload_n 3, 1) := dk_29 (dk_at dksX0_add_0 21 rfl rfl)
theorem dX0_add_22 : decode cX0_add 22 = .ok (.iconst 4, 1) := dk_7 (dk_at dksX0_add_0 22 rfl rfl)
theorem dX0_add_23 : decode cX0_add 23 = .ok (.if_icmp .ne 8, 3) := dk_160 0 8 (dk_at dksX0_add_1 0 rfl rfl)
theorem dX0_add_26 : decode cX0_add 26 = .ok (.bipush (-4), 2) := dk_16 252 (dk_at dksX0_add_1 3 rfl rfl)
theorem dX0_add_28 : decode cX0_add 28 = .ok (.goto 5, 3) := dk_167 0 5 (dk_at dksX0_add_1 5 rfl rfl)
theorem dX0_add_31 : decode cX0_add 31 = .ok (.bipush (-3), 2) := dk_16 253 (dk_at dksX0_add_1 8 rfl rfl)
theorem dX0_add_33 : decode cX0_add 33 = .ok (.ireturn, 1) := dk_172 (dk_at dksX0_add_1 10 rfl rfl)
theorem dX0_add_34 : decode cX0_add 34 = .ok (.aload_n 0, 1) := dk_42 (dk_at dksX0_add_1 11 rfl rfl)
theorem dX0_add_35 : decode cX0_add 35 = .ok (.invokevirtual 295, 3) := dk_182 1 39 (dk_at dksX0_add_1 12 rfl rfl)
theorem dX0_add_38 : decode cX0_add 38 = .ok (.aload_n 0, 1) := dk_42 (dk_at dksX0_add_1 15 rfl rfl)
theorem dX0_add_39 : decode cX0_add 39 = .ok (.iload_n 1, 1) := dk_27 (dk_at dksX0_add_1 16 rfl rfl)
theorem dX0_add_40 : decode cX0_add 40 = .ok (.iload_n 2, 1) := dk_28 (dk_at dksX0_add_1 17 rfl rfl)
theorem dX0_add_41 : decode cX0_add 41 = .ok (.invokevirtual 298, 3) := dk_182 1 42 (dk_at dksX0_add_1 18 rfl rfl)
theorem dX0_add_44 : decode cX0_add 44 = .ok (.ireturn, 1) := dk_172 (dk_at dksX0_add_1 21 rfl rfl)
abbrev cX0_againstAdding : ByteArray := prog_1_method_33_code
def yX0_againstAdding : MethodName := ⟨RX0, "againstAdding", "(II)I"⟩
def dkwX0_againstAdding_3 : List UInt8 := [7, 167, 0, 4, 3, 172]
abbrev dktX0_againstAdding_3 : List UInt8 := dkwX0_againstAdding_3 ++ []
def dkwX0_againstAdding_2 : List UInt8 := [180, 0, 19, 180, 0, 150, 29, 46, 155, 0, 7, 6, 167, 0, 17, 42, 182, 1, 30, 16, 10, 160, 0, 7]
abbrev dktX0_againstAdding_2 : List UInt8 := dkwX0_againstAdding_2 ++ dktX0_againstAdding_3
def dkwX0_againstAdding_1 : List UInt8 := [28, 104, 27, 96, 62, 42, 180, 0, 19, 180, 0, 23, 29, 51, 153, 0, 7, 5, 167, 0, 33, 42]
abbrev dktX0_againstAdding_1 : List UInt8 := dkwX0_againstAdding_1 ++ dktX0_againstAdding_2
def dkwX0_againstAdding_0 : List UInt8 := [27, 3, 16, 11, 184, 0, 3, 153, 0, 13, 28, 3, 16, 9, 184, 0, 3, 154, 0, 5, 4, 172, 16, 12]
abbrev dktX0_againstAdding_0 : List UInt8 := dkwX0_againstAdding_0 ++ dktX0_againstAdding_1
theorem dksX0_againstAdding_0 : cX0_againstAdding.data.toList.drop 0 = dktX0_againstAdding_0 := by decide +kernel
theorem dksX0_againstAdding_1 : cX0_againstAdding.data.toList.drop 24 = dktX0_againstAdding_1 := dk_seg dksX0_againstAdding_0 24 rfl rfl
theorem dksX0_againstAdding_2 : cX0_againstAdding.data.toList.drop 46 = dktX0_againstAdding_2 := dk_seg dksX0_againstAdding_1 22 rfl rfl
theorem dksX0_againstAdding_3 : cX0_againstAdding.data.toList.drop 70 = dktX0_againstAdding_3 := dk_seg dksX0_againstAdding_2 24 rfl rfl
theorem dX0_againstAdding_0 : decode cX0_againstAdding 0 = .ok (.iload_n 1, 1) := dk_27 (dk_at dksX0_againstAdding_0 0 rfl rfl)
theorem dX0_againstAdding_1 : decode cX0_againstAdding 1 = .ok (.iconst 0, 1) := dk_3 (dk_at dksX0_againstAdding_0 1 rfl rfl)
theorem dX0_againstAdding_2 : decode cX0_againstAdding 2 = .ok (.bipush 11, 2) := dk_16 11 (dk_at dksX0_againstAdding_0 2 rfl rfl)
theorem dX0_againstAdding_4 : decode cX0_againstAdding 4 = .ok (.invokestatic 3, 3) := dk_184 0 3 (dk_at dksX0_againstAdding_0 4 rfl rfl)
theorem dX0_againstAdding_7 : decode cX0_againstAdding 7 = .ok (.ifCond .eq 13, 3) := dk_153 0 13 (dk_at dksX0_againstAdding_0 7 rfl rfl)
theorem dX0_againstAdding_10 : decode cX0_againstAdding 10 = .ok (.iload_n 2, 1) := dk_28 (dk_at dksX0_againstAdding_0 10 rfl rfl)
theorem dX0_againstAdding_11 : decode cX0_againstAdding 11 = .ok (.iconst 0, 1) := dk_3 (dk_at dksX0_againstAdding_0 11 rfl rfl)
theorem dX0_againstAdding_12 : decode cX0_againstAdding 12 = .ok (.bipush 9, 2) := dk_16 9 (dk_at dksX0_againstAdding_0 12 rfl rfl)
theorem dX0_againstAdding_14 : decode cX0_againstAdding 14 = .ok (.invokestatic 3, 3) := dk_184 0 3 (dk_at dksX0_againstAdding_0 14 rfl rfl)
theorem dX0_againstAdding_17 : decode cX0_againstAdding 17 = .ok (.ifCond .ne 5, 3) := dk_154 0 5 (dk_at dksX0_againstAdding_0 17 rfl rfl)
theorem dX0_againstAdding_20 : decode cX0_againstAdding 20 = .ok (.iconst 1, 1) := dk_4 (dk_at dksX0_againstAdding_0 20 rfl rfl)
theorem dX0_againstAdding_21 : decode cX0_againstAdding 21 = .ok (.ireturn, 1) := dk_172 (dk_at dksX0_againstAdding_0 21 rfl rfl)
theorem dX0_againstAdding_22 : decode cX0_againstAdding 22 = .ok (.bipush 12, 2) := dk_16 12 (dk_at dksX0_againstAdding_0 22 rfl rfl)
theorem dX0_againstAdding_24 : decode cX0_againstAdding 24 = .ok (.iload_n 2, 1) := dk_28 (dk_at dksX0_againstAdding_1 0 rfl rfl)
theorem dX0_againstAdding_25 : decode cX0_againstAdding 25 = .ok (.imul, 1) := dk_104 (dk_at dksX0_againstAdding_1 1 rfl rfl)
theorem dX0_againstAdding_26 : decode cX0_againstAdding 26 = .ok (.iload_n 1, 1) := dk_27 (dk_at dksX0_againstAdding_1 2 rfl rfl)
theorem dX0_againstAdding_27 : decode cX0_againstAdding 27 = .ok (.iadd, 1) := dk_96 (dk_at dksX0_againstAdding_1 3 rfl rfl)
theorem dX0_againstAdding_28 : decode cX0_againstAdding 28 = .ok (.istore_n 3, 1) := dk_62 (dk_at dksX0_againstAdding_1 4 rfl rfl)
theorem dX0_againstAdding_29 : decode cX0_againstAdding 29 = .ok (.aload_n 0, 1) := dk_42 (dk_at dksX0_againstAdding_1 5 rfl rfl)
theorem dX0_againstAdding_30 : decode cX0_againstAdding 30 = .ok (.getfield 19, 3) := dk_180 0 19 (dk_at dksX0_againstAdding_1 6 rfl rfl)
theorem dX0_againstAdding_33 : decode cX0_againstAdding 33 = .ok (.getfield 23, 3) := dk_180 0 23 (dk_at dksX0_againstAdding_1 9 rfl rfl)
theorem dX0_againstAdding_36 : decode cX0_againstAdding 36 = .ok (.iload_n 3, 1) := dk_29 (dk_at dksX0_againstAdding_1 12 rfl rfl)
theorem dX0_againstAdding_37 : decode cX0_againstAdding 37 = .ok (.baload, 1) := dk_51 (dk_at dksX0_againstAdding_1 13 rfl rfl)
theorem dX0_againstAdding_38 : decode cX0_againstAdding 38 = .ok (.ifCond .eq 7, 3) := dk_153 0 7 (dk_at dksX0_againstAdding_1 14 rfl rfl)
theorem dX0_againstAdding_41 : decode cX0_againstAdding 41 = .ok (.iconst 2, 1) := dk_5 (dk_at dksX0_againstAdding_1 17 rfl rfl)
theorem dX0_againstAdding_42 : decode cX0_againstAdding 42 = .ok (.goto 33, 3) := dk_167 0 33 (dk_at dksX0_againstAdding_1 18 rfl rfl)
theorem dX0_againstAdding_45 : decode cX0_againstAdding 45 = .ok (.aload_n 0, 1) := dk_42 (dk_at dksX0_againstAdding_1 21 rfl rfl)
theorem dX0_againstAdding_46 : decode cX0_againstAdding 46 = .ok (.getfield 19, 3) := dk_180 0 19 (dk_at dksX0_againstAdding_2 0 rfl rfl)
theorem dX0_againstAdding_49 : decode cX0_againstAdding 49 = .ok (.getfield 150, 3) := dk_180 0 150 (dk_at dksX0_againstAdding_2 3 rfl rfl)
theorem dX0_againstAdding_52 : decode cX0_againstAdding 52 = .ok (.iload_n 3, 1) := dk_29 (dk_at dksX0_againstAdding_2 6 rfl rfl)
theorem dX0_againstAdding_53 : decode cX0_againstAdding 53 = .ok (.iaload, 1) := dk_46 (dk_at dksX0_againstAdding_2 7 rfl rfl)
theorem dX0_againstAdding_54 : decode cX0_againstAdding 54 = .ok (.ifCond .lt 7, 3) := dk_155 0 7 (dk_at dksX0_againstAdding_2 8 rfl rfl)
theorem dX0_againstAdding_57 : decode cX0_againstAdding 57 = .ok (.iconst 3, 1) := dk_6 (dk_at dksX0_againstAdding_2 11 rfl rfl)
theorem dX0_againstAdding_58 : decode cX0_againstAdding 58 = .ok (.goto 17, 3) := dk_167 0 17 (dk_at dksX0_againstAdding_2 12 rfl rfl)
theorem dX0_againstAdding_61 : decode cX0_againstAdding 61 = .ok (.aload_n 0, 1) := dk_42 (dk_at dksX0_againstAdding_2 15 rfl rfl)
theorem dX0_againstAdding_62 : decode cX0_againstAdding 62 = .ok (.invokevirtual 286, 3) := dk_182 1 30 (dk_at dksX0_againstAdding_2 16 rfl rfl)
theorem dX0_againstAdding_65 : decode cX0_againstAdding 65 = .ok (.bipush 10, 2) := dk_16 10 (dk_at dksX0_againstAdding_2 19 rfl rfl)
theorem dX0_againstAdding_67 : decode cX0_againstAdding 67 = .ok (.if_icmp .ne 7, 3) := dk_160 0 7 (dk_at dksX0_againstAdding_2 21 rfl rfl)
theorem dX0_againstAdding_70 : decode cX0_againstAdding 70 = .ok (.iconst 4, 1) := dk_7 (dk_at dksX0_againstAdding_3 0 rfl rfl)
theorem dX0_againstAdding_71 : decode cX0_againstAdding 71 = .ok (.goto 4, 3) := dk_167 0 4 (dk_at dksX0_againstAdding_3 1 rfl rfl)
theorem dX0_againstAdding_74 : decode cX0_againstAdding 74 = .ok (.iconst 0, 1) := dk_3 (dk_at dksX0_againstAdding_3 4 rfl rfl)
theorem dX0_againstAdding_75 : decode cX0_againstAdding 75 = .ok (.ireturn, 1) := dk_172 (dk_at dksX0_againstAdding_3 5 rfl rfl)
abbrev cX0_in : ByteArray := prog_1_method_2_code
def yX0_in : MethodName := ⟨RX0, "in", "(III)Z"⟩
def dkwX0_in_0 : List UInt8 := [26, 27, 161, 0, 12, 26, 28, 163, 0, 7, 4, 167, 0, 4, 3, 172]
abbrev dktX0_in_0 : List UInt8 := dkwX0_in_0 ++ []
theorem dksX0_in_0 : cX0_in.data.toList.drop 0 = dktX0_in_0 := by decide +kernel
theorem dX0_in_0 : decode cX0_in 0 = .ok (.iload_n 0, 1) := dk_26 (dk_at dksX0_in_0 0 rfl rfl)
theorem dX0_in_1 : decode cX0_in 1 = .ok (.iload_n 1, 1) := dk_27 (dk_at dksX0_in_0 1 rfl rfl)
theorem dX0_in_2 : decode cX0_in 2 = .ok (.if_icmp .lt 12, 3) := dk_161 0 12 (dk_at dksX0_in_0 2 rfl rfl)
theorem dX0_in_5 : decode cX0_in 5 = .ok (.iload_n 0, 1) := dk_26 (dk_at dksX0_in_0 5 rfl rfl)
theorem dX0_in_6 : decode cX0_in 6 = .ok (.iload_n 2, 1) := dk_28 (dk_at dksX0_in_0 6 rfl rfl)
theorem dX0_in_7 : decode cX0_in 7 = .ok (.if_icmp .gt 7, 3) := dk_163 0 7 (dk_at dksX0_in_0 7 rfl rfl)
theorem dX0_in_10 : decode cX0_in 10 = .ok (.iconst 1, 1) := dk_4 (dk_at dksX0_in_0 10 rfl rfl)
theorem dX0_in_11 : decode cX0_in 11 = .ok (.goto 4, 3) := dk_167 0 4 (dk_at dksX0_in_0 11 rfl rfl)
theorem dX0_in_14 : decode cX0_in 14 = .ok (.iconst 0, 1) := dk_3 (dk_at dksX0_in_0 14 rfl rfl)
theorem dX0_in_15 : decode cX0_in 15 = .ok (.ireturn, 1) := dk_172 (dk_at dksX0_in_0 15 rfl rfl)
abbrev cX0_added : ByteArray := prog_1_method_32_code
def yX0_added : MethodName := ⟨RX0, "added", "()I"⟩
def dkwX0_added_0 : List UInt8 := [42, 180, 0, 19, 180, 0, 141, 16, 7, 46, 172]
abbrev dktX0_added_0 : List UInt8 := dkwX0_added_0 ++ []
theorem dksX0_added_0 : cX0_added.data.toList.drop 0 = dktX0_added_0 := by decide +kernel
theorem dX0_added_0 : decode cX0_added 0 = .ok (.aload_n 0, 1) := dk_42 (dk_at dksX0_added_0 0 rfl rfl)
theorem dX0_added_1 : decode cX0_added 1 = .ok (.getfield 19, 3) := dk_180 0 19 (dk_at dksX0_added_0 1 rfl rfl)
theorem dX0_added_4 : decode cX0_added 4 = .ok (.getfield 141, 3) := dk_180 0 141 (dk_at dksX0_added_0 4 rfl rfl)
theorem dX0_added_7 : decode cX0_added 7 = .ok (.bipush 7, 2) := dk_16 7 (dk_at dksX0_added_0 7 rfl rfl)
theorem dX0_added_9 : decode cX0_added 9 = .ok (.iaload, 1) := dk_46 (dk_at dksX0_added_0 9 rfl rfl)
theorem dX0_added_10 : decode cX0_added 10 = .ok (.ireturn, 1) := dk_172 (dk_at dksX0_added_0 10 rfl rfl)
abbrev cX0_changes : ByteArray := prog_1_method_31_code
def yX0_changes : MethodName := ⟨RX0, "changes", "()V"⟩
def dkwX0_changes_1 : List UInt8 := [182, 0, 233, 16, 8, 164, 0, 15, 42, 180, 1, 3, 3, 182, 1, 28, 192, 0, 24, 76, 177]
abbrev dktX0_changes_1 : List UInt8 := dkwX0_changes_1 ++ []
def dkwX0_changes_0 : List UInt8 := [42, 180, 1, 3, 187, 0, 24, 89, 42, 180, 0, 19, 183, 1, 25, 182, 0, 232, 87, 42, 180, 1, 3]
abbrev dktX0_changes_0 : List UInt8 := dkwX0_changes_0 ++ dktX0_changes_1
theorem dksX0_changes_0 : cX0_changes.data.toList.drop 0 = dktX0_changes_0 := by decide +kernel
theorem dksX0_changes_1 : cX0_changes.data.toList.drop 23 = dktX0_changes_1 := dk_seg dksX0_changes_0 23 rfl rfl
theorem dX0_changes_0 : decode cX0_changes 0 = .ok (.aload_n 0, 1) := dk_42 (dk_at dksX0_changes_0 0 rfl rfl)
theorem dX0_changes_1 : decode cX0_changes 1 = .ok (.getfield 259, 3) := dk_180 1 3 (dk_at dksX0_changes_0 1 rfl rfl)
theorem dX0_changes_4 : decode cX0_changes 4 = .ok (.new 24, 3) := dk_187 0 24 (dk_at dksX0_changes_0 4 rfl rfl)
theorem dX0_changes_7 : decode cX0_changes 7 = .ok (.dup, 1) := dk_89 (dk_at dksX0_changes_0 7 rfl rfl)
theorem dX0_changes_8 : decode cX0_changes 8 = .ok (.aload_n 0, 1) := dk_42 (dk_at dksX0_changes_0 8 rfl rfl)
theorem dX0_changes_9 : decode cX0_changes 9 = .ok (.getfield 19, 3) := dk_180 0 19 (dk_at dksX0_changes_0 9 rfl rfl)
theorem dX0_changes_12 : decode cX0_changes 12 = .ok (.invokespecial 281, 3) := dk_183 1 25 (dk_at dksX0_changes_0 12 rfl rfl)
theorem dX0_changes_15 : decode cX0_changes 15 = .ok (.invokevirtual 232, 3) := dk_182 0 232 (dk_at dksX0_changes_0 15 rfl rfl)
theorem dX0_changes_18 : decode cX0_changes 18 = .ok (.pop, 1) := dk_87 (dk_at dksX0_changes_0 18 rfl rfl)
theorem dX0_changes_19 : decode cX0_changes 19 = .ok (.aload_n 0, 1) := dk_42 (dk_at dksX0_changes_0 19 rfl rfl)
theorem dX0_changes_20 : decode cX0_changes 20 = .ok (.getfield 259, 3) := dk_180 1 3 (dk_at dksX0_changes_0 20 rfl rfl)
theorem dX0_changes_23 : decode cX0_changes 23 = .ok (.invokevirtual 233, 3) := dk_182 0 233 (dk_at dksX0_changes_1 0 rfl rfl)
theorem dX0_changes_26 : decode cX0_changes 26 = .ok (.bipush 8, 2) := dk_16 8 (dk_at dksX0_changes_1 3 rfl rfl)
theorem dX0_changes_28 : decode cX0_changes 28 = .ok (.if_icmp .le 15, 3) := dk_164 0 15 (dk_at dksX0_changes_1 5 rfl rfl)
theorem dX0_changes_31 : decode cX0_changes 31 = .ok (.aload_n 0, 1) := dk_42 (dk_at dksX0_changes_1 8 rfl rfl)
theorem dX0_changes_32 : decode cX0_changes 32 = .ok (.getfield 259, 3) := dk_180 1 3 (dk_at dksX0_changes_1 9 rfl rfl)
theorem dX0_changes_35 : decode cX0_changes 35 = .ok (.iconst 0, 1) := dk_3 (dk_at dksX0_changes_1 12 rfl rfl)
theorem dX0_changes_36 : decode cX0_changes 36 = .ok (.invokevirtual 284, 3) := dk_182 1 28 (dk_at dksX0_changes_1 13 rfl rfl)
theorem dX0_changes_39 : decode cX0_changes 39 = .ok (.checkcast 24, 3) := dk_192 0 24 (dk_at dksX0_changes_1 16 rfl rfl)
theorem dX0_changes_42 : decode cX0_changes 42 = .ok (.astore_n 1, 1) := dk_76 (dk_at dksX0_changes_1 19 rfl rfl)
theorem dX0_changes_43 : decode cX0_changes 43 = .ok (.return_, 1) := dk_177 (dk_at dksX0_changes_1 20 rfl rfl)
abbrev cX0_adds : ByteArray := prog_1_method_34_code
def yX0_adds : MethodName := ⟨RX0, "adds", "(II)I"⟩
def dkwX0_adds_2 : List UInt8 := [180, 0, 141, 16, 7, 92, 46, 4, 96, 79, 29, 172]
abbrev dktX0_adds_2 : List UInt8 := dkwX0_adds_2 ++ []
def dkwX0_adds_1 : List UInt8 := [183, 1, 33, 83, 42, 180, 0, 19, 180, 0, 150, 16, 12, 28, 104, 27, 96, 29, 79, 42, 180, 0, 19]
abbrev dktX0_adds_1 : List UInt8 := dkwX0_adds_1 ++ dktX0_adds_2
def dkwX0_adds_0 : List UInt8 := [42, 182, 1, 30, 62, 42, 180, 0, 19, 180, 0, 80, 29, 187, 0, 50, 89, 29, 16, 12, 28, 104, 27, 96]
abbrev dktX0_adds_0 : List UInt8 := dkwX0_adds_0 ++ dktX0_adds_1
theorem dksX0_adds_0 : cX0_adds.data.toList.drop 0 = dktX0_adds_0 := by decide +kernel
theorem dksX0_adds_1 : cX0_adds.data.toList.drop 24 = dktX0_adds_1 := dk_seg dksX0_adds_0 24 rfl rfl
theorem dksX0_adds_2 : cX0_adds.data.toList.drop 47 = dktX0_adds_2 := dk_seg dksX0_adds_1 23 rfl rfl
theorem dX0_adds_0 : decode cX0_adds 0 = .ok (.aload_n 0, 1) := dk_42 (dk_at dksX0_adds_0 0 rfl rfl)
theorem dX0_adds_1 : decode cX0_adds 1 = .ok (.invokevirtual 286, 3) := dk_182 1 30 (dk_at dksX0_adds_0 1 rfl rfl)
theorem dX0_adds_4 : decode cX0_adds 4 = .ok (.istore_n 3, 1) := dk_62 (dk_at dksX0_adds_0 4 rfl rfl)
theorem dX0_adds_5 : decode cX0_adds 5 = .ok (.aload_n 0, 1) := dk_42 (dk_at dksX0_adds_0 5 rfl rfl)
theorem dX0_adds_6 : decode cX0_adds 6 = .ok (.getfield 19, 3) := dk_180 0 19 (dk_at dksX0_adds_0 6 rfl rfl)
theorem dX0_adds_9 : decode cX0_adds 9 = .ok (.getfield 80, 3) := dk_180 0 80 (dk_at dksX0_adds_0 9 rfl rfl)
theorem dX0_adds_12 : decode cX0_adds 12 = .ok (.iload_n 3, 1) := dk_29 (dk_at dksX0_adds_0 12 rfl rfl)
theorem dX0_adds_13 : decode cX0_adds 13 = .ok (.new 50, 3) := dk_187 0 50 (dk_at dksX0_adds_0 13 rfl rfl)
theorem dX0_adds_16 : decode cX0_adds 16 = .ok (.dup, 1) := dk_89 (dk_at dksX0_adds_0 16 rfl rfl)
theorem dX0_adds_17 : decode cX0_adds 17 = .ok (.iload_n 3, 1) := dk_29 (dk_at dksX0_adds_0 17 rfl rfl)
theorem dX0_adds_18 : decode cX0_adds 18 = .ok (.bipush 12, 2) := dk_16 12 (dk_at dksX0_adds_0 18 rfl rfl)
theorem dX0_adds_20 : decode cX0_adds 20 = .ok (.iload_n 2, 1) := dk_28 (dk_at dksX0_adds_0 20 rfl rfl)
theorem dX0_adds_21 : decode cX0_adds 21 = .ok (.imul, 1) := dk_104 (dk_at dksX0_adds_0 21 rfl rfl)
theorem dX0_adds_22 : decode cX0_adds 22 = .ok (.iload_n 1, 1) := dk_27 (dk_at dksX0_adds_0 22 rfl rfl)
theorem dX0_adds_23 : decode cX0_adds 23 = .ok (.iadd, 1) := dk_96 (dk_at dksX0_adds_0 23 rfl rfl)
theorem dX0_adds_24 : decode cX0_adds 24 = .ok (.invokespecial 289, 3) := dk_183 1 33 (dk_at dksX0_adds_1 0 rfl rfl)
theorem dX0_adds_27 : decode cX0_adds 27 = .ok (.aastore, 1) := dk_83 (dk_at dksX0_adds_1 3 rfl rfl)
theorem dX0_adds_28 : decode cX0_adds 28 = .ok (.aload_n 0, 1) := dk_42 (dk_at dksX0_adds_1 4 rfl rfl)
theorem dX0_adds_29 : decode cX0_adds 29 = .ok (.getfield 19, 3) := dk_180 0 19 (dk_at dksX0_adds_1 5 rfl rfl)
theorem dX0_adds_32 : decode cX0_adds 32 = .ok (.getfield 150, 3) := dk_180 0 150 (dk_at dksX0_adds_1 8 rfl rfl)
theorem dX0_adds_35 : decode cX0_adds 35 = .ok (.bipush 12, 2) := dk_16 12 (dk_at dksX0_adds_1 11 rfl rfl)
theorem dX0_adds_37 : decode cX0_adds 37 = .ok (.iload_n 2, 1) := dk_28 (dk_at dksX0_adds_1 13 rfl rfl)
theorem dX0_adds_38 : decode cX0_adds 38 = .ok (.imul, 1) := dk_104 (dk_at dksX0_adds_1 14 rfl rfl)
theorem dX0_adds_39 : decode cX0_adds 39 = .ok (.iload_n 1, 1) := dk_27 (dk_at dksX0_adds_1 15 rfl rfl)
theorem dX0_adds_40 : decode cX0_adds 40 = .ok (.iadd, 1) := dk_96 (dk_at dksX0_adds_1 16 rfl rfl)
theorem dX0_adds_41 : decode cX0_adds 41 = .ok (.iload_n 3, 1) := dk_29 (dk_at dksX0_adds_1 17 rfl rfl)
theorem dX0_adds_42 : decode cX0_adds 42 = .ok (.iastore, 1) := dk_79 (dk_at dksX0_adds_1 18 rfl rfl)
theorem dX0_adds_43 : decode cX0_adds 43 = .ok (.aload_n 0, 1) := dk_42 (dk_at dksX0_adds_1 19 rfl rfl)
theorem dX0_adds_44 : decode cX0_adds 44 = .ok (.getfield 19, 3) := dk_180 0 19 (dk_at dksX0_adds_1 20 rfl rfl)
theorem dX0_adds_47 : decode cX0_adds 47 = .ok (.getfield 141, 3) := dk_180 0 141 (dk_at dksX0_adds_2 0 rfl rfl)
theorem dX0_adds_50 : decode cX0_adds 50 = .ok (.bipush 7, 2) := dk_16 7 (dk_at dksX0_adds_2 3 rfl rfl)
theorem dX0_adds_52 : decode cX0_adds 52 = .ok (.dup2, 1) := dk_92 (dk_at dksX0_adds_2 5 rfl rfl)
theorem dX0_adds_53 : decode cX0_adds 53 = .ok (.iaload, 1) := dk_46 (dk_at dksX0_adds_2 6 rfl rfl)
theorem dX0_adds_54 : decode cX0_adds 54 = .ok (.iconst 1, 1) := dk_4 (dk_at dksX0_adds_2 7 rfl rfl)
theorem dX0_adds_55 : decode cX0_adds 55 = .ok (.iadd, 1) := dk_96 (dk_at dksX0_adds_2 8 rfl rfl)
theorem dX0_adds_56 : decode cX0_adds 56 = .ok (.iastore, 1) := dk_79 (dk_at dksX0_adds_2 9 rfl rfl)
theorem dX0_adds_57 : decode cX0_adds 57 = .ok (.iload_n 3, 1) := dk_29 (dk_at dksX0_adds_2 10 rfl rfl)
theorem dX0_adds_58 : decode cX0_adds 58 = .ok (.ireturn, 1) := dk_172 (dk_at dksX0_adds_2 11 rfl rfl)
abbrev cX0_lose : ByteArray := prog_1_method_36_code
def yX0_lose : MethodName := ⟨RX0, "lose", "(I)I"⟩
def dkwX0_lose_1 : List UInt8 := [182, 1, 48, 42, 180, 0, 19, 182, 1, 51, 172]
abbrev dktX0_lose_1 : List UInt8 := dkwX0_lose_1 ++ []
def dkwX0_lose_0 : List UInt8 := [42, 180, 0, 19, 27, 182, 1, 45, 154, 0, 5, 2, 172, 42, 182, 1, 39, 42, 180, 0, 19, 27]
abbrev dktX0_lose_0 : List UInt8 := dkwX0_lose_0 ++ dktX0_lose_1
theorem dksX0_lose_0 : cX0_lose.data.toList.drop 0 = dktX0_lose_0 := by decide +kernel
theorem dksX0_lose_1 : cX0_lose.data.toList.drop 22 = dktX0_lose_1 := dk_seg dksX0_lose_0 22 rfl rfl
theorem dX0_lose_0 : decode cX0_lose 0 = .ok (.aload_n 0, 1) := dk_42 (dk_at dksX0_lose_0 0 rfl rfl)
theorem dX0_lose_1 : decode cX0_lose 1 = .ok (.getfield 19, 3) := dk_180 0 19 (dk_at dksX0_lose_0 1 rfl rfl)
theorem dX0_lose_4 : decode cX0_lose 4 = .ok (.iload_n 1, 1) := dk_27 (dk_at dksX0_lose_0 4 rfl rfl)
theorem dX0_lose_5 : decode cX0_lose 5 = .ok (.invokevirtual 301, 3) := dk_182 1 45 (dk_at dksX0_lose_0 5 rfl rfl)
theorem dX0_lose_8 : decode cX0_lose 8 = .ok (.ifCond .ne 5, 3) := dk_154 0 5 (dk_at dksX0_lose_0 8 rfl rfl)
theorem dX0_lose_11 : decode cX0_lose 11 = .ok (.iconst (-1), 1) := dk_2 (dk_at dksX0_lose_0 11 rfl rfl)
theorem dX0_lose_12 : decode cX0_lose 12 = .ok (.ireturn, 1) := dk_172 (dk_at dksX0_lose_0 12 rfl rfl)
theorem dX0_lose_13 : decode cX0_lose 13 = .ok (.aload_n 0, 1) := dk_42 (dk_at dksX0_lose_0 13 rfl rfl)
theorem dX0_lose_14 : decode cX0_lose 14 = .ok (.invokevirtual 295, 3) := dk_182 1 39 (dk_at dksX0_lose_0 14 rfl rfl)
theorem dX0_lose_17 : decode cX0_lose 17 = .ok (.aload_n 0, 1) := dk_42 (dk_at dksX0_lose_0 17 rfl rfl)
theorem dX0_lose_18 : decode cX0_lose 18 = .ok (.getfield 19, 3) := dk_180 0 19 (dk_at dksX0_lose_0 18 rfl rfl)
theorem dX0_lose_21 : decode cX0_lose 21 = .ok (.iload_n 1, 1) := dk_27 (dk_at dksX0_lose_0 21 rfl rfl)
theorem dX0_lose_22 : decode cX0_lose 22 = .ok (.invokevirtual 304, 3) := dk_182 1 48 (dk_at dksX0_lose_1 0 rfl rfl)
theorem dX0_lose_25 : decode cX0_lose 25 = .ok (.aload_n 0, 1) := dk_42 (dk_at dksX0_lose_1 3 rfl rfl)
theorem dX0_lose_26 : decode cX0_lose 26 = .ok (.getfield 19, 3) := dk_180 0 19 (dk_at dksX0_lose_1 4 rfl rfl)
theorem dX0_lose_29 : decode cX0_lose 29 = .ok (.invokevirtual 307, 3) := dk_182 1 51 (dk_at dksX0_lose_1 7 rfl rfl)
theorem dX0_lose_32 : decode cX0_lose 32 = .ok (.ireturn, 1) := dk_172 (dk_at dksX0_lose_1 10 rfl rfl)
abbrev cX0_bit : ByteArray := prog_1_method_3_code
def yX0_bit : MethodName := ⟨RX0, "bit", "(Z)I"⟩
def dkwX0_bit_0 : List UInt8 := [26, 153, 0, 7, 4, 167, 0, 4, 3, 172]
abbrev dktX0_bit_0 : List UInt8 := dkwX0_bit_0 ++ []
theorem dksX0_bit_0 : cX0_bit.data.toList.drop 0 = dktX0_bit_0 := by decide +kernel
theorem dX0_bit_0 : decode cX0_bit 0 = .ok (.iload_n 0, 1) := dk_26 (dk_at dksX0_bit_0 0 rfl rfl)
theorem dX0_bit_1 : decode cX0_bit 1 = .ok (.ifCond .eq 7, 3) := dk_153 0 7 (dk_at dksX0_bit_0 1 rfl rfl)
theorem dX0_bit_4 : decode cX0_bit 4 = .ok (.iconst 1, 1) := dk_4 (dk_at dksX0_bit_0 4 rfl rfl)
theorem dX0_bit_5 : decode cX0_bit 5 = .ok (.goto 4, 3) := dk_167 0 4 (dk_at dksX0_bit_0 5 rfl rfl)
theorem dX0_bit_8 : decode cX0_bit 8 = .ok (.iconst 0, 1) := dk_3 (dk_at dksX0_bit_0 8 rfl rfl)
theorem dX0_bit_9 : decode cX0_bit 9 = .ok (.ireturn, 1) := dk_172 (dk_at dksX0_bit_0 9 rfl rfl)
abbrev cX0_lead : ByteArray := prog_1_method_37_code
def yX0_lead : MethodName := ⟨RX0, "lead", "(I)I"⟩
def dkwX0_lead_1 : List UInt8 := [61, 42, 180, 0, 19, 27, 181, 1, 54, 28, 172]
abbrev dktX0_lead_1 : List UInt8 := dkwX0_lead_1 ++ []
def dkwX0_lead_0 : List UInt8 := [42, 180, 0, 19, 27, 182, 1, 45, 154, 0, 5, 2, 172, 42, 182, 1, 39, 42, 180, 0, 19, 182, 0, 55]
abbrev dktX0_lead_0 : List UInt8 := dkwX0_lead_0 ++ dktX0_lead_1
theorem dksX0_lead_0 : cX0_lead.data.toList.drop 0 = dktX0_lead_0 := by decide +kernel
theorem dksX0_lead_1 : cX0_lead.data.toList.drop 24 = dktX0_lead_1 := dk_seg dksX0_lead_0 24 rfl rfl
theorem dX0_lead_0 : decode cX0_lead 0 = .ok (.aload_n 0, 1) := dk_42 (dk_at dksX0_lead_0 0 rfl rfl)
theorem dX0_lead_1 : decode cX0_lead 1 = .ok (.getfield 19, 3) := dk_180 0 19 (dk_at dksX0_lead_0 1 rfl rfl)
theorem dX0_lead_4 : decode cX0_lead 4 = .ok (.iload_n 1, 1) := dk_27 (dk_at dksX0_lead_0 4 rfl rfl)
theorem dX0_lead_5 : decode cX0_lead 5 = .ok (.invokevirtual 301, 3) := dk_182 1 45 (dk_at dksX0_lead_0 5 rfl rfl)
theorem dX0_lead_8 : decode cX0_lead 8 = .ok (.ifCond .ne 5, 3) := dk_154 0 5 (dk_at dksX0_lead_0 8 rfl rfl)
theorem dX0_lead_11 : decode cX0_lead 11 = .ok (.iconst (-1), 1) := dk_2 (dk_at dksX0_lead_0 11 rfl rfl)
theorem dX0_lead_12 : decode cX0_lead 12 = .ok (.ireturn, 1) := dk_172 (dk_at dksX0_lead_0 12 rfl rfl)
theorem dX0_lead_13 : decode cX0_lead 13 = .ok (.aload_n 0, 1) := dk_42 (dk_at dksX0_lead_0 13 rfl rfl)
theorem dX0_lead_14 : decode cX0_lead 14 = .ok (.invokevirtual 295, 3) := dk_182 1 39 (dk_at dksX0_lead_0 14 rfl rfl)
theorem dX0_lead_17 : decode cX0_lead 17 = .ok (.aload_n 0, 1) := dk_42 (dk_at dksX0_lead_0 17 rfl rfl)
theorem dX0_lead_18 : decode cX0_lead 18 = .ok (.getfield 19, 3) := dk_180 0 19 (dk_at dksX0_lead_0 18 rfl rfl)
theorem dX0_lead_21 : decode cX0_lead 21 = .ok (.invokevirtual 55, 3) := dk_182 0 55 (dk_at dksX0_lead_0 21 rfl rfl)
theorem dX0_lead_24 : decode cX0_lead 24 = .ok (.istore_n 2, 1) := dk_61 (dk_at dksX0_lead_1 0 rfl rfl)
theorem dX0_lead_25 : decode cX0_lead 25 = .ok (.aload_n 0, 1) := dk_42 (dk_at dksX0_lead_1 1 rfl rfl)
theorem dX0_lead_26 : decode cX0_lead 26 = .ok (.getfield 19, 3) := dk_180 0 19 (dk_at dksX0_lead_1 2 rfl rfl)
theorem dX0_lead_29 : decode cX0_lead 29 = .ok (.iload_n 1, 1) := dk_27 (dk_at dksX0_lead_1 5 rfl rfl)
theorem dX0_lead_30 : decode cX0_lead 30 = .ok (.putfield 310, 3) := dk_181 1 54 (dk_at dksX0_lead_1 6 rfl rfl)
theorem dX0_lead_33 : decode cX0_lead 33 = .ok (.iload_n 2, 1) := dk_28 (dk_at dksX0_lead_1 9 rfl rfl)
theorem dX0_lead_34 : decode cX0_lead 34 = .ok (.ireturn, 1) := dk_172 (dk_at dksX0_lead_1 10 rfl rfl)
abbrev cX0_target : ByteArray := prog_1_method_38_code
def yX0_target : MethodName := ⟨RX0, "target", "(I)I"⟩
def dkwX0_target_1 : List UInt8 := [180, 0, 144, 61, 42, 180, 0, 19, 27, 156, 0, 8, 16, 251, 167, 0, 4, 27, 181, 0, 144, 28, 172]
abbrev dktX0_target_1 : List UInt8 := dkwX0_target_1 ++ []
def dkwX0_target_0 : List UInt8 := [27, 2, 159, 0, 13, 27, 184, 1, 57, 154, 0, 6, 16, 254, 172, 42, 182, 1, 39, 42, 180, 0, 19]
abbrev dktX0_target_0 : List UInt8 := dkwX0_target_0 ++ dktX0_target_1
theorem dksX0_target_0 : cX0_target.data.toList.drop 0 = dktX0_target_0 := by decide +kernel
theorem dksX0_target_1 : cX0_target.data.toList.drop 23 = dktX0_target_1 := dk_seg dksX0_target_0 23 rfl rfl
theorem dX0_target_0 : decode cX0_target 0 = .ok (.iload_n 1, 1) := dk_27 (dk_at dksX0_target_0 0 rfl rfl)
theorem dX0_target_1 : decode cX0_target 1 = .ok (.iconst (-1), 1) := dk_2 (dk_at dksX0_target_0 1 rfl rfl)
theorem dX0_target_2 : decode cX0_target 2 = .ok (.if_icmp .eq 13, 3) := dk_159 0 13 (dk_at dksX0_target_0 2 rfl rfl)
theorem dX0_target_5 : decode cX0_target 5 = .ok (.iload_n 1, 1) := dk_27 (dk_at dksX0_target_0 5 rfl rfl)
theorem dX0_target_6 : decode cX0_target 6 = .ok (.invokestatic 313, 3) := dk_184 1 57 (dk_at dksX0_target_0 6 rfl rfl)
theorem dX0_target_9 : decode cX0_target 9 = .ok (.ifCond .ne 6, 3) := dk_154 0 6 (dk_at dksX0_target_0 9 rfl rfl)
theorem dX0_target_12 : decode cX0_target 12 = .ok (.bipush (-2), 2) := dk_16 254 (dk_at dksX0_target_0 12 rfl rfl)
theorem dX0_target_14 : decode cX0_target 14 = .ok (.ireturn, 1) := dk_172 (dk_at dksX0_target_0 14 rfl rfl)
theorem dX0_target_15 : decode cX0_target 15 = .ok (.aload_n 0, 1) := dk_42 (dk_at dksX0_target_0 15 rfl rfl)
theorem dX0_target_16 : decode cX0_target 16 = .ok (.invokevirtual 295, 3) := dk_182 1 39 (dk_at dksX0_target_0 16 rfl rfl)
theorem dX0_target_19 : decode cX0_target 19 = .ok (.aload_n 0, 1) := dk_42 (dk_at dksX0_target_0 19 rfl rfl)
theorem dX0_target_20 : decode cX0_target 20 = .ok (.getfield 19, 3) := dk_180 0 19 (dk_at dksX0_target_0 20 rfl rfl)
theorem dX0_target_23 : decode cX0_target 23 = .ok (.getfield 144, 3) := dk_180 0 144 (dk_at dksX0_target_1 0 rfl rfl)
theorem dX0_target_26 : decode cX0_target 26 = .ok (.istore_n 2, 1) := dk_61 (dk_at dksX0_target_1 3 rfl rfl)
theorem dX0_target_27 : decode cX0_target 27 = .ok (.aload_n 0, 1) := dk_42 (dk_at dksX0_target_1 4 rfl rfl)
theorem dX0_target_28 : decode cX0_target 28 = .ok (.getfield 19, 3) := dk_180 0 19 (dk_at dksX0_target_1 5 rfl rfl)
theorem dX0_target_31 : decode cX0_target 31 = .ok (.iload_n 1, 1) := dk_27 (dk_at dksX0_target_1 8 rfl rfl)
theorem dX0_target_32 : decode cX0_target 32 = .ok (.ifCond .ge 8, 3) := dk_156 0 8 (dk_at dksX0_target_1 9 rfl rfl)
theorem dX0_target_35 : decode cX0_target 35 = .ok (.bipush (-5), 2) := dk_16 251 (dk_at dksX0_target_1 12 rfl rfl)
theorem dX0_target_37 : decode cX0_target 37 = .ok (.goto 4, 3) := dk_167 0 4 (dk_at dksX0_target_1 14 rfl rfl)
theorem dX0_target_40 : decode cX0_target 40 = .ok (.iload_n 1, 1) := dk_27 (dk_at dksX0_target_1 17 rfl rfl)
theorem dX0_target_41 : decode cX0_target 41 = .ok (.putfield 144, 3) := dk_181 0 144 (dk_at dksX0_target_1 18 rfl rfl)
theorem dX0_target_44 : decode cX0_target 44 = .ok (.iload_n 2, 1) := dk_28 (dk_at dksX0_target_1 21 rfl rfl)
theorem dX0_target_45 : decode cX0_target 45 = .ok (.ireturn, 1) := dk_172 (dk_at dksX0_target_1 22 rfl rfl)
abbrev cX0_isCell : ByteArray := prog_1_method_4_code
def yX0_isCell : MethodName := ⟨RX0, "isCell", "(I)Z"⟩
def dkwX0_isCell_0 : List UInt8 := [26, 3, 16, 119, 184, 0, 3, 172]
abbrev dktX0_isCell_0 : List UInt8 := dkwX0_isCell_0 ++ []
theorem dksX0_isCell_0 : cX0_isCell.data.toList.drop 0 = dktX0_isCell_0 := by decide +kernel
theorem dX0_isCell_0 : decode cX0_isCell 0 = .ok (.iload_n 0, 1) := dk_26 (dk_at dksX0_isCell_0 0 rfl rfl)
theorem dX0_isCell_1 : decode cX0_isCell 1 = .ok (.iconst 0, 1) := dk_3 (dk_at dksX0_isCell_0 1 rfl rfl)
theorem dX0_isCell_2 : decode cX0_isCell 2 = .ok (.bipush 119, 2) := dk_16 119 (dk_at dksX0_isCell_0 2 rfl rfl)
theorem dX0_isCell_4 : decode cX0_isCell 4 = .ok (.invokestatic 3, 3) := dk_184 0 3 (dk_at dksX0_isCell_0 4 rfl rfl)
theorem dX0_isCell_7 : decode cX0_isCell 7 = .ok (.ireturn, 1) := dk_172 (dk_at dksX0_isCell_0 7 rfl rfl)
abbrev cX0_obstacle : ByteArray := prog_1_method_40_code
def yX0_obstacle : MethodName := ⟨RX0, "obstacle", "(I)I"⟩
def dkwX0_obstacle_1 : List UInt8 := [42, 182, 1, 39, 42, 27, 182, 1, 60, 172]
abbrev dktX0_obstacle_1 : List UInt8 := dkwX0_obstacle_1 ++ []
def dkwX0_obstacle_0 : List UInt8 := [27, 184, 1, 57, 154, 0, 5, 2, 172, 42, 180, 0, 19, 180, 0, 150, 27, 46, 155, 0, 6, 16, 253, 172]
abbrev dktX0_obstacle_0 : List UInt8 := dkwX0_obstacle_0 ++ dktX0_obstacle_1
theorem dksX0_obstacle_0 : cX0_obstacle.data.toList.drop 0 = dktX0_obstacle_0 := by decide +kernel
theorem dksX0_obstacle_1 : cX0_obstacle.data.toList.drop 24 = dktX0_obstacle_1 := dk_seg dksX0_obstacle_0 24 rfl rfl
theorem dX0_obstacle_0 : decode cX0_obstacle 0 = .ok (.iload_n 1, 1) := dk_27 (dk_at dksX0_obstacle_0 0 rfl rfl)
theorem dX0_obstacle_1 : decode cX0_obstacle 1 = .ok (.invokestatic 313, 3) := dk_184 1 57 (dk_at dksX0_obstacle_0 1 rfl rfl)
theorem dX0_obstacle_4 : decode cX0_obstacle 4 = .ok (.ifCond .ne 5, 3) := dk_154 0 5 (dk_at dksX0_obstacle_0 4 rfl rfl)
theorem dX0_obstacle_7 : decode cX0_obstacle 7 = .ok (.iconst (-1), 1) := dk_2 (dk_at dksX0_obstacle_0 7 rfl rfl)
theorem dX0_obstacle_8 : decode cX0_obstacle 8 = .ok (.ireturn, 1) := dk_172 (dk_at dksX0_obstacle_0 8 rfl rfl)
theorem dX0_obstacle_9 : decode cX0_obstacle 9 = .ok (.aload_n 0, 1) := dk_42 (dk_at dksX0_obstacle_0 9 rfl rfl)
theorem dX0_obstacle_10 : decode cX0_obstacle 10 = .ok (.getfield 19, 3) := dk_180 0 19 (dk_at dksX0_obstacle_0 10 rfl rfl)
theorem dX0_obstacle_13 : decode cX0_obstacle 13 = .ok (.getfield 150, 3) := dk_180 0 150 (dk_at dksX0_obstacle_0 13 rfl rfl)
theorem dX0_obstacle_16 : decode cX0_obstacle 16 = .ok (.iload_n 1, 1) := dk_27 (dk_at dksX0_obstacle_0 16 rfl rfl)
theorem dX0_obstacle_17 : decode cX0_obstacle 17 = .ok (.iaload, 1) := dk_46 (dk_at dksX0_obstacle_0 17 rfl rfl)
theorem dX0_obstacle_18 : decode cX0_obstacle 18 = .ok (.ifCond .lt 6, 3) := dk_155 0 6 (dk_at dksX0_obstacle_0 18 rfl rfl)
theorem dX0_obstacle_21 : decode cX0_obstacle 21 = .ok (.bipush (-3), 2) := dk_16 253 (dk_at dksX0_obstacle_0 21 rfl rfl)
theorem dX0_obstacle_23 : decode cX0_obstacle 23 = .ok (.ireturn, 1) := dk_172 (dk_at dksX0_obstacle_0 23 rfl rfl)
theorem dX0_obstacle_24 : decode cX0_obstacle 24 = .ok (.aload_n 0, 1) := dk_42 (dk_at dksX0_obstacle_1 0 rfl rfl)
theorem dX0_obstacle_25 : decode cX0_obstacle 25 = .ok (.invokevirtual 295, 3) := dk_182 1 39 (dk_at dksX0_obstacle_1 1 rfl rfl)
theorem dX0_obstacle_28 : decode cX0_obstacle 28 = .ok (.aload_n 0, 1) := dk_42 (dk_at dksX0_obstacle_1 4 rfl rfl)
theorem dX0_obstacle_29 : decode cX0_obstacle 29 = .ok (.iload_n 1, 1) := dk_27 (dk_at dksX0_obstacle_1 5 rfl rfl)
theorem dX0_obstacle_30 : decode cX0_obstacle 30 = .ok (.invokevirtual 316, 3) := dk_182 1 60 (dk_at dksX0_obstacle_1 6 rfl rfl)
theorem dX0_obstacle_33 : decode cX0_obstacle 33 = .ok (.ireturn, 1) := dk_172 (dk_at dksX0_obstacle_1 9 rfl rfl)
abbrev cX0_turns : ByteArray := prog_1_method_39_code
def yX0_turns : MethodName := ⟨RX0, "turns", "(I)I"⟩
def dkwX0_turns_2 : List UInt8 := [153, 0, 7, 4, 167, 0, 4, 2, 96, 79, 42, 180, 0, 19, 180, 0, 23, 27, 51, 184, 0, 112, 172]
abbrev dktX0_turns_2 : List UInt8 := dkwX0_turns_2 ++ []
def dkwX0_turns_1 : List UInt8 := [3, 84, 42, 180, 0, 19, 180, 0, 141, 16, 6, 92, 46, 42, 180, 0, 19, 180, 0, 23, 27, 51]
abbrev dktX0_turns_1 : List UInt8 := dkwX0_turns_1 ++ dktX0_turns_2
def dkwX0_turns_0 : List UInt8 := [42, 180, 0, 19, 180, 0, 23, 27, 42, 180, 0, 19, 180, 0, 23, 27, 51, 154, 0, 7, 4, 167, 0, 4]
abbrev dktX0_turns_0 : List UInt8 := dkwX0_turns_0 ++ dktX0_turns_1
theorem dksX0_turns_0 : cX0_turns.data.toList.drop 0 = dktX0_turns_0 := by decide +kernel
theorem dksX0_turns_1 : cX0_turns.data.toList.drop 24 = dktX0_turns_1 := dk_seg dksX0_turns_0 24 rfl rfl
theorem dksX0_turns_2 : cX0_turns.data.toList.drop 46 = dktX0_turns_2 := dk_seg dksX0_turns_1 22 rfl rfl
theorem dX0_turns_0 : decode cX0_turns 0 = .ok (.aload_n 0, 1) := dk_42 (dk_at dksX0_turns_0 0 rfl rfl)
theorem dX0_turns_1 : decode cX0_turns 1 = .ok (.getfield 19, 3) := dk_180 0 19 (dk_at dksX0_turns_0 1 rfl rfl)
theorem dX0_turns_4 : decode cX0_turns 4 = .ok (.getfield 23, 3) := dk_180 0 23 (dk_at dksX0_turns_0 4 rfl rfl)
theorem dX0_turns_7 : decode cX0_turns 7 = .ok (.iload_n 1, 1) := dk_27 (dk_at dksX0_turns_0 7 rfl rfl)
theorem dX0_turns_8 : decode cX0_turns 8 = .ok (.aload_n 0, 1) := dk_42 (dk_at dksX0_turns_0 8 rfl rfl)
theorem dX0_turns_9 : decode cX0_turns 9 = .ok (.getfield 19, 3) := dk_180 0 19 (dk_at dksX0_turns_0 9 rfl rfl)
theorem dX0_turns_12 : decode cX0_turns 12 = .ok (.getfield 23, 3) := dk_180 0 23 (dk_at dksX0_turns_0 12 rfl rfl)
theorem dX0_turns_15 : decode cX0_turns 15 = .ok (.iload_n 1, 1) := dk_27 (dk_at dksX0_turns_0 15 rfl rfl)
theorem dX0_turns_16 : decode cX0_turns 16 = .ok (.baload, 1) := dk_51 (dk_at dksX0_turns_0 16 rfl rfl)
theorem dX0_turns_17 : decode cX0_turns 17 = .ok (.ifCond .ne 7, 3) := dk_154 0 7 (dk_at dksX0_turns_0 17 rfl rfl)
theorem dX0_turns_20 : decode cX0_turns 20 = .ok (.iconst 1, 1) := dk_4 (dk_at dksX0_turns_0 20 rfl rfl)
theorem dX0_turns_21 : decode cX0_turns 21 = .ok (.goto 4, 3) := dk_167 0 4 (dk_at dksX0_turns_0 21 rfl rfl)
theorem dX0_turns_24 : decode cX0_turns 24 = .ok (.iconst 0, 1) := dk_3 (dk_at dksX0_turns_1 0 rfl rfl)
theorem dX0_turns_25 : decode cX0_turns 25 = .ok (.bastore, 1) := dk_84 (dk_at dksX0_turns_1 1 rfl rfl)
theorem dX0_turns_26 : decode cX0_turns 26 = .ok (.aload_n 0, 1) := dk_42 (dk_at dksX0_turns_1 2 rfl rfl)
theorem dX0_turns_27 : decode cX0_turns 27 = .ok (.getfield 19, 3) := dk_180 0 19 (dk_at dksX0_turns_1 3 rfl rfl)
theorem dX0_turns_30 : decode cX0_turns 30 = .ok (.getfield 141, 3) := dk_180 0 141 (dk_at dksX0_turns_1 6 rfl rfl)
theorem dX0_turns_33 : decode cX0_turns 33 = .ok (.bipush 6, 2) := dk_16 6 (dk_at dksX0_turns_1 9 rfl rfl)
theorem dX0_turns_35 : decode cX0_turns 35 = .ok (.dup2, 1) := dk_92 (dk_at dksX0_turns_1 11 rfl rfl)
theorem dX0_turns_36 : decode cX0_turns 36 = .ok (.iaload, 1) := dk_46 (dk_at dksX0_turns_1 12 rfl rfl)
theorem dX0_turns_37 : decode cX0_turns 37 = .ok (.aload_n 0, 1) := dk_42 (dk_at dksX0_turns_1 13 rfl rfl)
theorem dX0_turns_38 : decode cX0_turns 38 = .ok (.getfield 19, 3) := dk_180 0 19 (dk_at dksX0_turns_1 14 rfl rfl)
theorem dX0_turns_41 : decode cX0_turns 41 = .ok (.getfield 23, 3) := dk_180 0 23 (dk_at dksX0_turns_1 17 rfl rfl)
theorem dX0_turns_44 : decode cX0_turns 44 = .ok (.iload_n 1, 1) := dk_27 (dk_at dksX0_turns_1 20 rfl rfl)
theorem dX0_turns_45 : decode cX0_turns 45 = .ok (.baload, 1) := dk_51 (dk_at dksX0_turns_1 21 rfl rfl)
theorem dX0_turns_46 : decode cX0_turns 46 = .ok (.ifCond .eq 7, 3) := dk_153 0 7 (dk_at dksX0_turns_2 0 rfl rfl)
theorem dX0_turns_49 : decode cX0_turns 49 = .ok (.iconst 1, 1) := dk_4 (dk_at dksX0_turns_2 3 rfl rfl)
theorem dX0_turns_50 : decode cX0_turns 50 = .ok (.goto 4, 3) := dk_167 0 4 (dk_at dksX0_turns_2 4 rfl rfl)
theorem dX0_turns_53 : decode cX0_turns 53 = .ok (.iconst (-1), 1) := dk_2 (dk_at dksX0_turns_2 7 rfl rfl)
theorem dX0_turns_54 : decode cX0_turns 54 = .ok (.iadd, 1) := dk_96 (dk_at dksX0_turns_2 8 rfl rfl)
theorem dX0_turns_55 : decode cX0_turns 55 = .ok (.iastore, 1) := dk_79 (dk_at dksX0_turns_2 9 rfl rfl)
theorem dX0_turns_56 : decode cX0_turns 56 = .ok (.aload_n 0, 1) := dk_42 (dk_at dksX0_turns_2 10 rfl rfl)
theorem dX0_turns_57 : decode cX0_turns 57 = .ok (.getfield 19, 3) := dk_180 0 19 (dk_at dksX0_turns_2 11 rfl rfl)
theorem dX0_turns_60 : decode cX0_turns 60 = .ok (.getfield 23, 3) := dk_180 0 23 (dk_at dksX0_turns_2 14 rfl rfl)
theorem dX0_turns_63 : decode cX0_turns 63 = .ok (.iload_n 1, 1) := dk_27 (dk_at dksX0_turns_2 17 rfl rfl)
theorem dX0_turns_64 : decode cX0_turns 64 = .ok (.baload, 1) := dk_51 (dk_at dksX0_turns_2 18 rfl rfl)
theorem dX0_turns_65 : decode cX0_turns 65 = .ok (.invokestatic 112, 3) := dk_184 0 112 (dk_at dksX0_turns_2 19 rfl rfl)
theorem dX0_turns_68 : decode cX0_turns 68 = .ok (.ireturn, 1) := dk_172 (dk_at dksX0_turns_2 22 rfl rfl)
abbrev cX0_feed : ByteArray := prog_1_method_42_code
def yX0_feed : MethodName := ⟨RX0, "feed", "(IIIIII)I"⟩
def dkwX0_feed_5 : List UInt8 := [96, 181, 1, 66, 132, 8, 1, 167, 255, 222, 42, 180, 1, 66, 172]
abbrev dktX0_feed_5 : List UInt8 := dkwX0_feed_5 ++ []
def dkwX0_feed_4 : List UInt8 := [162, 0, 34, 42, 180, 1, 6, 42, 180, 1, 66, 25, 7, 21, 8, 46, 145, 84, 42, 89, 180, 1, 66, 4]
abbrev dktX0_feed_4 : List UInt8 := dkwX0_feed_4 ++ dktX0_feed_5
def dkwX0_feed_3 : List UInt8 := [21, 4, 79, 89, 6, 21, 5, 79, 89, 7, 21, 6, 79, 184, 1, 69, 58, 7, 3, 54, 8, 21, 8, 27]
abbrev dktX0_feed_3 : List UInt8 := dkwX0_feed_3 ++ dktX0_feed_4
def dkwX0_feed_2 : List UInt8 := [27, 96, 16, 60, 164, 0, 6, 16, 252, 172, 8, 188, 10, 89, 3, 28, 79, 89, 4, 29, 79, 89, 5]
abbrev dktX0_feed_2 : List UInt8 := dkwX0_feed_2 ++ dktX0_feed_3
def dkwX0_feed_1 : List UInt8 := [79, 89, 6, 21, 5, 79, 89, 7, 21, 6, 79, 184, 1, 62, 154, 0, 6, 16, 254, 172, 42, 180, 1, 66]
abbrev dktX0_feed_1 : List UInt8 := dkwX0_feed_1 ++ dktX0_feed_2
def dkwX0_feed_0 : List UInt8 := [27, 4, 8, 184, 0, 3, 153, 0, 35, 8, 188, 10, 89, 3, 28, 79, 89, 4, 29, 79, 89, 5, 21, 4]
abbrev dktX0_feed_0 : List UInt8 := dkwX0_feed_0 ++ dktX0_feed_1
theorem dksX0_feed_0 : cX0_feed.data.toList.drop 0 = dktX0_feed_0 := by decide +kernel
theorem dksX0_feed_1 : cX0_feed.data.toList.drop 24 = dktX0_feed_1 := dk_seg dksX0_feed_0 24 rfl rfl
theorem dksX0_feed_2 : cX0_feed.data.toList.drop 48 = dktX0_feed_2 := dk_seg dksX0_feed_1 24 rfl rfl
theorem dksX0_feed_3 : cX0_feed.data.toList.drop 71 = dktX0_feed_3 := dk_seg dksX0_feed_2 23 rfl rfl
theorem dksX0_feed_4 : cX0_feed.data.toList.drop 95 = dktX0_feed_4 := dk_seg dksX0_feed_3 24 rfl rfl
theorem dksX0_feed_5 : cX0_feed.data.toList.drop 119 = dktX0_feed_5 := dk_seg dksX0_feed_4 24 rfl rfl
theorem dX0_feed_0 : decode cX0_feed 0 = .ok (.iload_n 1, 1) := dk_27 (dk_at dksX0_feed_0 0 rfl rfl)
theorem dX0_feed_1 : decode cX0_feed 1 = .ok (.iconst 1, 1) := dk_4 (dk_at dksX0_feed_0 1 rfl rfl)
theorem dX0_feed_2 : decode cX0_feed 2 = .ok (.iconst 5, 1) := dk_8 (dk_at dksX0_feed_0 2 rfl rfl)
theorem dX0_feed_3 : decode cX0_feed 3 = .ok (.invokestatic 3, 3) := dk_184 0 3 (dk_at dksX0_feed_0 3 rfl rfl)
theorem dX0_feed_6 : decode cX0_feed 6 = .ok (.ifCond .eq 35, 3) := dk_153 0 35 (dk_at dksX0_feed_0 6 rfl rfl)
theorem dX0_feed_9 : decode cX0_feed 9 = .ok (.iconst 5, 1) := dk_8 (dk_at dksX0_feed_0 9 rfl rfl)
theorem dX0_feed_10 : decode cX0_feed 10 = .ok (.newarray .int, 2) := dk_188_10 (dk_at dksX0_feed_0 10 rfl rfl)
theorem dX0_feed_12 : decode cX0_feed 12 = .ok (.dup, 1) := dk_89 (dk_at dksX0_feed_0 12 rfl rfl)
theorem dX0_feed_13 : decode cX0_feed 13 = .ok (.iconst 0, 1) := dk_3 (dk_at dksX0_feed_0 13 rfl rfl)
theorem dX0_feed_14 : decode cX0_feed 14 = .ok (.iload_n 2, 1) := dk_28 (dk_at dksX0_feed_0 14 rfl rfl)
theorem dX0_feed_15 : decode cX0_feed 15 = .ok (.iastore, 1) := dk_79 (dk_at dksX0_feed_0 15 rfl rfl)
theorem dX0_feed_16 : decode cX0_feed 16 = .ok (.dup, 1) := dk_89 (dk_at dksX0_feed_0 16 rfl rfl)
theorem dX0_feed_17 : decode cX0_feed 17 = .ok (.iconst 1, 1) := dk_4 (dk_at dksX0_feed_0 17 rfl rfl)
theorem dX0_feed_18 : decode cX0_feed 18 = .ok (.iload_n 3, 1) := dk_29 (dk_at dksX0_feed_0 18 rfl rfl)
theorem dX0_feed_19 : decode cX0_feed 19 = .ok (.iastore, 1) := dk_79 (dk_at dksX0_feed_0 19 rfl rfl)
theorem dX0_feed_20 : decode cX0_feed 20 = .ok (.dup, 1) := dk_89 (dk_at dksX0_feed_0 20 rfl rfl)
theorem dX0_feed_21 : decode cX0_feed 21 = .ok (.iconst 2, 1) := dk_5 (dk_at dksX0_feed_0 21 rfl rfl)
theorem dX0_feed_22 : decode cX0_feed 22 = .ok (.iload 4, 2) := dk_21 4 (dk_at dksX0_feed_0 22 rfl rfl)
theorem dX0_feed_24 : decode cX0_feed 24 = .ok (.iastore, 1) := dk_79 (dk_at dksX0_feed_1 0 rfl rfl)
theorem dX0_feed_25 : decode cX0_feed 25 = .ok (.dup, 1) := dk_89 (dk_at dksX0_feed_1 1 rfl rfl)
theorem dX0_feed_26 : decode cX0_feed 26 = .ok (.iconst 3, 1) := dk_6 (dk_at dksX0_feed_1 2 rfl rfl)
theorem dX0_feed_27 : decode cX0_feed 27 = .ok (.iload 5, 2) := dk_21 5 (dk_at dksX0_feed_1 3 rfl rfl)
theorem dX0_feed_29 : decode cX0_feed 29 = .ok (.iastore, 1) := dk_79 (dk_at dksX0_feed_1 5 rfl rfl)
theorem dX0_feed_30 : decode cX0_feed 30 = .ok (.dup, 1) := dk_89 (dk_at dksX0_feed_1 6 rfl rfl)
theorem dX0_feed_31 : decode cX0_feed 31 = .ok (.iconst 4, 1) := dk_7 (dk_at dksX0_feed_1 7 rfl rfl)
theorem dX0_feed_32 : decode cX0_feed 32 = .ok (.iload 6, 2) := dk_21 6 (dk_at dksX0_feed_1 8 rfl rfl)
theorem dX0_feed_34 : decode cX0_feed 34 = .ok (.iastore, 1) := dk_79 (dk_at dksX0_feed_1 10 rfl rfl)
theorem dX0_feed_35 : decode cX0_feed 35 = .ok (.invokestatic 318, 3) := dk_184 1 62 (dk_at dksX0_feed_1 11 rfl rfl)
theorem dX0_feed_38 : decode cX0_feed 38 = .ok (.ifCond .ne 6, 3) := dk_154 0 6 (dk_at dksX0_feed_1 14 rfl rfl)
theorem dX0_feed_41 : decode cX0_feed 41 = .ok (.bipush (-2), 2) := dk_16 254 (dk_at dksX0_feed_1 17 rfl rfl)
theorem dX0_feed_43 : decode cX0_feed 43 = .ok (.ireturn, 1) := dk_172 (dk_at dksX0_feed_1 19 rfl rfl)
theorem dX0_feed_44 : decode cX0_feed 44 = .ok (.aload_n 0, 1) := dk_42 (dk_at dksX0_feed_1 20 rfl rfl)
theorem dX0_feed_45 : decode cX0_feed 45 = .ok (.getfield 322, 3) := dk_180 1 66 (dk_at dksX0_feed_1 21 rfl rfl)
theorem dX0_feed_48 : decode cX0_feed 48 = .ok (.iload_n 1, 1) := dk_27 (dk_at dksX0_feed_2 0 rfl rfl)
theorem dX0_feed_49 : decode cX0_feed 49 = .ok (.iadd, 1) := dk_96 (dk_at dksX0_feed_2 1 rfl rfl)
theorem dX0_feed_50 : decode cX0_feed 50 = .ok (.bipush 60, 2) := dk_16 60 (dk_at dksX0_feed_2 2 rfl rfl)
theorem dX0_feed_52 : decode cX0_feed 52 = .ok (.if_icmp .le 6, 3) := dk_164 0 6 (dk_at dksX0_feed_2 4 rfl rfl)
theorem dX0_feed_55 : decode cX0_feed 55 = .ok (.bipush (-4), 2) := dk_16 252 (dk_at dksX0_feed_2 7 rfl rfl)
theorem dX0_feed_57 : decode cX0_feed 57 = .ok (.ireturn, 1) := dk_172 (dk_at dksX0_feed_2 9 rfl rfl)
theorem dX0_feed_58 : decode cX0_feed 58 = .ok (.iconst 5, 1) := dk_8 (dk_at dksX0_feed_2 10 rfl rfl)
theorem dX0_feed_59 : decode cX0_feed 59 = .ok (.newarray .int, 2) := dk_188_10 (dk_at dksX0_feed_2 11 rfl rfl)
theorem dX0_feed_61 : decode cX0_feed 61 = .ok (.dup, 1) := dk_89 (dk_at dksX0_feed_2 13 rfl rfl)
theorem dX0_feed_62 : decode cX0_feed 62 = .ok (.iconst 0, 1) := dk_3 (dk_at dksX0_feed_2 14 rfl rfl)
theorem dX0_feed_63 : decode cX0_feed 63 = .ok (.iload_n 2, 1) := dk_28 (dk_at dksX0_feed_2 15 rfl rfl)
theorem dX0_feed_64 : decode cX0_feed 64 = .ok (.iastore, 1) := dk_79 (dk_at dksX0_feed_2 16 rfl rfl)
theorem dX0_feed_65 : decode cX0_feed 65 = .ok (.dup, 1) := dk_89 (dk_at dksX0_feed_2 17 rfl rfl)
theorem dX0_feed_66 : decode cX0_feed 66 = .ok (.iconst 1, 1) := dk_4 (dk_at dksX0_feed_2 18 rfl rfl)
theorem dX0_feed_67 : decode cX0_feed 67 = .ok (.iload_n 3, 1) := dk_29 (dk_at dksX0_feed_2 19 rfl rfl)
theorem dX0_feed_68 : decode cX0_feed 68 = .ok (.iastore, 1) := dk_79 (dk_at dksX0_feed_2 20 rfl rfl)
theorem dX0_feed_69 : decode cX0_feed 69 = .ok (.dup, 1) := dk_89 (dk_at dksX0_feed_2 21 rfl rfl)
theorem dX0_feed_70 : decode cX0_feed 70 = .ok (.iconst 2, 1) := dk_5 (dk_at dksX0_feed_2 22 rfl rfl)
theorem dX0_feed_71 : decode cX0_feed 71 = .ok (.iload 4, 2) := dk_21 4 (dk_at dksX0_feed_3 0 rfl rfl)
theorem dX0_feed_73 : decode cX0_feed 73 = .ok (.iastore, 1) := dk_79 (dk_at dksX0_feed_3 2 rfl rfl)
theorem dX0_feed_74 : decode cX0_feed 74 = .ok (.dup, 1) := dk_89 (dk_at dksX0_feed_3 3 rfl rfl)
theorem dX0_feed_75 : decode cX0_feed 75 = .ok (.iconst 3, 1) := dk_6 (dk_at dksX0_feed_3 4 rfl rfl)
theorem dX0_feed_76 : decode cX0_feed 76 = .ok (.iload 5, 2) := dk_21 5 (dk_at dksX0_feed_3 5 rfl rfl)
theorem dX0_feed_78 : decode cX0_feed 78 = .ok (.iastore, 1) := dk_79 (dk_at dksX0_feed_3 7 rfl rfl)
theorem dX0_feed_79 : decode cX0_feed 79 = .ok (.dup, 1) := dk_89 (dk_at dksX0_feed_3 8 rfl rfl)
theorem dX0_feed_80 : decode cX0_feed 80 = .ok (.iconst 4, 1) := dk_7 (dk_at dksX0_feed_3 9 rfl rfl)
theorem dX0_feed_81 : decode cX0_feed 81 = .ok (.iload 6, 2) := dk_21 6 (dk_at dksX0_feed_3 10 rfl rfl)
theorem dX0_feed_83 : decode cX0_feed 83 = .ok (.iastore, 1) := dk_79 (dk_at dksX0_feed_3 12 rfl rfl)
theorem dX0_feed_84 : decode cX0_feed 84 = .ok (.invokestatic 325, 3) := dk_184 1 69 (dk_at dksX0_feed_3 13 rfl rfl)
theorem dX0_feed_87 : decode cX0_feed 87 = .ok (.astore 7, 2) := dk_58 7 (dk_at dksX0_feed_3 16 rfl rfl)
theorem dX0_feed_89 : decode cX0_feed 89 = .ok (.iconst 0, 1) := dk_3 (dk_at dksX0_feed_3 18 rfl rfl)
theorem dX0_feed_90 : decode cX0_feed 90 = .ok (.istore 8, 2) := dk_54 8 (dk_at dksX0_feed_3 19 rfl rfl)
theorem dX0_feed_92 : decode cX0_feed 92 = .ok (.iload 8, 2) := dk_21 8 (dk_at dksX0_feed_3 21 rfl rfl)
theorem dX0_feed_94 : decode cX0_feed 94 = .ok (.iload_n 1, 1) := dk_27 (dk_at dksX0_feed_3 23 rfl rfl)
theorem dX0_feed_95 : decode cX0_feed 95 = .ok (.if_icmp .ge 34, 3) := dk_162 0 34 (dk_at dksX0_feed_4 0 rfl rfl)
theorem dX0_feed_98 : decode cX0_feed 98 = .ok (.aload_n 0, 1) := dk_42 (dk_at dksX0_feed_4 3 rfl rfl)
theorem dX0_feed_99 : decode cX0_feed 99 = .ok (.getfield 262, 3) := dk_180 1 6 (dk_at dksX0_feed_4 4 rfl rfl)
theorem dX0_feed_102 : decode cX0_feed 102 = .ok (.aload_n 0, 1) := dk_42 (dk_at dksX0_feed_4 7 rfl rfl)
theorem dX0_feed_103 : decode cX0_feed 103 = .ok (.getfield 322, 3) := dk_180 1 66 (dk_at dksX0_feed_4 8 rfl rfl)
theorem dX0_feed_106 : decode cX0_feed 106 = .ok (.aload 7, 2) := dk_25 7 (dk_at dksX0_feed_4 11 rfl rfl)
theorem dX0_feed_108 : decode cX0_feed 108 = .ok (.iload 8, 2) := dk_21 8 (dk_at dksX0_feed_4 13 rfl rfl)
theorem dX0_feed_110 : decode cX0_feed 110 = .ok (.iaload, 1) := dk_46 (dk_at dksX0_feed_4 15 rfl rfl)
theorem dX0_feed_111 : decode cX0_feed 111 = .ok (.i2b, 1) := dk_145 (dk_at dksX0_feed_4 16 rfl rfl)
theorem dX0_feed_112 : decode cX0_feed 112 = .ok (.bastore, 1) := dk_84 (dk_at dksX0_feed_4 17 rfl rfl)
theorem dX0_feed_113 : decode cX0_feed 113 = .ok (.aload_n 0, 1) := dk_42 (dk_at dksX0_feed_4 18 rfl rfl)
theorem dX0_feed_114 : decode cX0_feed 114 = .ok (.dup, 1) := dk_89 (dk_at dksX0_feed_4 19 rfl rfl)
theorem dX0_feed_115 : decode cX0_feed 115 = .ok (.getfield 322, 3) := dk_180 1 66 (dk_at dksX0_feed_4 20 rfl rfl)
theorem dX0_feed_118 : decode cX0_feed 118 = .ok (.iconst 1, 1) := dk_4 (dk_at dksX0_feed_4 23 rfl rfl)
theorem dX0_feed_119 : decode cX0_feed 119 = .ok (.iadd, 1) := dk_96 (dk_at dksX0_feed_5 0 rfl rfl)
theorem dX0_feed_120 : decode cX0_feed 120 = .ok (.putfield 322, 3) := dk_181 1 66 (dk_at dksX0_feed_5 1 rfl rfl)
theorem dX0_feed_123 : decode cX0_feed 123 = .ok (.iinc 8 1, 3) := dk_132 8 1 (dk_at dksX0_feed_5 4 rfl rfl)
theorem dX0_feed_126 : decode cX0_feed 126 = .ok (.goto (-34), 3) := dk_167 255 222 (dk_at dksX0_feed_5 7 rfl rfl)
theorem dX0_feed_129 : decode cX0_feed 129 = .ok (.aload_n 0, 1) := dk_42 (dk_at dksX0_feed_5 10 rfl rfl)
theorem dX0_feed_130 : decode cX0_feed 130 = .ok (.getfield 322, 3) := dk_180 1 66 (dk_at dksX0_feed_5 11 rfl rfl)
theorem dX0_feed_133 : decode cX0_feed 133 = .ok (.ireturn, 1) := dk_172 (dk_at dksX0_feed_5 14 rfl rfl)
abbrev cX0_areSigns : ByteArray := prog_1_method_41_code
def yX0_areSigns : MethodName := ⟨RX0, "areSigns", "([I)Z"⟩
def dkwX0_areSigns_1 : List UInt8 := [184, 0, 3, 154, 0, 5, 3, 172, 132, 3, 1, 167, 255, 230, 4, 172]
abbrev dktX0_areSigns_1 : List UInt8 := dkwX0_areSigns_1 ++ []
def dkwX0_areSigns_0 : List UInt8 := [42, 76, 43, 190, 61, 3, 62, 29, 28, 162, 0, 27, 43, 29, 46, 54, 4, 21, 4, 3, 16, 127]
abbrev dktX0_areSigns_0 : List UInt8 := dkwX0_areSigns_0 ++ dktX0_areSigns_1
theorem dksX0_areSigns_0 : cX0_areSigns.data.toList.drop 0 = dktX0_areSigns_0 := by decide +kernel
theorem dksX0_areSigns_1 : cX0_areSigns.data.toList.drop 22 = dktX0_areSigns_1 := dk_seg dksX0_areSigns_0 22 rfl rfl
theorem dX0_areSigns_0 : decode cX0_areSigns 0 = .ok (.aload_n 0, 1) := dk_42 (dk_at dksX0_areSigns_0 0 rfl rfl)
theorem dX0_areSigns_1 : decode cX0_areSigns 1 = .ok (.astore_n 1, 1) := dk_76 (dk_at dksX0_areSigns_0 1 rfl rfl)
theorem dX0_areSigns_2 : decode cX0_areSigns 2 = .ok (.aload_n 1, 1) := dk_43 (dk_at dksX0_areSigns_0 2 rfl rfl)
theorem dX0_areSigns_3 : decode cX0_areSigns 3 = .ok (.arraylength, 1) := dk_190 (dk_at dksX0_areSigns_0 3 rfl rfl)
theorem dX0_areSigns_4 : decode cX0_areSigns 4 = .ok (.istore_n 2, 1) := dk_61 (dk_at dksX0_areSigns_0 4 rfl rfl)
theorem dX0_areSigns_5 : decode cX0_areSigns 5 = .ok (.iconst 0, 1) := dk_3 (dk_at dksX0_areSigns_0 5 rfl rfl)
theorem dX0_areSigns_6 : decode cX0_areSigns 6 = .ok (.istore_n 3, 1) := dk_62 (dk_at dksX0_areSigns_0 6 rfl rfl)
theorem dX0_areSigns_7 : decode cX0_areSigns 7 = .ok (.iload_n 3, 1) := dk_29 (dk_at dksX0_areSigns_0 7 rfl rfl)
theorem dX0_areSigns_8 : decode cX0_areSigns 8 = .ok (.iload_n 2, 1) := dk_28 (dk_at dksX0_areSigns_0 8 rfl rfl)
theorem dX0_areSigns_9 : decode cX0_areSigns 9 = .ok (.if_icmp .ge 27, 3) := dk_162 0 27 (dk_at dksX0_areSigns_0 9 rfl rfl)
theorem dX0_areSigns_12 : decode cX0_areSigns 12 = .ok (.aload_n 1, 1) := dk_43 (dk_at dksX0_areSigns_0 12 rfl rfl)
theorem dX0_areSigns_13 : decode cX0_areSigns 13 = .ok (.iload_n 3, 1) := dk_29 (dk_at dksX0_areSigns_0 13 rfl rfl)
theorem dX0_areSigns_14 : decode cX0_areSigns 14 = .ok (.iaload, 1) := dk_46 (dk_at dksX0_areSigns_0 14 rfl rfl)
theorem dX0_areSigns_15 : decode cX0_areSigns 15 = .ok (.istore 4, 2) := dk_54 4 (dk_at dksX0_areSigns_0 15 rfl rfl)
theorem dX0_areSigns_17 : decode cX0_areSigns 17 = .ok (.iload 4, 2) := dk_21 4 (dk_at dksX0_areSigns_0 17 rfl rfl)
theorem dX0_areSigns_19 : decode cX0_areSigns 19 = .ok (.iconst 0, 1) := dk_3 (dk_at dksX0_areSigns_0 19 rfl rfl)
theorem dX0_areSigns_20 : decode cX0_areSigns 20 = .ok (.bipush 127, 2) := dk_16 127 (dk_at dksX0_areSigns_0 20 rfl rfl)
theorem dX0_areSigns_22 : decode cX0_areSigns 22 = .ok (.invokestatic 3, 3) := dk_184 0 3 (dk_at dksX0_areSigns_1 0 rfl rfl)
theorem dX0_areSigns_25 : decode cX0_areSigns 25 = .ok (.ifCond .ne 5, 3) := dk_154 0 5 (dk_at dksX0_areSigns_1 3 rfl rfl)
theorem dX0_areSigns_28 : decode cX0_areSigns 28 = .ok (.iconst 0, 1) := dk_3 (dk_at dksX0_areSigns_1 6 rfl rfl)
theorem dX0_areSigns_29 : decode cX0_areSigns 29 = .ok (.ireturn, 1) := dk_172 (dk_at dksX0_areSigns_1 7 rfl rfl)
theorem dX0_areSigns_30 : decode cX0_areSigns 30 = .ok (.iinc 3 1, 3) := dk_132 3 1 (dk_at dksX0_areSigns_1 8 rfl rfl)
theorem dX0_areSigns_33 : decode cX0_areSigns 33 = .ok (.goto (-26), 3) := dk_167 255 230 (dk_at dksX0_areSigns_1 11 rfl rfl)
theorem dX0_areSigns_36 : decode cX0_areSigns 36 = .ok (.iconst 1, 1) := dk_4 (dk_at dksX0_areSigns_1 14 rfl rfl)
theorem dX0_areSigns_37 : decode cX0_areSigns 37 = .ok (.ireturn, 1) := dk_172 (dk_at dksX0_areSigns_1 15 rfl rfl)
abbrev cX0_row : ByteArray := prog_1_method_1_code
def yX0_row : MethodName := ⟨RX0, "row", "([I)[I"⟩
theorem dX0_row_0 : decode cX0_row 0 = .ok (.aload_n 0, 1) := by decide +kernel
theorem dX0_row_1 : decode cX0_row 1 = .ok (.areturn, 1) := by decide +kernel
abbrev cX0_shape : ByteArray := prog_1_method_43_code
def yX0_shape : MethodName := ⟨RX0, "shape", "(I)I"⟩
def dkwX0_shape_3 : List UInt8 := [25, 4, 191]
abbrev dktX0_shape_3 : List UInt8 := dkwX0_shape_3 ++ []
def dkwX0_shape_2 : List UInt8 := [172, 77, 16, 156, 44, 180, 1, 81, 100, 62, 42, 3, 181, 1, 66, 29, 172, 58, 4, 42, 3, 181, 1, 66]
abbrev dktX0_shape_2 : List UInt8 := dkwX0_shape_2 ++ dktX0_shape_3
def dkwX0_shape_1 : List UInt8 := [182, 1, 39, 42, 180, 0, 19, 180, 0, 59, 27, 44, 83, 44, 182, 0, 66, 62, 42, 3, 181, 1, 66, 29]
abbrev dktX0_shape_1 : List UInt8 := dkwX0_shape_1 ++ dktX0_shape_2
def dkwX0_shape_0 : List UInt8 := [27, 3, 5, 184, 0, 3, 154, 0, 5, 2, 172, 187, 1, 73, 89, 42, 183, 1, 75, 182, 1, 76, 77, 42]
abbrev dktX0_shape_0 : List UInt8 := dkwX0_shape_0 ++ dktX0_shape_1
theorem dksX0_shape_0 : cX0_shape.data.toList.drop 0 = dktX0_shape_0 := by decide +kernel
theorem dksX0_shape_1 : cX0_shape.data.toList.drop 24 = dktX0_shape_1 := dk_seg dksX0_shape_0 24 rfl rfl
theorem dksX0_shape_2 : cX0_shape.data.toList.drop 48 = dktX0_shape_2 := dk_seg dksX0_shape_1 24 rfl rfl
theorem dksX0_shape_3 : cX0_shape.data.toList.drop 72 = dktX0_shape_3 := dk_seg dksX0_shape_2 24 rfl rfl
theorem dX0_shape_0 : decode cX0_shape 0 = .ok (.iload_n 1, 1) := dk_27 (dk_at dksX0_shape_0 0 rfl rfl)
theorem dX0_shape_1 : decode cX0_shape 1 = .ok (.iconst 0, 1) := dk_3 (dk_at dksX0_shape_0 1 rfl rfl)
theorem dX0_shape_2 : decode cX0_shape 2 = .ok (.iconst 2, 1) := dk_5 (dk_at dksX0_shape_0 2 rfl rfl)
theorem dX0_shape_3 : decode cX0_shape 3 = .ok (.invokestatic 3, 3) := dk_184 0 3 (dk_at dksX0_shape_0 3 rfl rfl)
theorem dX0_shape_6 : decode cX0_shape 6 = .ok (.ifCond .ne 5, 3) := dk_154 0 5 (dk_at dksX0_shape_0 6 rfl rfl)
theorem dX0_shape_9 : decode cX0_shape 9 = .ok (.iconst (-1), 1) := dk_2 (dk_at dksX0_shape_0 9 rfl rfl)
theorem dX0_shape_10 : decode cX0_shape 10 = .ok (.ireturn, 1) := dk_172 (dk_at dksX0_shape_0 10 rfl rfl)
theorem dX0_shape_11 : decode cX0_shape 11 = .ok (.new 329, 3) := dk_187 1 73 (dk_at dksX0_shape_0 11 rfl rfl)
theorem dX0_shape_14 : decode cX0_shape 14 = .ok (.dup, 1) := dk_89 (dk_at dksX0_shape_0 14 rfl rfl)
theorem dX0_shape_15 : decode cX0_shape 15 = .ok (.aload_n 0, 1) := dk_42 (dk_at dksX0_shape_0 15 rfl rfl)
theorem dX0_shape_16 : decode cX0_shape 16 = .ok (.invokespecial 331, 3) := dk_183 1 75 (dk_at dksX0_shape_0 16 rfl rfl)
theorem dX0_shape_19 : decode cX0_shape 19 = .ok (.invokevirtual 332, 3) := dk_182 1 76 (dk_at dksX0_shape_0 19 rfl rfl)
theorem dX0_shape_22 : decode cX0_shape 22 = .ok (.astore_n 2, 1) := dk_77 (dk_at dksX0_shape_0 22 rfl rfl)
theorem dX0_shape_23 : decode cX0_shape 23 = .ok (.aload_n 0, 1) := dk_42 (dk_at dksX0_shape_0 23 rfl rfl)
theorem dX0_shape_24 : decode cX0_shape 24 = .ok (.invokevirtual 295, 3) := dk_182 1 39 (dk_at dksX0_shape_1 0 rfl rfl)
theorem dX0_shape_27 : decode cX0_shape 27 = .ok (.aload_n 0, 1) := dk_42 (dk_at dksX0_shape_1 3 rfl rfl)
theorem dX0_shape_28 : decode cX0_shape 28 = .ok (.getfield 19, 3) := dk_180 0 19 (dk_at dksX0_shape_1 4 rfl rfl)
theorem dX0_shape_31 : decode cX0_shape 31 = .ok (.getfield 59, 3) := dk_180 0 59 (dk_at dksX0_shape_1 7 rfl rfl)
theorem dX0_shape_34 : decode cX0_shape 34 = .ok (.iload_n 1, 1) := dk_27 (dk_at dksX0_shape_1 10 rfl rfl)
theorem dX0_shape_35 : decode cX0_shape 35 = .ok (.aload_n 2, 1) := dk_44 (dk_at dksX0_shape_1 11 rfl rfl)
theorem dX0_shape_36 : decode cX0_shape 36 = .ok (.aastore, 1) := dk_83 (dk_at dksX0_shape_1 12 rfl rfl)
theorem dX0_shape_37 : decode cX0_shape 37 = .ok (.aload_n 2, 1) := dk_44 (dk_at dksX0_shape_1 13 rfl rfl)
theorem dX0_shape_38 : decode cX0_shape 38 = .ok (.invokevirtual 66, 3) := dk_182 0 66 (dk_at dksX0_shape_1 14 rfl rfl)
theorem dX0_shape_41 : decode cX0_shape 41 = .ok (.istore_n 3, 1) := dk_62 (dk_at dksX0_shape_1 17 rfl rfl)
theorem dX0_shape_42 : decode cX0_shape 42 = .ok (.aload_n 0, 1) := dk_42 (dk_at dksX0_shape_1 18 rfl rfl)
theorem dX0_shape_43 : decode cX0_shape 43 = .ok (.iconst 0, 1) := dk_3 (dk_at dksX0_shape_1 19 rfl rfl)
theorem dX0_shape_44 : decode cX0_shape 44 = .ok (.putfield 322, 3) := dk_181 1 66 (dk_at dksX0_shape_1 20 rfl rfl)
theorem dX0_shape_47 : decode cX0_shape 47 = .ok (.iload_n 3, 1) := dk_29 (dk_at dksX0_shape_1 23 rfl rfl)
theorem dX0_shape_48 : decode cX0_shape 48 = .ok (.ireturn, 1) := dk_172 (dk_at dksX0_shape_2 0 rfl rfl)
theorem dX0_shape_49 : decode cX0_shape 49 = .ok (.astore_n 2, 1) := dk_77 (dk_at dksX0_shape_2 1 rfl rfl)
theorem dX0_shape_50 : decode cX0_shape 50 = .ok (.bipush (-100), 2) := dk_16 156 (dk_at dksX0_shape_2 2 rfl rfl)
theorem dX0_shape_52 : decode cX0_shape 52 = .ok (.aload_n 2, 1) := dk_44 (dk_at dksX0_shape_2 4 rfl rfl)
theorem dX0_shape_53 : decode cX0_shape 53 = .ok (.getfield 337, 3) := dk_180 1 81 (dk_at dksX0_shape_2 5 rfl rfl)
theorem dX0_shape_56 : decode cX0_shape 56 = .ok (.isub, 1) := dk_100 (dk_at dksX0_shape_2 8 rfl rfl)
theorem dX0_shape_57 : decode cX0_shape 57 = .ok (.istore_n 3, 1) := dk_62 (dk_at dksX0_shape_2 9 rfl rfl)
theorem dX0_shape_58 : decode cX0_shape 58 = .ok (.aload_n 0, 1) := dk_42 (dk_at dksX0_shape_2 10 rfl rfl)
theorem dX0_shape_59 : decode cX0_shape 59 = .ok (.iconst 0, 1) := dk_3 (dk_at dksX0_shape_2 11 rfl rfl)
theorem dX0_shape_60 : decode cX0_shape 60 = .ok (.putfield 322, 3) := dk_181 1 66 (dk_at dksX0_shape_2 12 rfl rfl)
theorem dX0_shape_63 : decode cX0_shape 63 = .ok (.iload_n 3, 1) := dk_29 (dk_at dksX0_shape_2 15 rfl rfl)
theorem dX0_shape_64 : decode cX0_shape 64 = .ok (.ireturn, 1) := dk_172 (dk_at dksX0_shape_2 16 rfl rfl)
theorem dX0_shape_65 : decode cX0_shape 65 = .ok (.astore 4, 2) := dk_58 4 (dk_at dksX0_shape_2 17 rfl rfl)
theorem dX0_shape_67 : decode cX0_shape 67 = .ok (.aload_n 0, 1) := dk_42 (dk_at dksX0_shape_2 19 rfl rfl)
theorem dX0_shape_68 : decode cX0_shape 68 = .ok (.iconst 0, 1) := dk_3 (dk_at dksX0_shape_2 20 rfl rfl)
theorem dX0_shape_69 : decode cX0_shape 69 = .ok (.putfield 322, 3) := dk_181 1 66 (dk_at dksX0_shape_2 21 rfl rfl)
theorem dX0_shape_72 : decode cX0_shape 72 = .ok (.aload 4, 2) := dk_25 4 (dk_at dksX0_shape_3 0 rfl rfl)
theorem dX0_shape_74 : decode cX0_shape 74 = .ok (.athrow, 1) := dk_191 (dk_at dksX0_shape_3 2 rfl rfl)
abbrev cX0_choose : ByteArray := prog_1_method_44_code
def yX0_choose : MethodName := ⟨RX0, "choose", "(I)I"⟩
def dkwX0_choose_1 : List UInt8 := [180, 0, 19, 27, 181, 0, 63, 28, 172]
abbrev dktX0_choose_1 : List UInt8 := dkwX0_choose_1 ++ []
def dkwX0_choose_0 : List UInt8 := [27, 3, 5, 184, 0, 3, 154, 0, 5, 2, 172, 42, 182, 1, 39, 42, 180, 0, 19, 180, 0, 63, 61, 42]
abbrev dktX0_choose_0 : List UInt8 := dkwX0_choose_0 ++ dktX0_choose_1
theorem dksX0_choose_0 : cX0_choose.data.toList.drop 0 = dktX0_choose_0 := by decide +kernel
theorem dksX0_choose_1 : cX0_choose.data.toList.drop 24 = dktX0_choose_1 := dk_seg dksX0_choose_0 24 rfl rfl
theorem dX0_choose_0 : decode cX0_choose 0 = .ok (.iload_n 1, 1) := dk_27 (dk_at dksX0_choose_0 0 rfl rfl)
theorem dX0_choose_1 : decode cX0_choose 1 = .ok (.iconst 0, 1) := dk_3 (dk_at dksX0_choose_0 1 rfl rfl)
theorem dX0_choose_2 : decode cX0_choose 2 = .ok (.iconst 2, 1) := dk_5 (dk_at dksX0_choose_0 2 rfl rfl)
theorem dX0_choose_3 : decode cX0_choose 3 = .ok (.invokestatic 3, 3) := dk_184 0 3 (dk_at dksX0_choose_0 3 rfl rfl)
theorem dX0_choose_6 : decode cX0_choose 6 = .ok (.ifCond .ne 5, 3) := dk_154 0 5 (dk_at dksX0_choose_0 6 rfl rfl)
theorem dX0_choose_9 : decode cX0_choose 9 = .ok (.iconst (-1), 1) := dk_2 (dk_at dksX0_choose_0 9 rfl rfl)
theorem dX0_choose_10 : decode cX0_choose 10 = .ok (.ireturn, 1) := dk_172 (dk_at dksX0_choose_0 10 rfl rfl)
theorem dX0_choose_11 : decode cX0_choose 11 = .ok (.aload_n 0, 1) := dk_42 (dk_at dksX0_choose_0 11 rfl rfl)
theorem dX0_choose_12 : decode cX0_choose 12 = .ok (.invokevirtual 295, 3) := dk_182 1 39 (dk_at dksX0_choose_0 12 rfl rfl)
theorem dX0_choose_15 : decode cX0_choose 15 = .ok (.aload_n 0, 1) := dk_42 (dk_at dksX0_choose_0 15 rfl rfl)
theorem dX0_choose_16 : decode cX0_choose 16 = .ok (.getfield 19, 3) := dk_180 0 19 (dk_at dksX0_choose_0 16 rfl rfl)
theorem dX0_choose_19 : decode cX0_choose 19 = .ok (.getfield 63, 3) := dk_180 0 63 (dk_at dksX0_choose_0 19 rfl rfl)
theorem dX0_choose_22 : decode cX0_choose 22 = .ok (.istore_n 2, 1) := dk_61 (dk_at dksX0_choose_0 22 rfl rfl)
theorem dX0_choose_23 : decode cX0_choose 23 = .ok (.aload_n 0, 1) := dk_42 (dk_at dksX0_choose_0 23 rfl rfl)
theorem dX0_choose_24 : decode cX0_choose 24 = .ok (.getfield 19, 3) := dk_180 0 19 (dk_at dksX0_choose_1 0 rfl rfl)
theorem dX0_choose_27 : decode cX0_choose 27 = .ok (.iload_n 1, 1) := dk_27 (dk_at dksX0_choose_1 3 rfl rfl)
theorem dX0_choose_28 : decode cX0_choose 28 = .ok (.putfield 63, 3) := dk_181 0 63 (dk_at dksX0_choose_1 4 rfl rfl)
theorem dX0_choose_31 : decode cX0_choose 31 = .ok (.iload_n 2, 1) := dk_28 (dk_at dksX0_choose_1 7 rfl rfl)
theorem dX0_choose_32 : decode cX0_choose 32 = .ok (.ireturn, 1) := dk_172 (dk_at dksX0_choose_1 8 rfl rfl)
abbrev cX0_rounds : ByteArray := prog_1_method_48_code
def yX0_rounds : MethodName := ⟨RX0, "rounds", "(I)I"⟩
def dkwX0_rounds_1 : List UInt8 := [16, 253, 172, 42, 182, 1, 39, 42, 182, 1, 87, 42, 27, 182, 1, 90, 42, 182, 1, 93, 172]
abbrev dktX0_rounds_1 : List UInt8 := dkwX0_rounds_1 ++ []
def dkwX0_rounds_0 : List UInt8 := [27, 4, 16, 40, 184, 0, 3, 154, 0, 6, 16, 254, 172, 42, 180, 0, 19, 182, 0, 55, 156, 0, 6]
abbrev dktX0_rounds_0 : List UInt8 := dkwX0_rounds_0 ++ dktX0_rounds_1
theorem dksX0_rounds_0 : cX0_rounds.data.toList.drop 0 = dktX0_rounds_0 := by decide +kernel
theorem dksX0_rounds_1 : cX0_rounds.data.toList.drop 23 = dktX0_rounds_1 := dk_seg dksX0_rounds_0 23 rfl rfl
theorem dX0_rounds_0 : decode cX0_rounds 0 = .ok (.iload_n 1, 1) := dk_27 (dk_at dksX0_rounds_0 0 rfl rfl)
theorem dX0_rounds_1 : decode cX0_rounds 1 = .ok (.iconst 1, 1) := dk_4 (dk_at dksX0_rounds_0 1 rfl rfl)
theorem dX0_rounds_2 : decode cX0_rounds 2 = .ok (.bipush 40, 2) := dk_16 40 (dk_at dksX0_rounds_0 2 rfl rfl)
theorem dX0_rounds_4 : decode cX0_rounds 4 = .ok (.invokestatic 3, 3) := dk_184 0 3 (dk_at dksX0_rounds_0 4 rfl rfl)
theorem dX0_rounds_7 : decode cX0_rounds 7 = .ok (.ifCond .ne 6, 3) := dk_154 0 6 (dk_at dksX0_rounds_0 7 rfl rfl)
theorem dX0_rounds_10 : decode cX0_rounds 10 = .ok (.bipush (-2), 2) := dk_16 254 (dk_at dksX0_rounds_0 10 rfl rfl)
theorem dX0_rounds_12 : decode cX0_rounds 12 = .ok (.ireturn, 1) := dk_172 (dk_at dksX0_rounds_0 12 rfl rfl)
theorem dX0_rounds_13 : decode cX0_rounds 13 = .ok (.aload_n 0, 1) := dk_42 (dk_at dksX0_rounds_0 13 rfl rfl)
theorem dX0_rounds_14 : decode cX0_rounds 14 = .ok (.getfield 19, 3) := dk_180 0 19 (dk_at dksX0_rounds_0 14 rfl rfl)
theorem dX0_rounds_17 : decode cX0_rounds 17 = .ok (.invokevirtual 55, 3) := dk_182 0 55 (dk_at dksX0_rounds_0 17 rfl rfl)
theorem dX0_rounds_20 : decode cX0_rounds 20 = .ok (.ifCond .ge 6, 3) := dk_156 0 6 (dk_at dksX0_rounds_0 20 rfl rfl)
theorem dX0_rounds_23 : decode cX0_rounds 23 = .ok (.bipush (-3), 2) := dk_16 253 (dk_at dksX0_rounds_1 0 rfl rfl)
theorem dX0_rounds_25 : decode cX0_rounds 25 = .ok (.ireturn, 1) := dk_172 (dk_at dksX0_rounds_1 2 rfl rfl)
theorem dX0_rounds_26 : decode cX0_rounds 26 = .ok (.aload_n 0, 1) := dk_42 (dk_at dksX0_rounds_1 3 rfl rfl)
theorem dX0_rounds_27 : decode cX0_rounds 27 = .ok (.invokevirtual 295, 3) := dk_182 1 39 (dk_at dksX0_rounds_1 4 rfl rfl)
theorem dX0_rounds_30 : decode cX0_rounds 30 = .ok (.aload_n 0, 1) := dk_42 (dk_at dksX0_rounds_1 7 rfl rfl)
theorem dX0_rounds_31 : decode cX0_rounds 31 = .ok (.invokevirtual 343, 3) := dk_182 1 87 (dk_at dksX0_rounds_1 8 rfl rfl)
theorem dX0_rounds_34 : decode cX0_rounds 34 = .ok (.aload_n 0, 1) := dk_42 (dk_at dksX0_rounds_1 11 rfl rfl)
theorem dX0_rounds_35 : decode cX0_rounds 35 = .ok (.iload_n 1, 1) := dk_27 (dk_at dksX0_rounds_1 12 rfl rfl)
theorem dX0_rounds_36 : decode cX0_rounds 36 = .ok (.invokevirtual 346, 3) := dk_182 1 90 (dk_at dksX0_rounds_1 13 rfl rfl)
theorem dX0_rounds_39 : decode cX0_rounds 39 = .ok (.aload_n 0, 1) := dk_42 (dk_at dksX0_rounds_1 16 rfl rfl)
theorem dX0_rounds_40 : decode cX0_rounds 40 = .ok (.invokevirtual 349, 3) := dk_182 1 93 (dk_at dksX0_rounds_1 17 rfl rfl)
theorem dX0_rounds_43 : decode cX0_rounds 43 = .ok (.ireturn, 1) := dk_172 (dk_at dksX0_rounds_1 20 rfl rfl)
abbrev cX0_notesCells : ByteArray := prog_1_method_45_code
def yX0_notesCells : MethodName := ⟨RX0, "notesCells", "()V"⟩
def dkwX0_notesCells_2 : List UInt8 := [167, 255, 213, 177]
abbrev dktX0_notesCells_2 : List UInt8 := dkwX0_notesCells_2 ++ []
def dkwX0_notesCells_1 : List UInt8 := [199, 0, 7, 2, 167, 0, 15, 42, 180, 0, 19, 180, 0, 80, 27, 50, 180, 0, 49, 79, 132, 1, 1]
abbrev dktX0_notesCells_1 : List UInt8 := dkwX0_notesCells_1 ++ dktX0_notesCells_2
def dkwX0_notesCells_0 : List UInt8 := [3, 60, 27, 16, 10, 162, 0, 43, 42, 180, 1, 10, 27, 42, 180, 0, 19, 180, 0, 80, 27, 50]
abbrev dktX0_notesCells_0 : List UInt8 := dkwX0_notesCells_0 ++ dktX0_notesCells_1
theorem dksX0_notesCells_0 : cX0_notesCells.data.toList.drop 0 = dktX0_notesCells_0 := by decide +kernel
theorem dksX0_notesCells_1 : cX0_notesCells.data.toList.drop 22 = dktX0_notesCells_1 := dk_seg dksX0_notesCells_0 22 rfl rfl
theorem dksX0_notesCells_2 : cX0_notesCells.data.toList.drop 45 = dktX0_notesCells_2 := dk_seg dksX0_notesCells_1 23 rfl rfl
theorem dX0_notesCells_0 : decode cX0_notesCells 0 = .ok (.iconst 0, 1) := dk_3 (dk_at dksX0_notesCells_0 0 rfl rfl)
theorem dX0_notesCells_1 : decode cX0_notesCells 1 = .ok (.istore_n 1, 1) := dk_60 (dk_at dksX0_notesCells_0 1 rfl rfl)
theorem dX0_notesCells_2 : decode cX0_notesCells 2 = .ok (.iload_n 1, 1) := dk_27 (dk_at dksX0_notesCells_0 2 rfl rfl)
theorem dX0_notesCells_3 : decode cX0_notesCells 3 = .ok (.bipush 10, 2) := dk_16 10 (dk_at dksX0_notesCells_0 3 rfl rfl)
theorem dX0_notesCells_5 : decode cX0_notesCells 5 = .ok (.if_icmp .ge 43, 3) := dk_162 0 43 (dk_at dksX0_notesCells_0 5 rfl rfl)
theorem dX0_notesCells_8 : decode cX0_notesCells 8 = .ok (.aload_n 0, 1) := dk_42 (dk_at dksX0_notesCells_0 8 rfl rfl)
theorem dX0_notesCells_9 : decode cX0_notesCells 9 = .ok (.getfield 266, 3) := dk_180 1 10 (dk_at dksX0_notesCells_0 9 rfl rfl)
theorem dX0_notesCells_12 : decode cX0_notesCells 12 = .ok (.iload_n 1, 1) := dk_27 (dk_at dksX0_notesCells_0 12 rfl rfl)
theorem dX0_notesCells_13 : decode cX0_notesCells 13 = .ok (.aload_n 0, 1) := dk_42 (dk_at dksX0_notesCells_0 13 rfl rfl)
theorem dX0_notesCells_14 : decode cX0_notesCells 14 = .ok (.getfield 19, 3) := dk_180 0 19 (dk_at dksX0_notesCells_0 14 rfl rfl)
theorem dX0_notesCells_17 : decode cX0_notesCells 17 = .ok (.getfield 80, 3) := dk_180 0 80 (dk_at dksX0_notesCells_0 17 rfl rfl)
theorem dX0_notesCells_20 : decode cX0_notesCells 20 = .ok (.iload_n 1, 1) := dk_27 (dk_at dksX0_notesCells_0 20 rfl rfl)
theorem dX0_notesCells_21 : decode cX0_notesCells 21 = .ok (.aaload, 1) := dk_50 (dk_at dksX0_notesCells_0 21 rfl rfl)
theorem dX0_notesCells_22 : decode cX0_notesCells 22 = .ok (.ifnonnull 7, 3) := dk_199 0 7 (dk_at dksX0_notesCells_1 0 rfl rfl)
theorem dX0_notesCells_25 : decode cX0_notesCells 25 = .ok (.iconst (-1), 1) := dk_2 (dk_at dksX0_notesCells_1 3 rfl rfl)
theorem dX0_notesCells_26 : decode cX0_notesCells 26 = .ok (.goto 15, 3) := dk_167 0 15 (dk_at dksX0_notesCells_1 4 rfl rfl)
theorem dX0_notesCells_29 : decode cX0_notesCells 29 = .ok (.aload_n 0, 1) := dk_42 (dk_at dksX0_notesCells_1 7 rfl rfl)
theorem dX0_notesCells_30 : decode cX0_notesCells 30 = .ok (.getfield 19, 3) := dk_180 0 19 (dk_at dksX0_notesCells_1 8 rfl rfl)
theorem dX0_notesCells_33 : decode cX0_notesCells 33 = .ok (.getfield 80, 3) := dk_180 0 80 (dk_at dksX0_notesCells_1 11 rfl rfl)
theorem dX0_notesCells_36 : decode cX0_notesCells 36 = .ok (.iload_n 1, 1) := dk_27 (dk_at dksX0_notesCells_1 14 rfl rfl)
theorem dX0_notesCells_37 : decode cX0_notesCells 37 = .ok (.aaload, 1) := dk_50 (dk_at dksX0_notesCells_1 15 rfl rfl)
theorem dX0_notesCells_38 : decode cX0_notesCells 38 = .ok (.getfield 49, 3) := dk_180 0 49 (dk_at dksX0_notesCells_1 16 rfl rfl)
theorem dX0_notesCells_41 : decode cX0_notesCells 41 = .ok (.iastore, 1) := dk_79 (dk_at dksX0_notesCells_1 19 rfl rfl)
theorem dX0_notesCells_42 : decode cX0_notesCells 42 = .ok (.iinc 1 1, 3) := dk_132 1 1 (dk_at dksX0_notesCells_1 20 rfl rfl)
theorem dX0_notesCells_45 : decode cX0_notesCells 45 = .ok (.goto (-43), 3) := dk_167 255 213 (dk_at dksX0_notesCells_2 0 rfl rfl)
theorem dX0_notesCells_48 : decode cX0_notesCells 48 = .ok (.return_, 1) := dk_177 (dk_at dksX0_notesCells_2 3 rfl rfl)
abbrev cX0_makes : ByteArray := prog_1_method_47_code
def yX0_makes : MethodName := ⟨RX0, "makes", "(I)V"⟩
def dkwX0_makes_0 : List UInt8 := [3, 61, 28, 27, 162, 0, 13, 42, 182, 1, 84, 132, 2, 1, 167, 255, 244, 177]
abbrev dktX0_makes_0 : List UInt8 := dkwX0_makes_0 ++ []
theorem dksX0_makes_0 : cX0_makes.data.toList.drop 0 = dktX0_makes_0 := by decide +kernel
theorem dX0_makes_0 : decode cX0_makes 0 = .ok (.iconst 0, 1) := dk_3 (dk_at dksX0_makes_0 0 rfl rfl)
theorem dX0_makes_1 : decode cX0_makes 1 = .ok (.istore_n 2, 1) := dk_61 (dk_at dksX0_makes_0 1 rfl rfl)
theorem dX0_makes_2 : decode cX0_makes 2 = .ok (.iload_n 2, 1) := dk_28 (dk_at dksX0_makes_0 2 rfl rfl)
theorem dX0_makes_3 : decode cX0_makes 3 = .ok (.iload_n 1, 1) := dk_27 (dk_at dksX0_makes_0 3 rfl rfl)
theorem dX0_makes_4 : decode cX0_makes 4 = .ok (.if_icmp .ge 13, 3) := dk_162 0 13 (dk_at dksX0_makes_0 4 rfl rfl)
theorem dX0_makes_7 : decode cX0_makes 7 = .ok (.aload_n 0, 1) := dk_42 (dk_at dksX0_makes_0 7 rfl rfl)
theorem dX0_makes_8 : decode cX0_makes 8 = .ok (.invokevirtual 340, 3) := dk_182 1 84 (dk_at dksX0_makes_0 8 rfl rfl)
theorem dX0_makes_11 : decode cX0_makes 11 = .ok (.iinc 2 1, 3) := dk_132 2 1 (dk_at dksX0_makes_0 11 rfl rfl)
theorem dX0_makes_14 : decode cX0_makes 14 = .ok (.goto (-12), 3) := dk_167 255 244 (dk_at dksX0_makes_0 14 rfl rfl)
theorem dX0_makes_17 : decode cX0_makes 17 = .ok (.return_, 1) := dk_177 (dk_at dksX0_makes_0 17 rfl rfl)
abbrev cX0_round : ByteArray := prog_1_method_29_code
def yX0_round : MethodName := ⟨RX0, "round", "()V"⟩
def dkwX0_round_9 : List UInt8 := [182, 0, 234, 192, 0, 50, 182, 0, 238, 132, 4, 1, 167, 255, 206, 177]
abbrev dktX0_round_9 : List UInt8 := dkwX0_round_9 ++ []
def dkwX0_round_8 : List UInt8 := [180, 0, 215, 21, 4, 182, 0, 234, 192, 0, 50, 182, 0, 116, 158, 0, 19, 42, 42, 180, 0, 215, 21, 4]
abbrev dktX0_round_8 : List UInt8 := dkwX0_round_8 ++ dktX0_round_9
def dkwX0_round_7 : List UInt8 := [182, 0, 232, 87, 167, 255, 234, 3, 54, 4, 21, 4, 42, 180, 0, 215, 182, 0, 233, 162, 0, 44, 42, 42]
abbrev dktX0_round_7 : List UInt8 := dkwX0_round_7 ++ dktX0_round_8
def dkwX0_round_6 : List UInt8 := [180, 0, 215, 182, 0, 219, 45, 182, 0, 224, 154, 0, 21, 42, 180, 0, 215, 45, 182, 0, 228, 192, 0, 50]
abbrev dktX0_round_6 : List UInt8 := dkwX0_round_6 ++ dktX0_round_7
def dkwX0_round_5 : List UInt8 := [25, 7, 182, 0, 116, 158, 0, 10, 45, 25, 7, 182, 0, 211, 87, 132, 6, 1, 167, 255, 199, 42]
abbrev dktX0_round_5 : List UInt8 := dkwX0_round_5 ++ dktX0_round_6
def dkwX0_round_4 : List UInt8 := [199, 0, 6, 167, 0, 35, 42, 25, 7, 27, 182, 0, 208, 25, 7, 180, 0, 109, 27, 159, 0, 19, 42]
abbrev dktX0_round_4 : List UInt8 := dkwX0_round_4 ++ dktX0_round_5
def dkwX0_round_3 : List UInt8 := [25, 4, 190, 54, 5, 3, 54, 6, 21, 6, 21, 5, 162, 0, 56, 25, 4, 21, 6, 50, 58, 7, 25, 7]
abbrev dktX0_round_3 : List UInt8 := dkwX0_round_3 ++ dktX0_round_4
def dkwX0_round_2 : List UInt8 := [187, 0, 199, 89, 16, 10, 42, 180, 0, 201, 183, 0, 205, 78, 42, 180, 0, 19, 180, 0, 80, 58, 4]
abbrev dktX0_round_2 : List UInt8 := dkwX0_round_2 ++ dktX0_round_3
def dkwX0_round_1 : List UInt8 := [180, 0, 19, 180, 0, 80, 27, 50, 77, 44, 42, 44, 182, 0, 196, 181, 0, 170, 42, 182, 0, 120]
abbrev dktX0_round_1 : List UInt8 := dkwX0_round_1 ++ dktX0_round_2
def dkwX0_round_0 : List UInt8 := [42, 180, 0, 19, 180, 0, 141, 3, 92, 46, 4, 96, 79, 42, 180, 0, 19, 182, 0, 55, 60, 42]
abbrev dktX0_round_0 : List UInt8 := dkwX0_round_0 ++ dktX0_round_1
theorem dksX0_round_0 : cX0_round.data.toList.drop 0 = dktX0_round_0 := by decide +kernel
theorem dksX0_round_1 : cX0_round.data.toList.drop 22 = dktX0_round_1 := dk_seg dksX0_round_0 22 rfl rfl
theorem dksX0_round_2 : cX0_round.data.toList.drop 44 = dktX0_round_2 := dk_seg dksX0_round_1 22 rfl rfl
theorem dksX0_round_3 : cX0_round.data.toList.drop 67 = dktX0_round_3 := dk_seg dksX0_round_2 23 rfl rfl
theorem dksX0_round_4 : cX0_round.data.toList.drop 91 = dktX0_round_4 := dk_seg dksX0_round_3 24 rfl rfl
theorem dksX0_round_5 : cX0_round.data.toList.drop 114 = dktX0_round_5 := dk_seg dksX0_round_4 23 rfl rfl
theorem dksX0_round_6 : cX0_round.data.toList.drop 136 = dktX0_round_6 := dk_seg dksX0_round_5 22 rfl rfl
theorem dksX0_round_7 : cX0_round.data.toList.drop 160 = dktX0_round_7 := dk_seg dksX0_round_6 24 rfl rfl
theorem dksX0_round_8 : cX0_round.data.toList.drop 184 = dktX0_round_8 := dk_seg dksX0_round_7 24 rfl rfl
theorem dksX0_round_9 : cX0_round.data.toList.drop 208 = dktX0_round_9 := dk_seg dksX0_round_8 24 rfl rfl
theorem dX0_round_0 : decode cX0_round 0 = .ok (.aload_n 0, 1) := dk_42 (dk_at dksX0_round_0 0 rfl rfl)
theorem dX0_round_1 : decode cX0_round 1 = .ok (.getfield 19, 3) := dk_180 0 19 (dk_at dksX0_round_0 1 rfl rfl)
theorem dX0_round_4 : decode cX0_round 4 = .ok (.getfield 141, 3) := dk_180 0 141 (dk_at dksX0_round_0 4 rfl rfl)
theorem dX0_round_7 : decode cX0_round 7 = .ok (.iconst 0, 1) := dk_3 (dk_at dksX0_round_0 7 rfl rfl)
theorem dX0_round_8 : decode cX0_round 8 = .ok (.dup2, 1) := dk_92 (dk_at dksX0_round_0 8 rfl rfl)
theorem dX0_round_9 : decode cX0_round 9 = .ok (.iaload, 1) := dk_46 (dk_at dksX0_round_0 9 rfl rfl)
theorem dX0_round_10 : decode cX0_round 10 = .ok (.iconst 1, 1) := dk_4 (dk_at dksX0_round_0 10 rfl rfl)
theorem dX0_round_11 : decode cX0_round 11 = .ok (.iadd, 1) := dk_96 (dk_at dksX0_round_0 11 rfl rfl)
theorem dX0_round_12 : decode cX0_round 12 = .ok (.iastore, 1) := dk_79 (dk_at dksX0_round_0 12 rfl rfl)
theorem dX0_round_13 : decode cX0_round 13 = .ok (.aload_n 0, 1) := dk_42 (dk_at dksX0_round_0 13 rfl rfl)
theorem dX0_round_14 : decode cX0_round 14 = .ok (.getfield 19, 3) := dk_180 0 19 (dk_at dksX0_round_0 14 rfl rfl)
theorem dX0_round_17 : decode cX0_round 17 = .ok (.invokevirtual 55, 3) := dk_182 0 55 (dk_at dksX0_round_0 17 rfl rfl)
theorem dX0_round_20 : decode cX0_round 20 = .ok (.istore_n 1, 1) := dk_60 (dk_at dksX0_round_0 20 rfl rfl)
theorem dX0_round_21 : decode cX0_round 21 = .ok (.aload_n 0, 1) := dk_42 (dk_at dksX0_round_0 21 rfl rfl)
theorem dX0_round_22 : decode cX0_round 22 = .ok (.getfield 19, 3) := dk_180 0 19 (dk_at dksX0_round_1 0 rfl rfl)
theorem dX0_round_25 : decode cX0_round 25 = .ok (.getfield 80, 3) := dk_180 0 80 (dk_at dksX0_round_1 3 rfl rfl)
theorem dX0_round_28 : decode cX0_round 28 = .ok (.iload_n 1, 1) := dk_27 (dk_at dksX0_round_1 6 rfl rfl)
theorem dX0_round_29 : decode cX0_round 29 = .ok (.aaload, 1) := dk_50 (dk_at dksX0_round_1 7 rfl rfl)
theorem dX0_round_30 : decode cX0_round 30 = .ok (.astore_n 2, 1) := dk_77 (dk_at dksX0_round_1 8 rfl rfl)
theorem dX0_round_31 : decode cX0_round 31 = .ok (.aload_n 2, 1) := dk_44 (dk_at dksX0_round_1 9 rfl rfl)
theorem dX0_round_32 : decode cX0_round 32 = .ok (.aload_n 0, 1) := dk_42 (dk_at dksX0_round_1 10 rfl rfl)
theorem dX0_round_33 : decode cX0_round 33 = .ok (.aload_n 2, 1) := dk_44 (dk_at dksX0_round_1 11 rfl rfl)
theorem dX0_round_34 : decode cX0_round 34 = .ok (.invokevirtual 196, 3) := dk_182 0 196 (dk_at dksX0_round_1 12 rfl rfl)
theorem dX0_round_37 : decode cX0_round 37 = .ok (.putfield 170, 3) := dk_181 0 170 (dk_at dksX0_round_1 15 rfl rfl)
theorem dX0_round_40 : decode cX0_round 40 = .ok (.aload_n 0, 1) := dk_42 (dk_at dksX0_round_1 18 rfl rfl)
theorem dX0_round_41 : decode cX0_round 41 = .ok (.invokevirtual 120, 3) := dk_182 0 120 (dk_at dksX0_round_1 19 rfl rfl)
theorem dX0_round_44 : decode cX0_round 44 = .ok (.new 199, 3) := dk_187 0 199 (dk_at dksX0_round_2 0 rfl rfl)
theorem dX0_round_47 : decode cX0_round 47 = .ok (.dup, 1) := dk_89 (dk_at dksX0_round_2 3 rfl rfl)
theorem dX0_round_48 : decode cX0_round 48 = .ok (.bipush 10, 2) := dk_16 10 (dk_at dksX0_round_2 4 rfl rfl)
theorem dX0_round_50 : decode cX0_round 50 = .ok (.aload_n 0, 1) := dk_42 (dk_at dksX0_round_2 6 rfl rfl)
theorem dX0_round_51 : decode cX0_round 51 = .ok (.getfield 201, 3) := dk_180 0 201 (dk_at dksX0_round_2 7 rfl rfl)
theorem dX0_round_54 : decode cX0_round 54 = .ok (.invokespecial 205, 3) := dk_183 0 205 (dk_at dksX0_round_2 10 rfl rfl)
theorem dX0_round_57 : decode cX0_round 57 = .ok (.astore_n 3, 1) := dk_78 (dk_at dksX0_round_2 13 rfl rfl)
theorem dX0_round_58 : decode cX0_round 58 = .ok (.aload_n 0, 1) := dk_42 (dk_at dksX0_round_2 14 rfl rfl)
theorem dX0_round_59 : decode cX0_round 59 = .ok (.getfield 19, 3) := dk_180 0 19 (dk_at dksX0_round_2 15 rfl rfl)
theorem dX0_round_62 : decode cX0_round 62 = .ok (.getfield 80, 3) := dk_180 0 80 (dk_at dksX0_round_2 18 rfl rfl)
theorem dX0_round_65 : decode cX0_round 65 = .ok (.astore 4, 2) := dk_58 4 (dk_at dksX0_round_2 21 rfl rfl)
theorem dX0_round_67 : decode cX0_round 67 = .ok (.aload 4, 2) := dk_25 4 (dk_at dksX0_round_3 0 rfl rfl)
theorem dX0_round_69 : decode cX0_round 69 = .ok (.arraylength, 1) := dk_190 (dk_at dksX0_round_3 2 rfl rfl)
theorem dX0_round_70 : decode cX0_round 70 = .ok (.istore 5, 2) := dk_54 5 (dk_at dksX0_round_3 3 rfl rfl)
theorem dX0_round_72 : decode cX0_round 72 = .ok (.iconst 0, 1) := dk_3 (dk_at dksX0_round_3 5 rfl rfl)
theorem dX0_round_73 : decode cX0_round 73 = .ok (.istore 6, 2) := dk_54 6 (dk_at dksX0_round_3 6 rfl rfl)
theorem dX0_round_75 : decode cX0_round 75 = .ok (.iload 6, 2) := dk_21 6 (dk_at dksX0_round_3 8 rfl rfl)
theorem dX0_round_77 : decode cX0_round 77 = .ok (.iload 5, 2) := dk_21 5 (dk_at dksX0_round_3 10 rfl rfl)
theorem dX0_round_79 : decode cX0_round 79 = .ok (.if_icmp .ge 56, 3) := dk_162 0 56 (dk_at dksX0_round_3 12 rfl rfl)
theorem dX0_round_82 : decode cX0_round 82 = .ok (.aload 4, 2) := dk_25 4 (dk_at dksX0_round_3 15 rfl rfl)
theorem dX0_round_84 : decode cX0_round 84 = .ok (.iload 6, 2) := dk_21 6 (dk_at dksX0_round_3 17 rfl rfl)
theorem dX0_round_86 : decode cX0_round 86 = .ok (.aaload, 1) := dk_50 (dk_at dksX0_round_3 19 rfl rfl)
theorem dX0_round_87 : decode cX0_round 87 = .ok (.astore 7, 2) := dk_58 7 (dk_at dksX0_round_3 20 rfl rfl)
theorem dX0_round_89 : decode cX0_round 89 = .ok (.aload 7, 2) := dk_25 7 (dk_at dksX0_round_3 22 rfl rfl)
theorem dX0_round_91 : decode cX0_round 91 = .ok (.ifnonnull 6, 3) := dk_199 0 6 (dk_at dksX0_round_4 0 rfl rfl)
theorem dX0_round_94 : decode cX0_round 94 = .ok (.goto 35, 3) := dk_167 0 35 (dk_at dksX0_round_4 3 rfl rfl)
theorem dX0_round_97 : decode cX0_round 97 = .ok (.aload_n 0, 1) := dk_42 (dk_at dksX0_round_4 6 rfl rfl)
theorem dX0_round_98 : decode cX0_round 98 = .ok (.aload 7, 2) := dk_25 7 (dk_at dksX0_round_4 7 rfl rfl)
theorem dX0_round_100 : decode cX0_round 100 = .ok (.iload_n 1, 1) := dk_27 (dk_at dksX0_round_4 9 rfl rfl)
theorem dX0_round_101 : decode cX0_round 101 = .ok (.invokevirtual 208, 3) := dk_182 0 208 (dk_at dksX0_round_4 10 rfl rfl)
theorem dX0_round_104 : decode cX0_round 104 = .ok (.aload 7, 2) := dk_25 7 (dk_at dksX0_round_4 13 rfl rfl)
theorem dX0_round_106 : decode cX0_round 106 = .ok (.getfield 109, 3) := dk_180 0 109 (dk_at dksX0_round_4 15 rfl rfl)
theorem dX0_round_109 : decode cX0_round 109 = .ok (.iload_n 1, 1) := dk_27 (dk_at dksX0_round_4 18 rfl rfl)
theorem dX0_round_110 : decode cX0_round 110 = .ok (.if_icmp .eq 19, 3) := dk_159 0 19 (dk_at dksX0_round_4 19 rfl rfl)
theorem dX0_round_113 : decode cX0_round 113 = .ok (.aload_n 0, 1) := dk_42 (dk_at dksX0_round_4 22 rfl rfl)
theorem dX0_round_114 : decode cX0_round 114 = .ok (.aload 7, 2) := dk_25 7 (dk_at dksX0_round_5 0 rfl rfl)
theorem dX0_round_116 : decode cX0_round 116 = .ok (.invokevirtual 116, 3) := dk_182 0 116 (dk_at dksX0_round_5 2 rfl rfl)
theorem dX0_round_119 : decode cX0_round 119 = .ok (.ifCond .le 10, 3) := dk_158 0 10 (dk_at dksX0_round_5 5 rfl rfl)
theorem dX0_round_122 : decode cX0_round 122 = .ok (.aload_n 3, 1) := dk_45 (dk_at dksX0_round_5 8 rfl rfl)
theorem dX0_round_123 : decode cX0_round 123 = .ok (.aload 7, 2) := dk_25 7 (dk_at dksX0_round_5 9 rfl rfl)
theorem dX0_round_125 : decode cX0_round 125 = .ok (.invokevirtual 211, 3) := dk_182 0 211 (dk_at dksX0_round_5 11 rfl rfl)
theorem dX0_round_128 : decode cX0_round 128 = .ok (.pop, 1) := dk_87 (dk_at dksX0_round_5 14 rfl rfl)
theorem dX0_round_129 : decode cX0_round 129 = .ok (.iinc 6 1, 3) := dk_132 6 1 (dk_at dksX0_round_5 15 rfl rfl)
theorem dX0_round_132 : decode cX0_round 132 = .ok (.goto (-57), 3) := dk_167 255 199 (dk_at dksX0_round_5 18 rfl rfl)
theorem dX0_round_135 : decode cX0_round 135 = .ok (.aload_n 0, 1) := dk_42 (dk_at dksX0_round_5 21 rfl rfl)
theorem dX0_round_136 : decode cX0_round 136 = .ok (.getfield 215, 3) := dk_180 0 215 (dk_at dksX0_round_6 0 rfl rfl)
theorem dX0_round_139 : decode cX0_round 139 = .ok (.invokevirtual 219, 3) := dk_182 0 219 (dk_at dksX0_round_6 3 rfl rfl)
theorem dX0_round_142 : decode cX0_round 142 = .ok (.aload_n 3, 1) := dk_45 (dk_at dksX0_round_6 6 rfl rfl)
theorem dX0_round_143 : decode cX0_round 143 = .ok (.invokevirtual 224, 3) := dk_182 0 224 (dk_at dksX0_round_6 7 rfl rfl)
theorem dX0_round_146 : decode cX0_round 146 = .ok (.ifCond .ne 21, 3) := dk_154 0 21 (dk_at dksX0_round_6 10 rfl rfl)
theorem dX0_round_149 : decode cX0_round 149 = .ok (.aload_n 0, 1) := dk_42 (dk_at dksX0_round_6 13 rfl rfl)
theorem dX0_round_150 : decode cX0_round 150 = .ok (.getfield 215, 3) := dk_180 0 215 (dk_at dksX0_round_6 14 rfl rfl)
theorem dX0_round_153 : decode cX0_round 153 = .ok (.aload_n 3, 1) := dk_45 (dk_at dksX0_round_6 17 rfl rfl)
theorem dX0_round_154 : decode cX0_round 154 = .ok (.invokevirtual 228, 3) := dk_182 0 228 (dk_at dksX0_round_6 18 rfl rfl)
theorem dX0_round_157 : decode cX0_round 157 = .ok (.checkcast 50, 3) := dk_192 0 50 (dk_at dksX0_round_6 21 rfl rfl)
theorem dX0_round_160 : decode cX0_round 160 = .ok (.invokevirtual 232, 3) := dk_182 0 232 (dk_at dksX0_round_7 0 rfl rfl)
theorem dX0_round_163 : decode cX0_round 163 = .ok (.pop, 1) := dk_87 (dk_at dksX0_round_7 3 rfl rfl)
theorem dX0_round_164 : decode cX0_round 164 = .ok (.goto (-22), 3) := dk_167 255 234 (dk_at dksX0_round_7 4 rfl rfl)
theorem dX0_round_167 : decode cX0_round 167 = .ok (.iconst 0, 1) := dk_3 (dk_at dksX0_round_7 7 rfl rfl)
theorem dX0_round_168 : decode cX0_round 168 = .ok (.istore 4, 2) := dk_54 4 (dk_at dksX0_round_7 8 rfl rfl)
theorem dX0_round_170 : decode cX0_round 170 = .ok (.iload 4, 2) := dk_21 4 (dk_at dksX0_round_7 10 rfl rfl)
theorem dX0_round_172 : decode cX0_round 172 = .ok (.aload_n 0, 1) := dk_42 (dk_at dksX0_round_7 12 rfl rfl)
theorem dX0_round_173 : decode cX0_round 173 = .ok (.getfield 215, 3) := dk_180 0 215 (dk_at dksX0_round_7 13 rfl rfl)
theorem dX0_round_176 : decode cX0_round 176 = .ok (.invokevirtual 233, 3) := dk_182 0 233 (dk_at dksX0_round_7 16 rfl rfl)
theorem dX0_round_179 : decode cX0_round 179 = .ok (.if_icmp .ge 44, 3) := dk_162 0 44 (dk_at dksX0_round_7 19 rfl rfl)
theorem dX0_round_182 : decode cX0_round 182 = .ok (.aload_n 0, 1) := dk_42 (dk_at dksX0_round_7 22 rfl rfl)
theorem dX0_round_183 : decode cX0_round 183 = .ok (.aload_n 0, 1) := dk_42 (dk_at dksX0_round_7 23 rfl rfl)
theorem dX0_round_184 : decode cX0_round 184 = .ok (.getfield 215, 3) := dk_180 0 215 (dk_at dksX0_round_8 0 rfl rfl)
theorem dX0_round_187 : decode cX0_round 187 = .ok (.iload 4, 2) := dk_21 4 (dk_at dksX0_round_8 3 rfl rfl)
theorem dX0_round_189 : decode cX0_round 189 = .ok (.invokevirtual 234, 3) := dk_182 0 234 (dk_at dksX0_round_8 5 rfl rfl)
theorem dX0_round_192 : decode cX0_round 192 = .ok (.checkcast 50, 3) := dk_192 0 50 (dk_at dksX0_round_8 8 rfl rfl)
theorem dX0_round_195 : decode cX0_round 195 = .ok (.invokevirtual 116, 3) := dk_182 0 116 (dk_at dksX0_round_8 11 rfl rfl)
theorem dX0_round_198 : decode cX0_round 198 = .ok (.ifCond .le 19, 3) := dk_158 0 19 (dk_at dksX0_round_8 14 rfl rfl)
theorem dX0_round_201 : decode cX0_round 201 = .ok (.aload_n 0, 1) := dk_42 (dk_at dksX0_round_8 17 rfl rfl)
theorem dX0_round_202 : decode cX0_round 202 = .ok (.aload_n 0, 1) := dk_42 (dk_at dksX0_round_8 18 rfl rfl)
theorem dX0_round_203 : decode cX0_round 203 = .ok (.getfield 215, 3) := dk_180 0 215 (dk_at dksX0_round_8 19 rfl rfl)
theorem dX0_round_206 : decode cX0_round 206 = .ok (.iload 4, 2) := dk_21 4 (dk_at dksX0_round_8 22 rfl rfl)
theorem dX0_round_208 : decode cX0_round 208 = .ok (.invokevirtual 234, 3) := dk_182 0 234 (dk_at dksX0_round_9 0 rfl rfl)
theorem dX0_round_211 : decode cX0_round 211 = .ok (.checkcast 50, 3) := dk_192 0 50 (dk_at dksX0_round_9 3 rfl rfl)
theorem dX0_round_214 : decode cX0_round 214 = .ok (.invokevirtual 238, 3) := dk_182 0 238 (dk_at dksX0_round_9 6 rfl rfl)
theorem dX0_round_217 : decode cX0_round 217 = .ok (.iinc 4 1, 3) := dk_132 4 1 (dk_at dksX0_round_9 9 rfl rfl)
theorem dX0_round_220 : decode cX0_round 220 = .ok (.goto (-50), 3) := dk_167 255 206 (dk_at dksX0_round_9 12 rfl rfl)
theorem dX0_round_223 : decode cX0_round 223 = .ok (.return_, 1) := dk_177 (dk_at dksX0_round_9 15 rfl rfl)
abbrev cX0_leaderActs : ByteArray := prog_1_method_19_code
def yX0_leaderActs : MethodName := ⟨RX0, "leaderActs", "(LSwarmPlanner$Member;)I"⟩
def dkwX0_leaderActs_6 : List UInt8 := [132, 2, 1, 167, 255, 176, 42, 43, 182, 0, 155, 16, 9, 172]
abbrev dktX0_leaderActs_6 : List UInt8 := dkwX0_leaderActs_6 ++ []
def dkwX0_leaderActs_5 : List UInt8 := [167, 0, 30, 42, 43, 29, 182, 0, 153, 42, 180, 0, 19, 180, 0, 141, 4, 92, 46, 4, 96, 79, 3, 172]
abbrev dktX0_leaderActs_5 : List UInt8 := dkwX0_leaderActs_5 ++ dktX0_leaderActs_6
def dkwX0_leaderActs_4 : List UInt8 := [180, 0, 49, 46, 4, 100, 159, 0, 6, 167, 0, 39, 42, 180, 0, 19, 180, 0, 150, 29, 46, 155, 0, 6]
abbrev dktX0_leaderActs_4 : List UInt8 := dkwX0_leaderActs_4 ++ dktX0_leaderActs_5
def dkwX0_leaderActs_3 : List UInt8 := [180, 0, 49, 28, 184, 0, 32, 62, 29, 155, 0, 62, 42, 180, 0, 147, 29, 46, 42, 180, 0, 147, 43]
abbrev dktX0_leaderActs_3 : List UInt8 := dkwX0_leaderActs_3 ++ dktX0_leaderActs_4
def dkwX0_leaderActs_2 : List UInt8 := [180, 0, 147, 43, 180, 0, 49, 46, 18, 18, 160, 0, 6, 16, 8, 172, 3, 61, 28, 7, 162, 0, 81, 43]
abbrev dktX0_leaderActs_2 : List UInt8 := dkwX0_leaderActs_2 ++ dktX0_leaderActs_3
def dkwX0_leaderActs_1 : List UInt8 := [160, 0, 6, 16, 7, 172, 42, 42, 180, 0, 19, 180, 0, 144, 42, 180, 0, 147, 182, 0, 90, 42]
abbrev dktX0_leaderActs_1 : List UInt8 := dkwX0_leaderActs_1 ++ dktX0_leaderActs_2
def dkwX0_leaderActs_0 : List UInt8 := [42, 180, 0, 19, 180, 0, 144, 156, 0, 6, 16, 6, 172, 43, 180, 0, 49, 42, 180, 0, 19, 180, 0, 144]
abbrev dktX0_leaderActs_0 : List UInt8 := dkwX0_leaderActs_0 ++ dktX0_leaderActs_1
theorem dksX0_leaderActs_0 : cX0_leaderActs.data.toList.drop 0 = dktX0_leaderActs_0 := by decide +kernel
theorem dksX0_leaderActs_1 : cX0_leaderActs.data.toList.drop 24 = dktX0_leaderActs_1 := dk_seg dksX0_leaderActs_0 24 rfl rfl
theorem dksX0_leaderActs_2 : cX0_leaderActs.data.toList.drop 46 = dktX0_leaderActs_2 := dk_seg dksX0_leaderActs_1 22 rfl rfl
theorem dksX0_leaderActs_3 : cX0_leaderActs.data.toList.drop 70 = dktX0_leaderActs_3 := dk_seg dksX0_leaderActs_2 24 rfl rfl
theorem dksX0_leaderActs_4 : cX0_leaderActs.data.toList.drop 93 = dktX0_leaderActs_4 := dk_seg dksX0_leaderActs_3 23 rfl rfl
theorem dksX0_leaderActs_5 : cX0_leaderActs.data.toList.drop 117 = dktX0_leaderActs_5 := dk_seg dksX0_leaderActs_4 24 rfl rfl
theorem dksX0_leaderActs_6 : cX0_leaderActs.data.toList.drop 141 = dktX0_leaderActs_6 := dk_seg dksX0_leaderActs_5 24 rfl rfl
theorem dX0_leaderActs_0 : decode cX0_leaderActs 0 = .ok (.aload_n 0, 1) := dk_42 (dk_at dksX0_leaderActs_0 0 rfl rfl)
theorem dX0_leaderActs_1 : decode cX0_leaderActs 1 = .ok (.getfield 19, 3) := dk_180 0 19 (dk_at dksX0_leaderActs_0 1 rfl rfl)
theorem dX0_leaderActs_4 : decode cX0_leaderActs 4 = .ok (.getfield 144, 3) := dk_180 0 144 (dk_at dksX0_leaderActs_0 4 rfl rfl)
theorem dX0_leaderActs_7 : decode cX0_leaderActs 7 = .ok (.ifCond .ge 6, 3) := dk_156 0 6 (dk_at dksX0_leaderActs_0 7 rfl rfl)
theorem dX0_leaderActs_10 : decode cX0_leaderActs 10 = .ok (.bipush 6, 2) := dk_16 6 (dk_at dksX0_leaderActs_0 10 rfl rfl)
theorem dX0_leaderActs_12 : decode cX0_leaderActs 12 = .ok (.ireturn, 1) := dk_172 (dk_at dksX0_leaderActs_0 12 rfl rfl)
theorem dX0_leaderActs_13 : decode cX0_leaderActs 13 = .ok (.aload_n 1, 1) := dk_43 (dk_at dksX0_leaderActs_0 13 rfl rfl)
theorem dX0_leaderActs_14 : decode cX0_leaderActs 14 = .ok (.getfield 49, 3) := dk_180 0 49 (dk_at dksX0_leaderActs_0 14 rfl rfl)
theorem dX0_leaderActs_17 : decode cX0_leaderActs 17 = .ok (.aload_n 0, 1) := dk_42 (dk_at dksX0_leaderActs_0 17 rfl rfl)
theorem dX0_leaderActs_18 : decode cX0_leaderActs 18 = .ok (.getfield 19, 3) := dk_180 0 19 (dk_at dksX0_leaderActs_0 18 rfl rfl)
theorem dX0_leaderActs_21 : decode cX0_leaderActs 21 = .ok (.getfield 144, 3) := dk_180 0 144 (dk_at dksX0_leaderActs_0 21 rfl rfl)
theorem dX0_leaderActs_24 : decode cX0_leaderActs 24 = .ok (.if_icmp .ne 6, 3) := dk_160 0 6 (dk_at dksX0_leaderActs_1 0 rfl rfl)
theorem dX0_leaderActs_27 : decode cX0_leaderActs 27 = .ok (.bipush 7, 2) := dk_16 7 (dk_at dksX0_leaderActs_1 3 rfl rfl)
theorem dX0_leaderActs_29 : decode cX0_leaderActs 29 = .ok (.ireturn, 1) := dk_172 (dk_at dksX0_leaderActs_1 5 rfl rfl)
theorem dX0_leaderActs_30 : decode cX0_leaderActs 30 = .ok (.aload_n 0, 1) := dk_42 (dk_at dksX0_leaderActs_1 6 rfl rfl)
theorem dX0_leaderActs_31 : decode cX0_leaderActs 31 = .ok (.aload_n 0, 1) := dk_42 (dk_at dksX0_leaderActs_1 7 rfl rfl)
theorem dX0_leaderActs_32 : decode cX0_leaderActs 32 = .ok (.getfield 19, 3) := dk_180 0 19 (dk_at dksX0_leaderActs_1 8 rfl rfl)
theorem dX0_leaderActs_35 : decode cX0_leaderActs 35 = .ok (.getfield 144, 3) := dk_180 0 144 (dk_at dksX0_leaderActs_1 11 rfl rfl)
theorem dX0_leaderActs_38 : decode cX0_leaderActs 38 = .ok (.aload_n 0, 1) := dk_42 (dk_at dksX0_leaderActs_1 14 rfl rfl)
theorem dX0_leaderActs_39 : decode cX0_leaderActs 39 = .ok (.getfield 147, 3) := dk_180 0 147 (dk_at dksX0_leaderActs_1 15 rfl rfl)
theorem dX0_leaderActs_42 : decode cX0_leaderActs 42 = .ok (.invokevirtual 90, 3) := dk_182 0 90 (dk_at dksX0_leaderActs_1 18 rfl rfl)
theorem dX0_leaderActs_45 : decode cX0_leaderActs 45 = .ok (.aload_n 0, 1) := dk_42 (dk_at dksX0_leaderActs_1 21 rfl rfl)
theorem dX0_leaderActs_46 : decode cX0_leaderActs 46 = .ok (.getfield 147, 3) := dk_180 0 147 (dk_at dksX0_leaderActs_2 0 rfl rfl)
theorem dX0_leaderActs_49 : decode cX0_leaderActs 49 = .ok (.aload_n 1, 1) := dk_43 (dk_at dksX0_leaderActs_2 3 rfl rfl)
theorem dX0_leaderActs_50 : decode cX0_leaderActs 50 = .ok (.getfield 49, 3) := dk_180 0 49 (dk_at dksX0_leaderActs_2 4 rfl rfl)
theorem dX0_leaderActs_53 : decode cX0_leaderActs 53 = .ok (.iaload, 1) := dk_46 (dk_at dksX0_leaderActs_2 7 rfl rfl)
theorem dX0_leaderActs_54 : decode cX0_leaderActs 54 = .ok (.ldc 18, 2) := dk_18 18 (dk_at dksX0_leaderActs_2 8 rfl rfl)
theorem dX0_leaderActs_56 : decode cX0_leaderActs 56 = .ok (.if_icmp .ne 6, 3) := dk_160 0 6 (dk_at dksX0_leaderActs_2 10 rfl rfl)
theorem dX0_leaderActs_59 : decode cX0_leaderActs 59 = .ok (.bipush 8, 2) := dk_16 8 (dk_at dksX0_leaderActs_2 13 rfl rfl)
theorem dX0_leaderActs_61 : decode cX0_leaderActs 61 = .ok (.ireturn, 1) := dk_172 (dk_at dksX0_leaderActs_2 15 rfl rfl)
theorem dX0_leaderActs_62 : decode cX0_leaderActs 62 = .ok (.iconst 0, 1) := dk_3 (dk_at dksX0_leaderActs_2 16 rfl rfl)
theorem dX0_leaderActs_63 : decode cX0_leaderActs 63 = .ok (.istore_n 2, 1) := dk_61 (dk_at dksX0_leaderActs_2 17 rfl rfl)
theorem dX0_leaderActs_64 : decode cX0_leaderActs 64 = .ok (.iload_n 2, 1) := dk_28 (dk_at dksX0_leaderActs_2 18 rfl rfl)
theorem dX0_leaderActs_65 : decode cX0_leaderActs 65 = .ok (.iconst 4, 1) := dk_7 (dk_at dksX0_leaderActs_2 19 rfl rfl)
theorem dX0_leaderActs_66 : decode cX0_leaderActs 66 = .ok (.if_icmp .ge 81, 3) := dk_162 0 81 (dk_at dksX0_leaderActs_2 20 rfl rfl)
theorem dX0_leaderActs_69 : decode cX0_leaderActs 69 = .ok (.aload_n 1, 1) := dk_43 (dk_at dksX0_leaderActs_2 23 rfl rfl)
theorem dX0_leaderActs_70 : decode cX0_leaderActs 70 = .ok (.getfield 49, 3) := dk_180 0 49 (dk_at dksX0_leaderActs_3 0 rfl rfl)
theorem dX0_leaderActs_73 : decode cX0_leaderActs 73 = .ok (.iload_n 2, 1) := dk_28 (dk_at dksX0_leaderActs_3 3 rfl rfl)
theorem dX0_leaderActs_74 : decode cX0_leaderActs 74 = .ok (.invokestatic 32, 3) := dk_184 0 32 (dk_at dksX0_leaderActs_3 4 rfl rfl)
theorem dX0_leaderActs_77 : decode cX0_leaderActs 77 = .ok (.istore_n 3, 1) := dk_62 (dk_at dksX0_leaderActs_3 7 rfl rfl)
theorem dX0_leaderActs_78 : decode cX0_leaderActs 78 = .ok (.iload_n 3, 1) := dk_29 (dk_at dksX0_leaderActs_3 8 rfl rfl)
theorem dX0_leaderActs_79 : decode cX0_leaderActs 79 = .ok (.ifCond .lt 62, 3) := dk_155 0 62 (dk_at dksX0_leaderActs_3 9 rfl rfl)
theorem dX0_leaderActs_82 : decode cX0_leaderActs 82 = .ok (.aload_n 0, 1) := dk_42 (dk_at dksX0_leaderActs_3 12 rfl rfl)
theorem dX0_leaderActs_83 : decode cX0_leaderActs 83 = .ok (.getfield 147, 3) := dk_180 0 147 (dk_at dksX0_leaderActs_3 13 rfl rfl)
theorem dX0_leaderActs_86 : decode cX0_leaderActs 86 = .ok (.iload_n 3, 1) := dk_29 (dk_at dksX0_leaderActs_3 16 rfl rfl)
theorem dX0_leaderActs_87 : decode cX0_leaderActs 87 = .ok (.iaload, 1) := dk_46 (dk_at dksX0_leaderActs_3 17 rfl rfl)
theorem dX0_leaderActs_88 : decode cX0_leaderActs 88 = .ok (.aload_n 0, 1) := dk_42 (dk_at dksX0_leaderActs_3 18 rfl rfl)
theorem dX0_leaderActs_89 : decode cX0_leaderActs 89 = .ok (.getfield 147, 3) := dk_180 0 147 (dk_at dksX0_leaderActs_3 19 rfl rfl)
theorem dX0_leaderActs_92 : decode cX0_leaderActs 92 = .ok (.aload_n 1, 1) := dk_43 (dk_at dksX0_leaderActs_3 22 rfl rfl)
theorem dX0_leaderActs_93 : decode cX0_leaderActs 93 = .ok (.getfield 49, 3) := dk_180 0 49 (dk_at dksX0_leaderActs_4 0 rfl rfl)
theorem dX0_leaderActs_96 : decode cX0_leaderActs 96 = .ok (.iaload, 1) := dk_46 (dk_at dksX0_leaderActs_4 3 rfl rfl)
theorem dX0_leaderActs_97 : decode cX0_leaderActs 97 = .ok (.iconst 1, 1) := dk_4 (dk_at dksX0_leaderActs_4 4 rfl rfl)
theorem dX0_leaderActs_98 : decode cX0_leaderActs 98 = .ok (.isub, 1) := dk_100 (dk_at dksX0_leaderActs_4 5 rfl rfl)
theorem dX0_leaderActs_99 : decode cX0_leaderActs 99 = .ok (.if_icmp .eq 6, 3) := dk_159 0 6 (dk_at dksX0_leaderActs_4 6 rfl rfl)
theorem dX0_leaderActs_102 : decode cX0_leaderActs 102 = .ok (.goto 39, 3) := dk_167 0 39 (dk_at dksX0_leaderActs_4 9 rfl rfl)
theorem dX0_leaderActs_105 : decode cX0_leaderActs 105 = .ok (.aload_n 0, 1) := dk_42 (dk_at dksX0_leaderActs_4 12 rfl rfl)
theorem dX0_leaderActs_106 : decode cX0_leaderActs 106 = .ok (.getfield 19, 3) := dk_180 0 19 (dk_at dksX0_leaderActs_4 13 rfl rfl)
theorem dX0_leaderActs_109 : decode cX0_leaderActs 109 = .ok (.getfield 150, 3) := dk_180 0 150 (dk_at dksX0_leaderActs_4 16 rfl rfl)
theorem dX0_leaderActs_112 : decode cX0_leaderActs 112 = .ok (.iload_n 3, 1) := dk_29 (dk_at dksX0_leaderActs_4 19 rfl rfl)
theorem dX0_leaderActs_113 : decode cX0_leaderActs 113 = .ok (.iaload, 1) := dk_46 (dk_at dksX0_leaderActs_4 20 rfl rfl)
theorem dX0_leaderActs_114 : decode cX0_leaderActs 114 = .ok (.ifCond .lt 6, 3) := dk_155 0 6 (dk_at dksX0_leaderActs_4 21 rfl rfl)
theorem dX0_leaderActs_117 : decode cX0_leaderActs 117 = .ok (.goto 30, 3) := dk_167 0 30 (dk_at dksX0_leaderActs_5 0 rfl rfl)
theorem dX0_leaderActs_120 : decode cX0_leaderActs 120 = .ok (.aload_n 0, 1) := dk_42 (dk_at dksX0_leaderActs_5 3 rfl rfl)
theorem dX0_leaderActs_121 : decode cX0_leaderActs 121 = .ok (.aload_n 1, 1) := dk_43 (dk_at dksX0_leaderActs_5 4 rfl rfl)
theorem dX0_leaderActs_122 : decode cX0_leaderActs 122 = .ok (.iload_n 3, 1) := dk_29 (dk_at dksX0_leaderActs_5 5 rfl rfl)
theorem dX0_leaderActs_123 : decode cX0_leaderActs 123 = .ok (.invokevirtual 153, 3) := dk_182 0 153 (dk_at dksX0_leaderActs_5 6 rfl rfl)
theorem dX0_leaderActs_126 : decode cX0_leaderActs 126 = .ok (.aload_n 0, 1) := dk_42 (dk_at dksX0_leaderActs_5 9 rfl rfl)
theorem dX0_leaderActs_127 : decode cX0_leaderActs 127 = .ok (.getfield 19, 3) := dk_180 0 19 (dk_at dksX0_leaderActs_5 10 rfl rfl)
theorem dX0_leaderActs_130 : decode cX0_leaderActs 130 = .ok (.getfield 141, 3) := dk_180 0 141 (dk_at dksX0_leaderActs_5 13 rfl rfl)
theorem dX0_leaderActs_133 : decode cX0_leaderActs 133 = .ok (.iconst 1, 1) := dk_4 (dk_at dksX0_leaderActs_5 16 rfl rfl)
theorem dX0_leaderActs_134 : decode cX0_leaderActs 134 = .ok (.dup2, 1) := dk_92 (dk_at dksX0_leaderActs_5 17 rfl rfl)
theorem dX0_leaderActs_135 : decode cX0_leaderActs 135 = .ok (.iaload, 1) := dk_46 (dk_at dksX0_leaderActs_5 18 rfl rfl)
theorem dX0_leaderActs_136 : decode cX0_leaderActs 136 = .ok (.iconst 1, 1) := dk_4 (dk_at dksX0_leaderActs_5 19 rfl rfl)
theorem dX0_leaderActs_137 : decode cX0_leaderActs 137 = .ok (.iadd, 1) := dk_96 (dk_at dksX0_leaderActs_5 20 rfl rfl)
theorem dX0_leaderActs_138 : decode cX0_leaderActs 138 = .ok (.iastore, 1) := dk_79 (dk_at dksX0_leaderActs_5 21 rfl rfl)
theorem dX0_leaderActs_139 : decode cX0_leaderActs 139 = .ok (.iconst 0, 1) := dk_3 (dk_at dksX0_leaderActs_5 22 rfl rfl)
theorem dX0_leaderActs_140 : decode cX0_leaderActs 140 = .ok (.ireturn, 1) := dk_172 (dk_at dksX0_leaderActs_5 23 rfl rfl)
theorem dX0_leaderActs_141 : decode cX0_leaderActs 141 = .ok (.iinc 2 1, 3) := dk_132 2 1 (dk_at dksX0_leaderActs_6 0 rfl rfl)
theorem dX0_leaderActs_144 : decode cX0_leaderActs 144 = .ok (.goto (-80), 3) := dk_167 255 176 (dk_at dksX0_leaderActs_6 3 rfl rfl)
theorem dX0_leaderActs_147 : decode cX0_leaderActs 147 = .ok (.aload_n 0, 1) := dk_42 (dk_at dksX0_leaderActs_6 6 rfl rfl)
theorem dX0_leaderActs_148 : decode cX0_leaderActs 148 = .ok (.aload_n 1, 1) := dk_43 (dk_at dksX0_leaderActs_6 7 rfl rfl)
theorem dX0_leaderActs_149 : decode cX0_leaderActs 149 = .ok (.invokevirtual 155, 3) := dk_182 0 155 (dk_at dksX0_leaderActs_6 8 rfl rfl)
theorem dX0_leaderActs_152 : decode cX0_leaderActs 152 = .ok (.bipush 9, 2) := dk_16 9 (dk_at dksX0_leaderActs_6 11 rfl rfl)
theorem dX0_leaderActs_154 : decode cX0_leaderActs 154 = .ok (.ireturn, 1) := dk_172 (dk_at dksX0_leaderActs_6 13 rfl rfl)
abbrev cX0_lays : ByteArray := prog_1_method_7_code
def yX0_lays : MethodName := ⟨RX0, "lays", "(I[I)V"⟩
def dkwX0_lays_6 : List UInt8 := [167, 255, 165, 177]
abbrev dktX0_lays_6 : List UInt8 := dkwX0_lays_6 ++ []
def dkwX0_lays_5 : List UInt8 := [4, 96, 79, 42, 180, 0, 29, 29, 21, 6, 79, 132, 3, 1, 132, 5, 1, 167, 255, 180, 132, 4, 1]
abbrev dktX0_lays_5 : List UInt8 := dkwX0_lays_5 ++ dktX0_lays_6
def dkwX0_lays_4 : List UInt8 := [154, 0, 38, 44, 21, 6, 46, 18, 18, 160, 0, 29, 44, 21, 6, 44, 42, 180, 0, 29, 21, 4, 46, 46]
abbrev dktX0_lays_4 : List UInt8 := dkwX0_lays_4 ++ dktX0_lays_5
def dkwX0_lays_3 : List UInt8 := [21, 5, 184, 0, 32, 54, 6, 21, 6, 155, 0, 51, 42, 180, 0, 19, 180, 0, 23, 21, 6, 51]
abbrev dktX0_lays_3 : List UInt8 := dkwX0_lays_3 ++ dktX0_lays_4
def dkwX0_lays_2 : List UInt8 := [54, 4, 21, 4, 29, 162, 0, 91, 3, 54, 5, 21, 5, 7, 162, 0, 76, 42, 180, 0, 29, 21, 4, 46]
abbrev dktX0_lays_2 : List UInt8 := dkwX0_lays_2 ++ dktX0_lays_3
def dkwX0_lays_1 : List UInt8 := [180, 0, 23, 27, 51, 153, 0, 4, 177, 44, 27, 3, 79, 42, 180, 0, 29, 3, 27, 79, 4, 62, 3]
abbrev dktX0_lays_1 : List UInt8 := dkwX0_lays_1 ++ dktX0_lays_2
def dkwX0_lays_0 : List UInt8 := [3, 62, 29, 16, 120, 162, 0, 14, 44, 29, 18, 18, 79, 132, 3, 1, 167, 255, 242, 42, 180, 0, 19]
abbrev dktX0_lays_0 : List UInt8 := dkwX0_lays_0 ++ dktX0_lays_1
theorem dksX0_lays_0 : cX0_lays.data.toList.drop 0 = dktX0_lays_0 := by decide +kernel
theorem dksX0_lays_1 : cX0_lays.data.toList.drop 23 = dktX0_lays_1 := dk_seg dksX0_lays_0 23 rfl rfl
theorem dksX0_lays_2 : cX0_lays.data.toList.drop 46 = dktX0_lays_2 := dk_seg dksX0_lays_1 23 rfl rfl
theorem dksX0_lays_3 : cX0_lays.data.toList.drop 70 = dktX0_lays_3 := dk_seg dksX0_lays_2 24 rfl rfl
theorem dksX0_lays_4 : cX0_lays.data.toList.drop 92 = dktX0_lays_4 := dk_seg dksX0_lays_3 22 rfl rfl
theorem dksX0_lays_5 : cX0_lays.data.toList.drop 116 = dktX0_lays_5 := dk_seg dksX0_lays_4 24 rfl rfl
theorem dksX0_lays_6 : cX0_lays.data.toList.drop 139 = dktX0_lays_6 := dk_seg dksX0_lays_5 23 rfl rfl
theorem dX0_lays_0 : decode cX0_lays 0 = .ok (.iconst 0, 1) := dk_3 (dk_at dksX0_lays_0 0 rfl rfl)
theorem dX0_lays_1 : decode cX0_lays 1 = .ok (.istore_n 3, 1) := dk_62 (dk_at dksX0_lays_0 1 rfl rfl)
theorem dX0_lays_2 : decode cX0_lays 2 = .ok (.iload_n 3, 1) := dk_29 (dk_at dksX0_lays_0 2 rfl rfl)
theorem dX0_lays_3 : decode cX0_lays 3 = .ok (.bipush 120, 2) := dk_16 120 (dk_at dksX0_lays_0 3 rfl rfl)
theorem dX0_lays_5 : decode cX0_lays 5 = .ok (.if_icmp .ge 14, 3) := dk_162 0 14 (dk_at dksX0_lays_0 5 rfl rfl)
theorem dX0_lays_8 : decode cX0_lays 8 = .ok (.aload_n 2, 1) := dk_44 (dk_at dksX0_lays_0 8 rfl rfl)
theorem dX0_lays_9 : decode cX0_lays 9 = .ok (.iload_n 3, 1) := dk_29 (dk_at dksX0_lays_0 9 rfl rfl)
theorem dX0_lays_10 : decode cX0_lays 10 = .ok (.ldc 18, 2) := dk_18 18 (dk_at dksX0_lays_0 10 rfl rfl)
theorem dX0_lays_12 : decode cX0_lays 12 = .ok (.iastore, 1) := dk_79 (dk_at dksX0_lays_0 12 rfl rfl)
theorem dX0_lays_13 : decode cX0_lays 13 = .ok (.iinc 3 1, 3) := dk_132 3 1 (dk_at dksX0_lays_0 13 rfl rfl)
theorem dX0_lays_16 : decode cX0_lays 16 = .ok (.goto (-14), 3) := dk_167 255 242 (dk_at dksX0_lays_0 16 rfl rfl)
theorem dX0_lays_19 : decode cX0_lays 19 = .ok (.aload_n 0, 1) := dk_42 (dk_at dksX0_lays_0 19 rfl rfl)
theorem dX0_lays_20 : decode cX0_lays 20 = .ok (.getfield 19, 3) := dk_180 0 19 (dk_at dksX0_lays_0 20 rfl rfl)
theorem dX0_lays_23 : decode cX0_lays 23 = .ok (.getfield 23, 3) := dk_180 0 23 (dk_at dksX0_lays_1 0 rfl rfl)
theorem dX0_lays_26 : decode cX0_lays 26 = .ok (.iload_n 1, 1) := dk_27 (dk_at dksX0_lays_1 3 rfl rfl)
theorem dX0_lays_27 : decode cX0_lays 27 = .ok (.baload, 1) := dk_51 (dk_at dksX0_lays_1 4 rfl rfl)
theorem dX0_lays_28 : decode cX0_lays 28 = .ok (.ifCond .eq 4, 3) := dk_153 0 4 (dk_at dksX0_lays_1 5 rfl rfl)
theorem dX0_lays_31 : decode cX0_lays 31 = .ok (.return_, 1) := dk_177 (dk_at dksX0_lays_1 8 rfl rfl)
theorem dX0_lays_32 : decode cX0_lays 32 = .ok (.aload_n 2, 1) := dk_44 (dk_at dksX0_lays_1 9 rfl rfl)
theorem dX0_lays_33 : decode cX0_lays 33 = .ok (.iload_n 1, 1) := dk_27 (dk_at dksX0_lays_1 10 rfl rfl)
theorem dX0_lays_34 : decode cX0_lays 34 = .ok (.iconst 0, 1) := dk_3 (dk_at dksX0_lays_1 11 rfl rfl)
theorem dX0_lays_35 : decode cX0_lays 35 = .ok (.iastore, 1) := dk_79 (dk_at dksX0_lays_1 12 rfl rfl)
theorem dX0_lays_36 : decode cX0_lays 36 = .ok (.aload_n 0, 1) := dk_42 (dk_at dksX0_lays_1 13 rfl rfl)
theorem dX0_lays_37 : decode cX0_lays 37 = .ok (.getfield 29, 3) := dk_180 0 29 (dk_at dksX0_lays_1 14 rfl rfl)
theorem dX0_lays_40 : decode cX0_lays 40 = .ok (.iconst 0, 1) := dk_3 (dk_at dksX0_lays_1 17 rfl rfl)
theorem dX0_lays_41 : decode cX0_lays 41 = .ok (.iload_n 1, 1) := dk_27 (dk_at dksX0_lays_1 18 rfl rfl)
theorem dX0_lays_42 : decode cX0_lays 42 = .ok (.iastore, 1) := dk_79 (dk_at dksX0_lays_1 19 rfl rfl)
theorem dX0_lays_43 : decode cX0_lays 43 = .ok (.iconst 1, 1) := dk_4 (dk_at dksX0_lays_1 20 rfl rfl)
theorem dX0_lays_44 : decode cX0_lays 44 = .ok (.istore_n 3, 1) := dk_62 (dk_at dksX0_lays_1 21 rfl rfl)
theorem dX0_lays_45 : decode cX0_lays 45 = .ok (.iconst 0, 1) := dk_3 (dk_at dksX0_lays_1 22 rfl rfl)
theorem dX0_lays_46 : decode cX0_lays 46 = .ok (.istore 4, 2) := dk_54 4 (dk_at dksX0_lays_2 0 rfl rfl)
theorem dX0_lays_48 : decode cX0_lays 48 = .ok (.iload 4, 2) := dk_21 4 (dk_at dksX0_lays_2 2 rfl rfl)
theorem dX0_lays_50 : decode cX0_lays 50 = .ok (.iload_n 3, 1) := dk_29 (dk_at dksX0_lays_2 4 rfl rfl)
theorem dX0_lays_51 : decode cX0_lays 51 = .ok (.if_icmp .ge 91, 3) := dk_162 0 91 (dk_at dksX0_lays_2 5 rfl rfl)
theorem dX0_lays_54 : decode cX0_lays 54 = .ok (.iconst 0, 1) := dk_3 (dk_at dksX0_lays_2 8 rfl rfl)
theorem dX0_lays_55 : decode cX0_lays 55 = .ok (.istore 5, 2) := dk_54 5 (dk_at dksX0_lays_2 9 rfl rfl)
theorem dX0_lays_57 : decode cX0_lays 57 = .ok (.iload 5, 2) := dk_21 5 (dk_at dksX0_lays_2 11 rfl rfl)
theorem dX0_lays_59 : decode cX0_lays 59 = .ok (.iconst 4, 1) := dk_7 (dk_at dksX0_lays_2 13 rfl rfl)
theorem dX0_lays_60 : decode cX0_lays 60 = .ok (.if_icmp .ge 76, 3) := dk_162 0 76 (dk_at dksX0_lays_2 14 rfl rfl)
theorem dX0_lays_63 : decode cX0_lays 63 = .ok (.aload_n 0, 1) := dk_42 (dk_at dksX0_lays_2 17 rfl rfl)
theorem dX0_lays_64 : decode cX0_lays 64 = .ok (.getfield 29, 3) := dk_180 0 29 (dk_at dksX0_lays_2 18 rfl rfl)
theorem dX0_lays_67 : decode cX0_lays 67 = .ok (.iload 4, 2) := dk_21 4 (dk_at dksX0_lays_2 21 rfl rfl)
theorem dX0_lays_69 : decode cX0_lays 69 = .ok (.iaload, 1) := dk_46 (dk_at dksX0_lays_2 23 rfl rfl)
theorem dX0_lays_70 : decode cX0_lays 70 = .ok (.iload 5, 2) := dk_21 5 (dk_at dksX0_lays_3 0 rfl rfl)
theorem dX0_lays_72 : decode cX0_lays 72 = .ok (.invokestatic 32, 3) := dk_184 0 32 (dk_at dksX0_lays_3 2 rfl rfl)
theorem dX0_lays_75 : decode cX0_lays 75 = .ok (.istore 6, 2) := dk_54 6 (dk_at dksX0_lays_3 5 rfl rfl)
theorem dX0_lays_77 : decode cX0_lays 77 = .ok (.iload 6, 2) := dk_21 6 (dk_at dksX0_lays_3 7 rfl rfl)
theorem dX0_lays_79 : decode cX0_lays 79 = .ok (.ifCond .lt 51, 3) := dk_155 0 51 (dk_at dksX0_lays_3 9 rfl rfl)
theorem dX0_lays_82 : decode cX0_lays 82 = .ok (.aload_n 0, 1) := dk_42 (dk_at dksX0_lays_3 12 rfl rfl)
theorem dX0_lays_83 : decode cX0_lays 83 = .ok (.getfield 19, 3) := dk_180 0 19 (dk_at dksX0_lays_3 13 rfl rfl)
theorem dX0_lays_86 : decode cX0_lays 86 = .ok (.getfield 23, 3) := dk_180 0 23 (dk_at dksX0_lays_3 16 rfl rfl)
theorem dX0_lays_89 : decode cX0_lays 89 = .ok (.iload 6, 2) := dk_21 6 (dk_at dksX0_lays_3 19 rfl rfl)
theorem dX0_lays_91 : decode cX0_lays 91 = .ok (.baload, 1) := dk_51 (dk_at dksX0_lays_3 21 rfl rfl)
theorem dX0_lays_92 : decode cX0_lays 92 = .ok (.ifCond .ne 38, 3) := dk_154 0 38 (dk_at dksX0_lays_4 0 rfl rfl)
theorem dX0_lays_95 : decode cX0_lays 95 = .ok (.aload_n 2, 1) := dk_44 (dk_at dksX0_lays_4 3 rfl rfl)
theorem dX0_lays_96 : decode cX0_lays 96 = .ok (.iload 6, 2) := dk_21 6 (dk_at dksX0_lays_4 4 rfl rfl)
theorem dX0_lays_98 : decode cX0_lays 98 = .ok (.iaload, 1) := dk_46 (dk_at dksX0_lays_4 6 rfl rfl)
theorem dX0_lays_99 : decode cX0_lays 99 = .ok (.ldc 18, 2) := dk_18 18 (dk_at dksX0_lays_4 7 rfl rfl)
theorem dX0_lays_101 : decode cX0_lays 101 = .ok (.if_icmp .ne 29, 3) := dk_160 0 29 (dk_at dksX0_lays_4 9 rfl rfl)
theorem dX0_lays_104 : decode cX0_lays 104 = .ok (.aload_n 2, 1) := dk_44 (dk_at dksX0_lays_4 12 rfl rfl)
theorem dX0_lays_105 : decode cX0_lays 105 = .ok (.iload 6, 2) := dk_21 6 (dk_at dksX0_lays_4 13 rfl rfl)
theorem dX0_lays_107 : decode cX0_lays 107 = .ok (.aload_n 2, 1) := dk_44 (dk_at dksX0_lays_4 15 rfl rfl)
theorem dX0_lays_108 : decode cX0_lays 108 = .ok (.aload_n 0, 1) := dk_42 (dk_at dksX0_lays_4 16 rfl rfl)
theorem dX0_lays_109 : decode cX0_lays 109 = .ok (.getfield 29, 3) := dk_180 0 29 (dk_at dksX0_lays_4 17 rfl rfl)
theorem dX0_lays_112 : decode cX0_lays 112 = .ok (.iload 4, 2) := dk_21 4 (dk_at dksX0_lays_4 20 rfl rfl)
theorem dX0_lays_114 : decode cX0_lays 114 = .ok (.iaload, 1) := dk_46 (dk_at dksX0_lays_4 22 rfl rfl)
theorem dX0_lays_115 : decode cX0_lays 115 = .ok (.iaload, 1) := dk_46 (dk_at dksX0_lays_4 23 rfl rfl)
theorem dX0_lays_116 : decode cX0_lays 116 = .ok (.iconst 1, 1) := dk_4 (dk_at dksX0_lays_5 0 rfl rfl)
theorem dX0_lays_117 : decode cX0_lays 117 = .ok (.iadd, 1) := dk_96 (dk_at dksX0_lays_5 1 rfl rfl)
theorem dX0_lays_118 : decode cX0_lays 118 = .ok (.iastore, 1) := dk_79 (dk_at dksX0_lays_5 2 rfl rfl)
theorem dX0_lays_119 : decode cX0_lays 119 = .ok (.aload_n 0, 1) := dk_42 (dk_at dksX0_lays_5 3 rfl rfl)
theorem dX0_lays_120 : decode cX0_lays 120 = .ok (.getfield 29, 3) := dk_180 0 29 (dk_at dksX0_lays_5 4 rfl rfl)
theorem dX0_lays_123 : decode cX0_lays 123 = .ok (.iload_n 3, 1) := dk_29 (dk_at dksX0_lays_5 7 rfl rfl)
theorem dX0_lays_124 : decode cX0_lays 124 = .ok (.iload 6, 2) := dk_21 6 (dk_at dksX0_lays_5 8 rfl rfl)
theorem dX0_lays_126 : decode cX0_lays 126 = .ok (.iastore, 1) := dk_79 (dk_at dksX0_lays_5 10 rfl rfl)
theorem dX0_lays_127 : decode cX0_lays 127 = .ok (.iinc 3 1, 3) := dk_132 3 1 (dk_at dksX0_lays_5 11 rfl rfl)
theorem dX0_lays_130 : decode cX0_lays 130 = .ok (.iinc 5 1, 3) := dk_132 5 1 (dk_at dksX0_lays_5 14 rfl rfl)
theorem dX0_lays_133 : decode cX0_lays 133 = .ok (.goto (-76), 3) := dk_167 255 180 (dk_at dksX0_lays_5 17 rfl rfl)
theorem dX0_lays_136 : decode cX0_lays 136 = .ok (.iinc 4 1, 3) := dk_132 4 1 (dk_at dksX0_lays_5 20 rfl rfl)
theorem dX0_lays_139 : decode cX0_lays 139 = .ok (.goto (-91), 3) := dk_167 255 165 (dk_at dksX0_lays_6 0 rfl rfl)
theorem dX0_lays_142 : decode cX0_lays 142 = .ok (.return_, 1) := dk_177 (dk_at dksX0_lays_6 3 rfl rfl)
abbrev cX0_neighbor : ByteArray := prog_1_method_6_code
def yX0_neighbor : MethodName := ⟨RX0, "neighbor", "(II)I"⟩
def dkwX0_neighbor_0 : List UInt8 := [26, 178, 0, 7, 27, 46, 178, 0, 11, 27, 46, 184, 0, 14, 172]
abbrev dktX0_neighbor_0 : List UInt8 := dkwX0_neighbor_0 ++ []
theorem dksX0_neighbor_0 : cX0_neighbor.data.toList.drop 0 = dktX0_neighbor_0 := by decide +kernel
theorem dX0_neighbor_0 : decode cX0_neighbor 0 = .ok (.iload_n 0, 1) := dk_26 (dk_at dksX0_neighbor_0 0 rfl rfl)
theorem dX0_neighbor_1 : decode cX0_neighbor 1 = .ok (.getstatic 7, 3) := dk_178 0 7 (dk_at dksX0_neighbor_0 1 rfl rfl)
theorem dX0_neighbor_4 : decode cX0_neighbor 4 = .ok (.iload_n 1, 1) := dk_27 (dk_at dksX0_neighbor_0 4 rfl rfl)
theorem dX0_neighbor_5 : decode cX0_neighbor 5 = .ok (.iaload, 1) := dk_46 (dk_at dksX0_neighbor_0 5 rfl rfl)
theorem dX0_neighbor_6 : decode cX0_neighbor 6 = .ok (.getstatic 11, 3) := dk_178 0 11 (dk_at dksX0_neighbor_0 6 rfl rfl)
theorem dX0_neighbor_9 : decode cX0_neighbor 9 = .ok (.iload_n 1, 1) := dk_27 (dk_at dksX0_neighbor_0 9 rfl rfl)
theorem dX0_neighbor_10 : decode cX0_neighbor 10 = .ok (.iaload, 1) := dk_46 (dk_at dksX0_neighbor_0 10 rfl rfl)
theorem dX0_neighbor_11 : decode cX0_neighbor 11 = .ok (.invokestatic 14, 3) := dk_184 0 14 (dk_at dksX0_neighbor_0 11 rfl rfl)
theorem dX0_neighbor_14 : decode cX0_neighbor 14 = .ok (.ireturn, 1) := dk_172 (dk_at dksX0_neighbor_0 14 rfl rfl)
abbrev cX0_shifted : ByteArray := prog_1_method_5_code
def yX0_shifted : MethodName := ⟨RX0, "shifted", "(III)I"⟩
def dkwX0_shifted_2 : List UInt8 := [2, 172]
abbrev dktX0_shifted_2 : List UInt8 := dkwX0_shifted_2 ++ []
def dkwX0_shifted_1 : List UInt8 := [153, 0, 24, 21, 4, 3, 16, 9, 184, 0, 3, 153, 0, 13, 16, 12, 21, 4, 104, 29, 96, 167, 0, 4]
abbrev dktX0_shifted_1 : List UInt8 := dkwX0_shifted_1 ++ dktX0_shifted_2
def dkwX0_shifted_0 : List UInt8 := [26, 16, 12, 112, 27, 96, 62, 26, 16, 12, 108, 28, 96, 54, 4, 29, 3, 16, 11, 184, 0, 3]
abbrev dktX0_shifted_0 : List UInt8 := dkwX0_shifted_0 ++ dktX0_shifted_1
theorem dksX0_shifted_0 : cX0_shifted.data.toList.drop 0 = dktX0_shifted_0 := by decide +kernel
theorem dksX0_shifted_1 : cX0_shifted.data.toList.drop 22 = dktX0_shifted_1 := dk_seg dksX0_shifted_0 22 rfl rfl
theorem dksX0_shifted_2 : cX0_shifted.data.toList.drop 46 = dktX0_shifted_2 := dk_seg dksX0_shifted_1 24 rfl rfl
theorem dX0_shifted_0 : decode cX0_shifted 0 = .ok (.iload_n 0, 1) := dk_26 (dk_at dksX0_shifted_0 0 rfl rfl)
theorem dX0_shifted_1 : decode cX0_shifted 1 = .ok (.bipush 12, 2) := dk_16 12 (dk_at dksX0_shifted_0 1 rfl rfl)
theorem dX0_shifted_3 : decode cX0_shifted 3 = .ok (.irem, 1) := dk_112 (dk_at dksX0_shifted_0 3 rfl rfl)
theorem dX0_shifted_4 : decode cX0_shifted 4 = .ok (.iload_n 1, 1) := dk_27 (dk_at dksX0_shifted_0 4 rfl rfl)
theorem dX0_shifted_5 : decode cX0_shifted 5 = .ok (.iadd, 1) := dk_96 (dk_at dksX0_shifted_0 5 rfl rfl)
theorem dX0_shifted_6 : decode cX0_shifted 6 = .ok (.istore_n 3, 1) := dk_62 (dk_at dksX0_shifted_0 6 rfl rfl)
theorem dX0_shifted_7 : decode cX0_shifted 7 = .ok (.iload_n 0, 1) := dk_26 (dk_at dksX0_shifted_0 7 rfl rfl)
theorem dX0_shifted_8 : decode cX0_shifted 8 = .ok (.bipush 12, 2) := dk_16 12 (dk_at dksX0_shifted_0 8 rfl rfl)
theorem dX0_shifted_10 : decode cX0_shifted 10 = .ok (.idiv, 1) := dk_108 (dk_at dksX0_shifted_0 10 rfl rfl)
theorem dX0_shifted_11 : decode cX0_shifted 11 = .ok (.iload_n 2, 1) := dk_28 (dk_at dksX0_shifted_0 11 rfl rfl)
theorem dX0_shifted_12 : decode cX0_shifted 12 = .ok (.iadd, 1) := dk_96 (dk_at dksX0_shifted_0 12 rfl rfl)
theorem dX0_shifted_13 : decode cX0_shifted 13 = .ok (.istore 4, 2) := dk_54 4 (dk_at dksX0_shifted_0 13 rfl rfl)
theorem dX0_shifted_15 : decode cX0_shifted 15 = .ok (.iload_n 3, 1) := dk_29 (dk_at dksX0_shifted_0 15 rfl rfl)
theorem dX0_shifted_16 : decode cX0_shifted 16 = .ok (.iconst 0, 1) := dk_3 (dk_at dksX0_shifted_0 16 rfl rfl)
theorem dX0_shifted_17 : decode cX0_shifted 17 = .ok (.bipush 11, 2) := dk_16 11 (dk_at dksX0_shifted_0 17 rfl rfl)
theorem dX0_shifted_19 : decode cX0_shifted 19 = .ok (.invokestatic 3, 3) := dk_184 0 3 (dk_at dksX0_shifted_0 19 rfl rfl)
theorem dX0_shifted_22 : decode cX0_shifted 22 = .ok (.ifCond .eq 24, 3) := dk_153 0 24 (dk_at dksX0_shifted_1 0 rfl rfl)
theorem dX0_shifted_25 : decode cX0_shifted 25 = .ok (.iload 4, 2) := dk_21 4 (dk_at dksX0_shifted_1 3 rfl rfl)
theorem dX0_shifted_27 : decode cX0_shifted 27 = .ok (.iconst 0, 1) := dk_3 (dk_at dksX0_shifted_1 5 rfl rfl)
theorem dX0_shifted_28 : decode cX0_shifted 28 = .ok (.bipush 9, 2) := dk_16 9 (dk_at dksX0_shifted_1 6 rfl rfl)
theorem dX0_shifted_30 : decode cX0_shifted 30 = .ok (.invokestatic 3, 3) := dk_184 0 3 (dk_at dksX0_shifted_1 8 rfl rfl)
theorem dX0_shifted_33 : decode cX0_shifted 33 = .ok (.ifCond .eq 13, 3) := dk_153 0 13 (dk_at dksX0_shifted_1 11 rfl rfl)
theorem dX0_shifted_36 : decode cX0_shifted 36 = .ok (.bipush 12, 2) := dk_16 12 (dk_at dksX0_shifted_1 14 rfl rfl)
theorem dX0_shifted_38 : decode cX0_shifted 38 = .ok (.iload 4, 2) := dk_21 4 (dk_at dksX0_shifted_1 16 rfl rfl)
theorem dX0_shifted_40 : decode cX0_shifted 40 = .ok (.imul, 1) := dk_104 (dk_at dksX0_shifted_1 18 rfl rfl)
theorem dX0_shifted_41 : decode cX0_shifted 41 = .ok (.iload_n 3, 1) := dk_29 (dk_at dksX0_shifted_1 19 rfl rfl)
theorem dX0_shifted_42 : decode cX0_shifted 42 = .ok (.iadd, 1) := dk_96 (dk_at dksX0_shifted_1 20 rfl rfl)
theorem dX0_shifted_43 : decode cX0_shifted 43 = .ok (.goto 4, 3) := dk_167 0 4 (dk_at dksX0_shifted_1 21 rfl rfl)
theorem dX0_shifted_46 : decode cX0_shifted 46 = .ok (.iconst (-1), 1) := dk_2 (dk_at dksX0_shifted_2 0 rfl rfl)
theorem dX0_shifted_47 : decode cX0_shifted 47 = .ok (.ireturn, 1) := dk_172 (dk_at dksX0_shifted_2 1 rfl rfl)
abbrev cX0_steps : ByteArray := prog_1_method_17_code
def yX0_steps : MethodName := ⟨RX0, "steps", "(LSwarmPlanner$Member;I)V"⟩
def dkwX0_steps_1 : List UInt8 := [177]
abbrev dktX0_steps_1 : List UInt8 := dkwX0_steps_1 ++ []
def dkwX0_steps_0 : List UInt8 := [42, 180, 0, 19, 43, 28, 182, 0, 128, 43, 89, 180, 0, 132, 4, 96, 181, 0, 132, 43, 3, 181, 0, 135]
abbrev dktX0_steps_0 : List UInt8 := dkwX0_steps_0 ++ dktX0_steps_1
theorem dksX0_steps_0 : cX0_steps.data.toList.drop 0 = dktX0_steps_0 := by decide +kernel
theorem dksX0_steps_1 : cX0_steps.data.toList.drop 24 = dktX0_steps_1 := dk_seg dksX0_steps_0 24 rfl rfl
theorem dX0_steps_0 : decode cX0_steps 0 = .ok (.aload_n 0, 1) := dk_42 (dk_at dksX0_steps_0 0 rfl rfl)
theorem dX0_steps_1 : decode cX0_steps 1 = .ok (.getfield 19, 3) := dk_180 0 19 (dk_at dksX0_steps_0 1 rfl rfl)
theorem dX0_steps_4 : decode cX0_steps 4 = .ok (.aload_n 1, 1) := dk_43 (dk_at dksX0_steps_0 4 rfl rfl)
theorem dX0_steps_5 : decode cX0_steps 5 = .ok (.iload_n 2, 1) := dk_28 (dk_at dksX0_steps_0 5 rfl rfl)
theorem dX0_steps_6 : decode cX0_steps 6 = .ok (.invokevirtual 128, 3) := dk_182 0 128 (dk_at dksX0_steps_0 6 rfl rfl)
theorem dX0_steps_9 : decode cX0_steps 9 = .ok (.aload_n 1, 1) := dk_43 (dk_at dksX0_steps_0 9 rfl rfl)
theorem dX0_steps_10 : decode cX0_steps 10 = .ok (.dup, 1) := dk_89 (dk_at dksX0_steps_0 10 rfl rfl)
theorem dX0_steps_11 : decode cX0_steps 11 = .ok (.getfield 132, 3) := dk_180 0 132 (dk_at dksX0_steps_0 11 rfl rfl)
theorem dX0_steps_14 : decode cX0_steps 14 = .ok (.iconst 1, 1) := dk_4 (dk_at dksX0_steps_0 14 rfl rfl)
theorem dX0_steps_15 : decode cX0_steps 15 = .ok (.iadd, 1) := dk_96 (dk_at dksX0_steps_0 15 rfl rfl)
theorem dX0_steps_16 : decode cX0_steps 16 = .ok (.putfield 132, 3) := dk_181 0 132 (dk_at dksX0_steps_0 16 rfl rfl)
theorem dX0_steps_19 : decode cX0_steps 19 = .ok (.aload_n 1, 1) := dk_43 (dk_at dksX0_steps_0 19 rfl rfl)
theorem dX0_steps_20 : decode cX0_steps 20 = .ok (.iconst 0, 1) := dk_3 (dk_at dksX0_steps_0 20 rfl rfl)
theorem dX0_steps_21 : decode cX0_steps 21 = .ok (.putfield 135, 3) := dk_181 0 135 (dk_at dksX0_steps_0 21 rfl rfl)
theorem dX0_steps_24 : decode cX0_steps 24 = .ok (.return_, 1) := dk_177 (dk_at dksX0_steps_1 0 rfl rfl)
abbrev cX0_waits : ByteArray := prog_1_method_18_code
def yX0_waits : MethodName := ⟨RX0, "waits", "(LSwarmPlanner$Member;)V"⟩
def dkwX0_waits_0 : List UInt8 := [43, 89, 180, 0, 138, 4, 96, 181, 0, 138, 42, 180, 0, 19, 180, 0, 141, 5, 92, 46, 4, 96, 79, 177]
abbrev dktX0_waits_0 : List UInt8 := dkwX0_waits_0 ++ []
theorem dksX0_waits_0 : cX0_waits.data.toList.drop 0 = dktX0_waits_0 := by decide +kernel
theorem dX0_waits_0 : decode cX0_waits 0 = .ok (.aload_n 1, 1) := dk_43 (dk_at dksX0_waits_0 0 rfl rfl)
theorem dX0_waits_1 : decode cX0_waits 1 = .ok (.dup, 1) := dk_89 (dk_at dksX0_waits_0 1 rfl rfl)
theorem dX0_waits_2 : decode cX0_waits 2 = .ok (.getfield 138, 3) := dk_180 0 138 (dk_at dksX0_waits_0 2 rfl rfl)
theorem dX0_waits_5 : decode cX0_waits 5 = .ok (.iconst 1, 1) := dk_4 (dk_at dksX0_waits_0 5 rfl rfl)
theorem dX0_waits_6 : decode cX0_waits 6 = .ok (.iadd, 1) := dk_96 (dk_at dksX0_waits_0 6 rfl rfl)
theorem dX0_waits_7 : decode cX0_waits 7 = .ok (.putfield 138, 3) := dk_181 0 138 (dk_at dksX0_waits_0 7 rfl rfl)
theorem dX0_waits_10 : decode cX0_waits 10 = .ok (.aload_n 0, 1) := dk_42 (dk_at dksX0_waits_0 10 rfl rfl)
theorem dX0_waits_11 : decode cX0_waits 11 = .ok (.getfield 19, 3) := dk_180 0 19 (dk_at dksX0_waits_0 11 rfl rfl)
theorem dX0_waits_14 : decode cX0_waits 14 = .ok (.getfield 141, 3) := dk_180 0 141 (dk_at dksX0_waits_0 14 rfl rfl)
theorem dX0_waits_17 : decode cX0_waits 17 = .ok (.iconst 2, 1) := dk_5 (dk_at dksX0_waits_0 17 rfl rfl)
theorem dX0_waits_18 : decode cX0_waits 18 = .ok (.dup2, 1) := dk_92 (dk_at dksX0_waits_0 18 rfl rfl)
theorem dX0_waits_19 : decode cX0_waits 19 = .ok (.iaload, 1) := dk_46 (dk_at dksX0_waits_0 19 rfl rfl)
theorem dX0_waits_20 : decode cX0_waits 20 = .ok (.iconst 1, 1) := dk_4 (dk_at dksX0_waits_0 20 rfl rfl)
theorem dX0_waits_21 : decode cX0_waits 21 = .ok (.iadd, 1) := dk_96 (dk_at dksX0_waits_0 21 rfl rfl)
theorem dX0_waits_22 : decode cX0_waits 22 = .ok (.iastore, 1) := dk_79 (dk_at dksX0_waits_0 22 rfl rfl)
theorem dX0_waits_23 : decode cX0_waits 23 = .ok (.return_, 1) := dk_177 (dk_at dksX0_waits_0 23 rfl rfl)
abbrev cX0_gives : ByteArray := prog_1_method_11_code
def yX0_gives : MethodName := ⟨RX0, "gives", "()V"⟩
def dkwX0_gives_3 : List UInt8 := [167, 255, 205, 43, 198, 0, 15, 42, 180, 0, 71, 158, 0, 8, 43, 3, 182, 0, 105, 177]
abbrev dktX0_gives_3 : List UInt8 := dkwX0_gives_3 ++ []
def dkwX0_gives_2 : List UInt8 := [187, 0, 37, 89, 42, 42, 180, 0, 19, 180, 0, 80, 29, 50, 43, 183, 0, 101, 76, 132, 3, 255]
abbrev dktX0_gives_2 : List UInt8 := dkwX0_gives_2 ++ dktX0_gives_3
def dkwX0_gives_1 : List UInt8 := [180, 0, 98, 29, 16, 251, 79, 42, 180, 0, 19, 180, 0, 80, 29, 50, 198, 0, 27, 29, 28, 159, 0, 22]
abbrev dktX0_gives_1 : List UInt8 := dkwX0_gives_1 ++ dktX0_gives_2
def dkwX0_gives_0 : List UInt8 := [42, 182, 0, 94, 1, 76, 42, 180, 0, 19, 182, 0, 55, 61, 16, 9, 62, 29, 155, 0, 53, 42]
abbrev dktX0_gives_0 : List UInt8 := dkwX0_gives_0 ++ dktX0_gives_1
theorem dksX0_gives_0 : cX0_gives.data.toList.drop 0 = dktX0_gives_0 := by decide +kernel
theorem dksX0_gives_1 : cX0_gives.data.toList.drop 22 = dktX0_gives_1 := dk_seg dksX0_gives_0 22 rfl rfl
theorem dksX0_gives_2 : cX0_gives.data.toList.drop 46 = dktX0_gives_2 := dk_seg dksX0_gives_1 24 rfl rfl
theorem dksX0_gives_3 : cX0_gives.data.toList.drop 68 = dktX0_gives_3 := dk_seg dksX0_gives_2 22 rfl rfl
theorem dX0_gives_0 : decode cX0_gives 0 = .ok (.aload_n 0, 1) := dk_42 (dk_at dksX0_gives_0 0 rfl rfl)
theorem dX0_gives_1 : decode cX0_gives 1 = .ok (.invokevirtual 94, 3) := dk_182 0 94 (dk_at dksX0_gives_0 1 rfl rfl)
theorem dX0_gives_4 : decode cX0_gives 4 = .ok (.aconst_null, 1) := dk_1 (dk_at dksX0_gives_0 4 rfl rfl)
theorem dX0_gives_5 : decode cX0_gives 5 = .ok (.astore_n 1, 1) := dk_76 (dk_at dksX0_gives_0 5 rfl rfl)
theorem dX0_gives_6 : decode cX0_gives 6 = .ok (.aload_n 0, 1) := dk_42 (dk_at dksX0_gives_0 6 rfl rfl)
theorem dX0_gives_7 : decode cX0_gives 7 = .ok (.getfield 19, 3) := dk_180 0 19 (dk_at dksX0_gives_0 7 rfl rfl)
theorem dX0_gives_10 : decode cX0_gives 10 = .ok (.invokevirtual 55, 3) := dk_182 0 55 (dk_at dksX0_gives_0 10 rfl rfl)
theorem dX0_gives_13 : decode cX0_gives 13 = .ok (.istore_n 2, 1) := dk_61 (dk_at dksX0_gives_0 13 rfl rfl)
theorem dX0_gives_14 : decode cX0_gives 14 = .ok (.bipush 9, 2) := dk_16 9 (dk_at dksX0_gives_0 14 rfl rfl)
theorem dX0_gives_16 : decode cX0_gives 16 = .ok (.istore_n 3, 1) := dk_62 (dk_at dksX0_gives_0 16 rfl rfl)
theorem dX0_gives_17 : decode cX0_gives 17 = .ok (.iload_n 3, 1) := dk_29 (dk_at dksX0_gives_0 17 rfl rfl)
theorem dX0_gives_18 : decode cX0_gives 18 = .ok (.ifCond .lt 53, 3) := dk_155 0 53 (dk_at dksX0_gives_0 18 rfl rfl)
theorem dX0_gives_21 : decode cX0_gives 21 = .ok (.aload_n 0, 1) := dk_42 (dk_at dksX0_gives_0 21 rfl rfl)
theorem dX0_gives_22 : decode cX0_gives 22 = .ok (.getfield 98, 3) := dk_180 0 98 (dk_at dksX0_gives_1 0 rfl rfl)
theorem dX0_gives_25 : decode cX0_gives 25 = .ok (.iload_n 3, 1) := dk_29 (dk_at dksX0_gives_1 3 rfl rfl)
theorem dX0_gives_26 : decode cX0_gives 26 = .ok (.bipush (-5), 2) := dk_16 251 (dk_at dksX0_gives_1 4 rfl rfl)
theorem dX0_gives_28 : decode cX0_gives 28 = .ok (.iastore, 1) := dk_79 (dk_at dksX0_gives_1 6 rfl rfl)
theorem dX0_gives_29 : decode cX0_gives 29 = .ok (.aload_n 0, 1) := dk_42 (dk_at dksX0_gives_1 7 rfl rfl)
theorem dX0_gives_30 : decode cX0_gives 30 = .ok (.getfield 19, 3) := dk_180 0 19 (dk_at dksX0_gives_1 8 rfl rfl)
theorem dX0_gives_33 : decode cX0_gives 33 = .ok (.getfield 80, 3) := dk_180 0 80 (dk_at dksX0_gives_1 11 rfl rfl)
theorem dX0_gives_36 : decode cX0_gives 36 = .ok (.iload_n 3, 1) := dk_29 (dk_at dksX0_gives_1 14 rfl rfl)
theorem dX0_gives_37 : decode cX0_gives 37 = .ok (.aaload, 1) := dk_50 (dk_at dksX0_gives_1 15 rfl rfl)
theorem dX0_gives_38 : decode cX0_gives 38 = .ok (.ifnull 27, 3) := dk_198 0 27 (dk_at dksX0_gives_1 16 rfl rfl)
theorem dX0_gives_41 : decode cX0_gives 41 = .ok (.iload_n 3, 1) := dk_29 (dk_at dksX0_gives_1 19 rfl rfl)
theorem dX0_gives_42 : decode cX0_gives 42 = .ok (.iload_n 2, 1) := dk_28 (dk_at dksX0_gives_1 20 rfl rfl)
theorem dX0_gives_43 : decode cX0_gives 43 = .ok (.if_icmp .eq 22, 3) := dk_159 0 22 (dk_at dksX0_gives_1 21 rfl rfl)
theorem dX0_gives_46 : decode cX0_gives 46 = .ok (.new 37, 3) := dk_187 0 37 (dk_at dksX0_gives_2 0 rfl rfl)
theorem dX0_gives_49 : decode cX0_gives 49 = .ok (.dup, 1) := dk_89 (dk_at dksX0_gives_2 3 rfl rfl)
theorem dX0_gives_50 : decode cX0_gives 50 = .ok (.aload_n 0, 1) := dk_42 (dk_at dksX0_gives_2 4 rfl rfl)
theorem dX0_gives_51 : decode cX0_gives 51 = .ok (.aload_n 0, 1) := dk_42 (dk_at dksX0_gives_2 5 rfl rfl)
theorem dX0_gives_52 : decode cX0_gives 52 = .ok (.getfield 19, 3) := dk_180 0 19 (dk_at dksX0_gives_2 6 rfl rfl)
theorem dX0_gives_55 : decode cX0_gives 55 = .ok (.getfield 80, 3) := dk_180 0 80 (dk_at dksX0_gives_2 9 rfl rfl)
theorem dX0_gives_58 : decode cX0_gives 58 = .ok (.iload_n 3, 1) := dk_29 (dk_at dksX0_gives_2 12 rfl rfl)
theorem dX0_gives_59 : decode cX0_gives 59 = .ok (.aaload, 1) := dk_50 (dk_at dksX0_gives_2 13 rfl rfl)
theorem dX0_gives_60 : decode cX0_gives 60 = .ok (.aload_n 1, 1) := dk_43 (dk_at dksX0_gives_2 14 rfl rfl)
theorem dX0_gives_61 : decode cX0_gives 61 = .ok (.invokespecial 101, 3) := dk_183 0 101 (dk_at dksX0_gives_2 15 rfl rfl)
theorem dX0_gives_64 : decode cX0_gives 64 = .ok (.astore_n 1, 1) := dk_76 (dk_at dksX0_gives_2 18 rfl rfl)
theorem dX0_gives_65 : decode cX0_gives 65 = .ok (.iinc 3 (-1), 3) := dk_132 3 255 (dk_at dksX0_gives_2 19 rfl rfl)
theorem dX0_gives_68 : decode cX0_gives 68 = .ok (.goto (-51), 3) := dk_167 255 205 (dk_at dksX0_gives_3 0 rfl rfl)
theorem dX0_gives_71 : decode cX0_gives 71 = .ok (.aload_n 1, 1) := dk_43 (dk_at dksX0_gives_3 3 rfl rfl)
theorem dX0_gives_72 : decode cX0_gives 72 = .ok (.ifnull 15, 3) := dk_198 0 15 (dk_at dksX0_gives_3 4 rfl rfl)
theorem dX0_gives_75 : decode cX0_gives 75 = .ok (.aload_n 0, 1) := dk_42 (dk_at dksX0_gives_3 7 rfl rfl)
theorem dX0_gives_76 : decode cX0_gives 76 = .ok (.getfield 71, 3) := dk_180 0 71 (dk_at dksX0_gives_3 8 rfl rfl)
theorem dX0_gives_79 : decode cX0_gives 79 = .ok (.ifCond .le 8, 3) := dk_158 0 8 (dk_at dksX0_gives_3 11 rfl rfl)
theorem dX0_gives_82 : decode cX0_gives 82 = .ok (.aload_n 1, 1) := dk_43 (dk_at dksX0_gives_3 14 rfl rfl)
theorem dX0_gives_83 : decode cX0_gives 83 = .ok (.iconst 0, 1) := dk_3 (dk_at dksX0_gives_3 15 rfl rfl)
theorem dX0_gives_84 : decode cX0_gives 84 = .ok (.invokevirtual 105, 3) := dk_182 0 105 (dk_at dksX0_gives_3 16 rfl rfl)
theorem dX0_gives_87 : decode cX0_gives 87 = .ok (.return_, 1) := dk_177 (dk_at dksX0_gives_3 19 rfl rfl)
abbrev cX0_laysPlaces : ByteArray := prog_1_method_10_code
def yX0_laysPlaces : MethodName := ⟨RX0, "laysPlaces", "()V"⟩
def dkwX0_laysPlaces_7 : List UInt8 := [29, 50, 182, 0, 90, 132, 3, 1, 167, 255, 139, 177]
abbrev dktX0_laysPlaces_7 : List UInt8 := dkwX0_laysPlaces_7 ++ []
def dkwX0_laysPlaces_6 : List UInt8 := [155, 0, 29, 42, 89, 180, 0, 74, 4, 96, 181, 0, 74, 42, 42, 180, 0, 42, 29, 46, 42, 180, 0, 45]
abbrev dktX0_laysPlaces_6 : List UInt8 := dkwX0_laysPlaces_6 ++ dktX0_laysPlaces_7
def dkwX0_laysPlaces_5 : List UInt8 := [180, 0, 23, 21, 4, 51, 154, 0, 8, 21, 4, 167, 0, 4, 2, 79, 42, 180, 0, 42, 29, 46]
abbrev dktX0_laysPlaces_5 : List UInt8 := dkwX0_laysPlaces_5 ++ dktX0_laysPlaces_6
def dkwX0_laysPlaces_4 : List UInt8 := [180, 0, 87, 29, 46, 184, 0, 14, 54, 4, 42, 180, 0, 42, 29, 21, 4, 155, 0, 21, 42, 180, 0, 19]
abbrev dktX0_laysPlaces_4 : List UInt8 := dkwX0_laysPlaces_4 ++ dktX0_laysPlaces_5
def dkwX0_laysPlaces_3 : List UInt8 := [167, 0, 30, 42, 180, 0, 19, 180, 0, 80, 27, 50, 180, 0, 49, 44, 180, 0, 84, 29, 46, 44]
abbrev dktX0_laysPlaces_3 : List UInt8 := dkwX0_laysPlaces_3 ++ dktX0_laysPlaces_4
def dkwX0_laysPlaces_2 : List UInt8 := [181, 0, 74, 3, 62, 29, 42, 180, 0, 71, 162, 0, 115, 29, 44, 180, 0, 77, 160, 0, 7, 2]
abbrev dktX0_laysPlaces_2 : List UInt8 := dkwX0_laysPlaces_2 ++ dktX0_laysPlaces_3
def dkwX0_laysPlaces_1 : List UInt8 := [42, 27, 155, 0, 7, 44, 199, 0, 7, 3, 167, 0, 7, 44, 182, 0, 66, 181, 0, 71, 42, 3]
abbrev dktX0_laysPlaces_1 : List UInt8 := dkwX0_laysPlaces_1 ++ dktX0_laysPlaces_2
def dkwX0_laysPlaces_0 : List UInt8 := [42, 180, 0, 19, 182, 0, 55, 60, 42, 180, 0, 19, 180, 0, 59, 42, 180, 0, 19, 180, 0, 63, 50, 77]
abbrev dktX0_laysPlaces_0 : List UInt8 := dkwX0_laysPlaces_0 ++ dktX0_laysPlaces_1
theorem dksX0_laysPlaces_0 : cX0_laysPlaces.data.toList.drop 0 = dktX0_laysPlaces_0 := by decide +kernel
theorem dksX0_laysPlaces_1 : cX0_laysPlaces.data.toList.drop 24 = dktX0_laysPlaces_1 := dk_seg dksX0_laysPlaces_0 24 rfl rfl
theorem dksX0_laysPlaces_2 : cX0_laysPlaces.data.toList.drop 46 = dktX0_laysPlaces_2 := dk_seg dksX0_laysPlaces_1 22 rfl rfl
theorem dksX0_laysPlaces_3 : cX0_laysPlaces.data.toList.drop 68 = dktX0_laysPlaces_3 := dk_seg dksX0_laysPlaces_2 22 rfl rfl
theorem dksX0_laysPlaces_4 : cX0_laysPlaces.data.toList.drop 90 = dktX0_laysPlaces_4 := dk_seg dksX0_laysPlaces_3 22 rfl rfl
theorem dksX0_laysPlaces_5 : cX0_laysPlaces.data.toList.drop 114 = dktX0_laysPlaces_5 := dk_seg dksX0_laysPlaces_4 24 rfl rfl
theorem dksX0_laysPlaces_6 : cX0_laysPlaces.data.toList.drop 136 = dktX0_laysPlaces_6 := dk_seg dksX0_laysPlaces_5 22 rfl rfl
theorem dksX0_laysPlaces_7 : cX0_laysPlaces.data.toList.drop 160 = dktX0_laysPlaces_7 := dk_seg dksX0_laysPlaces_6 24 rfl rfl
theorem dX0_laysPlaces_0 : decode cX0_laysPlaces 0 = .ok (.aload_n 0, 1) := dk_42 (dk_at dksX0_laysPlaces_0 0 rfl rfl)
theorem dX0_laysPlaces_1 : decode cX0_laysPlaces 1 = .ok (.getfield 19, 3) := dk_180 0 19 (dk_at dksX0_laysPlaces_0 1 rfl rfl)
theorem dX0_laysPlaces_4 : decode cX0_laysPlaces 4 = .ok (.invokevirtual 55, 3) := dk_182 0 55 (dk_at dksX0_laysPlaces_0 4 rfl rfl)
theorem dX0_laysPlaces_7 : decode cX0_laysPlaces 7 = .ok (.istore_n 1, 1) := dk_60 (dk_at dksX0_laysPlaces_0 7 rfl rfl)
theorem dX0_laysPlaces_8 : decode cX0_laysPlaces 8 = .ok (.aload_n 0, 1) := dk_42 (dk_at dksX0_laysPlaces_0 8 rfl rfl)
theorem dX0_laysPlaces_9 : decode cX0_laysPlaces 9 = .ok (.getfield 19, 3) := dk_180 0 19 (dk_at dksX0_laysPlaces_0 9 rfl rfl)
theorem dX0_laysPlaces_12 : decode cX0_laysPlaces 12 = .ok (.getfield 59, 3) := dk_180 0 59 (dk_at dksX0_laysPlaces_0 12 rfl rfl)
theorem dX0_laysPlaces_15 : decode cX0_laysPlaces 15 = .ok (.aload_n 0, 1) := dk_42 (dk_at dksX0_laysPlaces_0 15 rfl rfl)
theorem dX0_laysPlaces_16 : decode cX0_laysPlaces 16 = .ok (.getfield 19, 3) := dk_180 0 19 (dk_at dksX0_laysPlaces_0 16 rfl rfl)
theorem dX0_laysPlaces_19 : decode cX0_laysPlaces 19 = .ok (.getfield 63, 3) := dk_180 0 63 (dk_at dksX0_laysPlaces_0 19 rfl rfl)
theorem dX0_laysPlaces_22 : decode cX0_laysPlaces 22 = .ok (.aaload, 1) := dk_50 (dk_at dksX0_laysPlaces_0 22 rfl rfl)
theorem dX0_laysPlaces_23 : decode cX0_laysPlaces 23 = .ok (.astore_n 2, 1) := dk_77 (dk_at dksX0_laysPlaces_0 23 rfl rfl)
theorem dX0_laysPlaces_24 : decode cX0_laysPlaces 24 = .ok (.aload_n 0, 1) := dk_42 (dk_at dksX0_laysPlaces_1 0 rfl rfl)
theorem dX0_laysPlaces_25 : decode cX0_laysPlaces 25 = .ok (.iload_n 1, 1) := dk_27 (dk_at dksX0_laysPlaces_1 1 rfl rfl)
theorem dX0_laysPlaces_26 : decode cX0_laysPlaces 26 = .ok (.ifCond .lt 7, 3) := dk_155 0 7 (dk_at dksX0_laysPlaces_1 2 rfl rfl)
theorem dX0_laysPlaces_29 : decode cX0_laysPlaces 29 = .ok (.aload_n 2, 1) := dk_44 (dk_at dksX0_laysPlaces_1 5 rfl rfl)
theorem dX0_laysPlaces_30 : decode cX0_laysPlaces 30 = .ok (.ifnonnull 7, 3) := dk_199 0 7 (dk_at dksX0_laysPlaces_1 6 rfl rfl)
theorem dX0_laysPlaces_33 : decode cX0_laysPlaces 33 = .ok (.iconst 0, 1) := dk_3 (dk_at dksX0_laysPlaces_1 9 rfl rfl)
theorem dX0_laysPlaces_34 : decode cX0_laysPlaces 34 = .ok (.goto 7, 3) := dk_167 0 7 (dk_at dksX0_laysPlaces_1 10 rfl rfl)
theorem dX0_laysPlaces_37 : decode cX0_laysPlaces 37 = .ok (.aload_n 2, 1) := dk_44 (dk_at dksX0_laysPlaces_1 13 rfl rfl)
theorem dX0_laysPlaces_38 : decode cX0_laysPlaces 38 = .ok (.invokevirtual 66, 3) := dk_182 0 66 (dk_at dksX0_laysPlaces_1 14 rfl rfl)
theorem dX0_laysPlaces_41 : decode cX0_laysPlaces 41 = .ok (.putfield 71, 3) := dk_181 0 71 (dk_at dksX0_laysPlaces_1 17 rfl rfl)
theorem dX0_laysPlaces_44 : decode cX0_laysPlaces 44 = .ok (.aload_n 0, 1) := dk_42 (dk_at dksX0_laysPlaces_1 20 rfl rfl)
theorem dX0_laysPlaces_45 : decode cX0_laysPlaces 45 = .ok (.iconst 0, 1) := dk_3 (dk_at dksX0_laysPlaces_1 21 rfl rfl)
theorem dX0_laysPlaces_46 : decode cX0_laysPlaces 46 = .ok (.putfield 74, 3) := dk_181 0 74 (dk_at dksX0_laysPlaces_2 0 rfl rfl)
theorem dX0_laysPlaces_49 : decode cX0_laysPlaces 49 = .ok (.iconst 0, 1) := dk_3 (dk_at dksX0_laysPlaces_2 3 rfl rfl)
theorem dX0_laysPlaces_50 : decode cX0_laysPlaces 50 = .ok (.istore_n 3, 1) := dk_62 (dk_at dksX0_laysPlaces_2 4 rfl rfl)
theorem dX0_laysPlaces_51 : decode cX0_laysPlaces 51 = .ok (.iload_n 3, 1) := dk_29 (dk_at dksX0_laysPlaces_2 5 rfl rfl)
theorem dX0_laysPlaces_52 : decode cX0_laysPlaces 52 = .ok (.aload_n 0, 1) := dk_42 (dk_at dksX0_laysPlaces_2 6 rfl rfl)
theorem dX0_laysPlaces_53 : decode cX0_laysPlaces 53 = .ok (.getfield 71, 3) := dk_180 0 71 (dk_at dksX0_laysPlaces_2 7 rfl rfl)
theorem dX0_laysPlaces_56 : decode cX0_laysPlaces 56 = .ok (.if_icmp .ge 115, 3) := dk_162 0 115 (dk_at dksX0_laysPlaces_2 10 rfl rfl)
theorem dX0_laysPlaces_59 : decode cX0_laysPlaces 59 = .ok (.iload_n 3, 1) := dk_29 (dk_at dksX0_laysPlaces_2 13 rfl rfl)
theorem dX0_laysPlaces_60 : decode cX0_laysPlaces 60 = .ok (.aload_n 2, 1) := dk_44 (dk_at dksX0_laysPlaces_2 14 rfl rfl)
theorem dX0_laysPlaces_61 : decode cX0_laysPlaces 61 = .ok (.getfield 77, 3) := dk_180 0 77 (dk_at dksX0_laysPlaces_2 15 rfl rfl)
theorem dX0_laysPlaces_64 : decode cX0_laysPlaces 64 = .ok (.if_icmp .ne 7, 3) := dk_160 0 7 (dk_at dksX0_laysPlaces_2 18 rfl rfl)
theorem dX0_laysPlaces_67 : decode cX0_laysPlaces 67 = .ok (.iconst (-1), 1) := dk_2 (dk_at dksX0_laysPlaces_2 21 rfl rfl)
theorem dX0_laysPlaces_68 : decode cX0_laysPlaces 68 = .ok (.goto 30, 3) := dk_167 0 30 (dk_at dksX0_laysPlaces_3 0 rfl rfl)
theorem dX0_laysPlaces_71 : decode cX0_laysPlaces 71 = .ok (.aload_n 0, 1) := dk_42 (dk_at dksX0_laysPlaces_3 3 rfl rfl)
theorem dX0_laysPlaces_72 : decode cX0_laysPlaces 72 = .ok (.getfield 19, 3) := dk_180 0 19 (dk_at dksX0_laysPlaces_3 4 rfl rfl)
theorem dX0_laysPlaces_75 : decode cX0_laysPlaces 75 = .ok (.getfield 80, 3) := dk_180 0 80 (dk_at dksX0_laysPlaces_3 7 rfl rfl)
theorem dX0_laysPlaces_78 : decode cX0_laysPlaces 78 = .ok (.iload_n 1, 1) := dk_27 (dk_at dksX0_laysPlaces_3 10 rfl rfl)
theorem dX0_laysPlaces_79 : decode cX0_laysPlaces 79 = .ok (.aaload, 1) := dk_50 (dk_at dksX0_laysPlaces_3 11 rfl rfl)
theorem dX0_laysPlaces_80 : decode cX0_laysPlaces 80 = .ok (.getfield 49, 3) := dk_180 0 49 (dk_at dksX0_laysPlaces_3 12 rfl rfl)
theorem dX0_laysPlaces_83 : decode cX0_laysPlaces 83 = .ok (.aload_n 2, 1) := dk_44 (dk_at dksX0_laysPlaces_3 15 rfl rfl)
theorem dX0_laysPlaces_84 : decode cX0_laysPlaces 84 = .ok (.getfield 84, 3) := dk_180 0 84 (dk_at dksX0_laysPlaces_3 16 rfl rfl)
theorem dX0_laysPlaces_87 : decode cX0_laysPlaces 87 = .ok (.iload_n 3, 1) := dk_29 (dk_at dksX0_laysPlaces_3 19 rfl rfl)
theorem dX0_laysPlaces_88 : decode cX0_laysPlaces 88 = .ok (.iaload, 1) := dk_46 (dk_at dksX0_laysPlaces_3 20 rfl rfl)
theorem dX0_laysPlaces_89 : decode cX0_laysPlaces 89 = .ok (.aload_n 2, 1) := dk_44 (dk_at dksX0_laysPlaces_3 21 rfl rfl)
theorem dX0_laysPlaces_90 : decode cX0_laysPlaces 90 = .ok (.getfield 87, 3) := dk_180 0 87 (dk_at dksX0_laysPlaces_4 0 rfl rfl)
theorem dX0_laysPlaces_93 : decode cX0_laysPlaces 93 = .ok (.iload_n 3, 1) := dk_29 (dk_at dksX0_laysPlaces_4 3 rfl rfl)
theorem dX0_laysPlaces_94 : decode cX0_laysPlaces 94 = .ok (.iaload, 1) := dk_46 (dk_at dksX0_laysPlaces_4 4 rfl rfl)
theorem dX0_laysPlaces_95 : decode cX0_laysPlaces 95 = .ok (.invokestatic 14, 3) := dk_184 0 14 (dk_at dksX0_laysPlaces_4 5 rfl rfl)
theorem dX0_laysPlaces_98 : decode cX0_laysPlaces 98 = .ok (.istore 4, 2) := dk_54 4 (dk_at dksX0_laysPlaces_4 8 rfl rfl)
theorem dX0_laysPlaces_100 : decode cX0_laysPlaces 100 = .ok (.aload_n 0, 1) := dk_42 (dk_at dksX0_laysPlaces_4 10 rfl rfl)
theorem dX0_laysPlaces_101 : decode cX0_laysPlaces 101 = .ok (.getfield 42, 3) := dk_180 0 42 (dk_at dksX0_laysPlaces_4 11 rfl rfl)
theorem dX0_laysPlaces_104 : decode cX0_laysPlaces 104 = .ok (.iload_n 3, 1) := dk_29 (dk_at dksX0_laysPlaces_4 14 rfl rfl)
theorem dX0_laysPlaces_105 : decode cX0_laysPlaces 105 = .ok (.iload 4, 2) := dk_21 4 (dk_at dksX0_laysPlaces_4 15 rfl rfl)
theorem dX0_laysPlaces_107 : decode cX0_laysPlaces 107 = .ok (.ifCond .lt 21, 3) := dk_155 0 21 (dk_at dksX0_laysPlaces_4 17 rfl rfl)
theorem dX0_laysPlaces_110 : decode cX0_laysPlaces 110 = .ok (.aload_n 0, 1) := dk_42 (dk_at dksX0_laysPlaces_4 20 rfl rfl)
theorem dX0_laysPlaces_111 : decode cX0_laysPlaces 111 = .ok (.getfield 19, 3) := dk_180 0 19 (dk_at dksX0_laysPlaces_4 21 rfl rfl)
theorem dX0_laysPlaces_114 : decode cX0_laysPlaces 114 = .ok (.getfield 23, 3) := dk_180 0 23 (dk_at dksX0_laysPlaces_5 0 rfl rfl)
theorem dX0_laysPlaces_117 : decode cX0_laysPlaces 117 = .ok (.iload 4, 2) := dk_21 4 (dk_at dksX0_laysPlaces_5 3 rfl rfl)
theorem dX0_laysPlaces_119 : decode cX0_laysPlaces 119 = .ok (.baload, 1) := dk_51 (dk_at dksX0_laysPlaces_5 5 rfl rfl)
theorem dX0_laysPlaces_120 : decode cX0_laysPlaces 120 = .ok (.ifCond .ne 8, 3) := dk_154 0 8 (dk_at dksX0_laysPlaces_5 6 rfl rfl)
theorem dX0_laysPlaces_123 : decode cX0_laysPlaces 123 = .ok (.iload 4, 2) := dk_21 4 (dk_at dksX0_laysPlaces_5 9 rfl rfl)
theorem dX0_laysPlaces_125 : decode cX0_laysPlaces 125 = .ok (.goto 4, 3) := dk_167 0 4 (dk_at dksX0_laysPlaces_5 11 rfl rfl)
theorem dX0_laysPlaces_128 : decode cX0_laysPlaces 128 = .ok (.iconst (-1), 1) := dk_2 (dk_at dksX0_laysPlaces_5 14 rfl rfl)
theorem dX0_laysPlaces_129 : decode cX0_laysPlaces 129 = .ok (.iastore, 1) := dk_79 (dk_at dksX0_laysPlaces_5 15 rfl rfl)
theorem dX0_laysPlaces_130 : decode cX0_laysPlaces 130 = .ok (.aload_n 0, 1) := dk_42 (dk_at dksX0_laysPlaces_5 16 rfl rfl)
theorem dX0_laysPlaces_131 : decode cX0_laysPlaces 131 = .ok (.getfield 42, 3) := dk_180 0 42 (dk_at dksX0_laysPlaces_5 17 rfl rfl)
theorem dX0_laysPlaces_134 : decode cX0_laysPlaces 134 = .ok (.iload_n 3, 1) := dk_29 (dk_at dksX0_laysPlaces_5 20 rfl rfl)
theorem dX0_laysPlaces_135 : decode cX0_laysPlaces 135 = .ok (.iaload, 1) := dk_46 (dk_at dksX0_laysPlaces_5 21 rfl rfl)
theorem dX0_laysPlaces_136 : decode cX0_laysPlaces 136 = .ok (.ifCond .lt 29, 3) := dk_155 0 29 (dk_at dksX0_laysPlaces_6 0 rfl rfl)
theorem dX0_laysPlaces_139 : decode cX0_laysPlaces 139 = .ok (.aload_n 0, 1) := dk_42 (dk_at dksX0_laysPlaces_6 3 rfl rfl)
theorem dX0_laysPlaces_140 : decode cX0_laysPlaces 140 = .ok (.dup, 1) := dk_89 (dk_at dksX0_laysPlaces_6 4 rfl rfl)
theorem dX0_laysPlaces_141 : decode cX0_laysPlaces 141 = .ok (.getfield 74, 3) := dk_180 0 74 (dk_at dksX0_laysPlaces_6 5 rfl rfl)
theorem dX0_laysPlaces_144 : decode cX0_laysPlaces 144 = .ok (.iconst 1, 1) := dk_4 (dk_at dksX0_laysPlaces_6 8 rfl rfl)
theorem dX0_laysPlaces_145 : decode cX0_laysPlaces 145 = .ok (.iadd, 1) := dk_96 (dk_at dksX0_laysPlaces_6 9 rfl rfl)
theorem dX0_laysPlaces_146 : decode cX0_laysPlaces 146 = .ok (.putfield 74, 3) := dk_181 0 74 (dk_at dksX0_laysPlaces_6 10 rfl rfl)
theorem dX0_laysPlaces_149 : decode cX0_laysPlaces 149 = .ok (.aload_n 0, 1) := dk_42 (dk_at dksX0_laysPlaces_6 13 rfl rfl)
theorem dX0_laysPlaces_150 : decode cX0_laysPlaces 150 = .ok (.aload_n 0, 1) := dk_42 (dk_at dksX0_laysPlaces_6 14 rfl rfl)
theorem dX0_laysPlaces_151 : decode cX0_laysPlaces 151 = .ok (.getfield 42, 3) := dk_180 0 42 (dk_at dksX0_laysPlaces_6 15 rfl rfl)
theorem dX0_laysPlaces_154 : decode cX0_laysPlaces 154 = .ok (.iload_n 3, 1) := dk_29 (dk_at dksX0_laysPlaces_6 18 rfl rfl)
theorem dX0_laysPlaces_155 : decode cX0_laysPlaces 155 = .ok (.iaload, 1) := dk_46 (dk_at dksX0_laysPlaces_6 19 rfl rfl)
theorem dX0_laysPlaces_156 : decode cX0_laysPlaces 156 = .ok (.aload_n 0, 1) := dk_42 (dk_at dksX0_laysPlaces_6 20 rfl rfl)
theorem dX0_laysPlaces_157 : decode cX0_laysPlaces 157 = .ok (.getfield 45, 3) := dk_180 0 45 (dk_at dksX0_laysPlaces_6 21 rfl rfl)
theorem dX0_laysPlaces_160 : decode cX0_laysPlaces 160 = .ok (.iload_n 3, 1) := dk_29 (dk_at dksX0_laysPlaces_7 0 rfl rfl)
theorem dX0_laysPlaces_161 : decode cX0_laysPlaces 161 = .ok (.aaload, 1) := dk_50 (dk_at dksX0_laysPlaces_7 1 rfl rfl)
theorem dX0_laysPlaces_162 : decode cX0_laysPlaces 162 = .ok (.invokevirtual 90, 3) := dk_182 0 90 (dk_at dksX0_laysPlaces_7 2 rfl rfl)
theorem dX0_laysPlaces_165 : decode cX0_laysPlaces 165 = .ok (.iinc 3 1, 3) := dk_132 3 1 (dk_at dksX0_laysPlaces_7 5 rfl rfl)
theorem dX0_laysPlaces_168 : decode cX0_laysPlaces 168 = .ok (.goto (-117), 3) := dk_167 255 139 (dk_at dksX0_laysPlaces_7 8 rfl rfl)
theorem dX0_laysPlaces_171 : decode cX0_laysPlaces 171 = .ok (.return_, 1) := dk_177 (dk_at dksX0_laysPlaces_7 11 rfl rfl)
abbrev cX0_best : ByteArray := prog_1_method_8_code
def yX0_best : MethodName := ⟨RX0, "best", "(LSwarmPlanner$Chain;I)I"⟩
def dkwX0_best_0 : List UInt8 := [42, 199, 0, 7, 3, 167, 0, 8, 42, 27, 182, 0, 36, 172]
abbrev dktX0_best_0 : List UInt8 := dkwX0_best_0 ++ []
theorem dksX0_best_0 : cX0_best.data.toList.drop 0 = dktX0_best_0 := by decide +kernel
theorem dX0_best_0 : decode cX0_best 0 = .ok (.aload_n 0, 1) := dk_42 (dk_at dksX0_best_0 0 rfl rfl)
theorem dX0_best_1 : decode cX0_best 1 = .ok (.ifnonnull 7, 3) := dk_199 0 7 (dk_at dksX0_best_0 1 rfl rfl)
theorem dX0_best_4 : decode cX0_best 4 = .ok (.iconst 0, 1) := dk_3 (dk_at dksX0_best_0 4 rfl rfl)
theorem dX0_best_5 : decode cX0_best 5 = .ok (.goto 8, 3) := dk_167 0 8 (dk_at dksX0_best_0 5 rfl rfl)
theorem dX0_best_8 : decode cX0_best 8 = .ok (.aload_n 0, 1) := dk_42 (dk_at dksX0_best_0 8 rfl rfl)
theorem dX0_best_9 : decode cX0_best 9 = .ok (.iload_n 1, 1) := dk_27 (dk_at dksX0_best_0 9 rfl rfl)
theorem dX0_best_10 : decode cX0_best 10 = .ok (.invokevirtual 36, 3) := dk_182 0 36 (dk_at dksX0_best_0 10 rfl rfl)
theorem dX0_best_13 : decode cX0_best 13 = .ok (.ireturn, 1) := dk_172 (dk_at dksX0_best_0 13 rfl rfl)
abbrev cX0_isGiveable : ByteArray := prog_1_method_9_code
def yX0_isGiveable : MethodName := ⟨RX0, "isGiveable", "(IILSwarmPlanner$Member;)Z"⟩
def dkwX0_isGiveable_1 : List UInt8 := [180, 0, 49, 46, 18, 18, 162, 0, 7, 4, 167, 0, 4, 3, 172]
abbrev dktX0_isGiveable_1 : List UInt8 := dkwX0_isGiveable_1 ++ []
def dkwX0_isGiveable_0 : List UInt8 := [42, 180, 0, 42, 27, 46, 155, 0, 31, 28, 27, 122, 4, 126, 154, 0, 23, 42, 180, 0, 45, 27, 50, 45]
abbrev dktX0_isGiveable_0 : List UInt8 := dkwX0_isGiveable_0 ++ dktX0_isGiveable_1
theorem dksX0_isGiveable_0 : cX0_isGiveable.data.toList.drop 0 = dktX0_isGiveable_0 := by decide +kernel
theorem dksX0_isGiveable_1 : cX0_isGiveable.data.toList.drop 24 = dktX0_isGiveable_1 := dk_seg dksX0_isGiveable_0 24 rfl rfl
theorem dX0_isGiveable_0 : decode cX0_isGiveable 0 = .ok (.aload_n 0, 1) := dk_42 (dk_at dksX0_isGiveable_0 0 rfl rfl)
theorem dX0_isGiveable_1 : decode cX0_isGiveable 1 = .ok (.getfield 42, 3) := dk_180 0 42 (dk_at dksX0_isGiveable_0 1 rfl rfl)
theorem dX0_isGiveable_4 : decode cX0_isGiveable 4 = .ok (.iload_n 1, 1) := dk_27 (dk_at dksX0_isGiveable_0 4 rfl rfl)
theorem dX0_isGiveable_5 : decode cX0_isGiveable 5 = .ok (.iaload, 1) := dk_46 (dk_at dksX0_isGiveable_0 5 rfl rfl)
theorem dX0_isGiveable_6 : decode cX0_isGiveable 6 = .ok (.ifCond .lt 31, 3) := dk_155 0 31 (dk_at dksX0_isGiveable_0 6 rfl rfl)
theorem dX0_isGiveable_9 : decode cX0_isGiveable 9 = .ok (.iload_n 2, 1) := dk_28 (dk_at dksX0_isGiveable_0 9 rfl rfl)
theorem dX0_isGiveable_10 : decode cX0_isGiveable 10 = .ok (.iload_n 1, 1) := dk_27 (dk_at dksX0_isGiveable_0 10 rfl rfl)
theorem dX0_isGiveable_11 : decode cX0_isGiveable 11 = .ok (.ishr, 1) := dk_122 (dk_at dksX0_isGiveable_0 11 rfl rfl)
theorem dX0_isGiveable_12 : decode cX0_isGiveable 12 = .ok (.iconst 1, 1) := dk_4 (dk_at dksX0_isGiveable_0 12 rfl rfl)
theorem dX0_isGiveable_13 : decode cX0_isGiveable 13 = .ok (.iand, 1) := dk_126 (dk_at dksX0_isGiveable_0 13 rfl rfl)
theorem dX0_isGiveable_14 : decode cX0_isGiveable 14 = .ok (.ifCond .ne 23, 3) := dk_154 0 23 (dk_at dksX0_isGiveable_0 14 rfl rfl)
theorem dX0_isGiveable_17 : decode cX0_isGiveable 17 = .ok (.aload_n 0, 1) := dk_42 (dk_at dksX0_isGiveable_0 17 rfl rfl)
theorem dX0_isGiveable_18 : decode cX0_isGiveable 18 = .ok (.getfield 45, 3) := dk_180 0 45 (dk_at dksX0_isGiveable_0 18 rfl rfl)
theorem dX0_isGiveable_21 : decode cX0_isGiveable 21 = .ok (.iload_n 1, 1) := dk_27 (dk_at dksX0_isGiveable_0 21 rfl rfl)
theorem dX0_isGiveable_22 : decode cX0_isGiveable 22 = .ok (.aaload, 1) := dk_50 (dk_at dksX0_isGiveable_0 22 rfl rfl)
theorem dX0_isGiveable_23 : decode cX0_isGiveable 23 = .ok (.aload_n 3, 1) := dk_45 (dk_at dksX0_isGiveable_0 23 rfl rfl)
theorem dX0_isGiveable_24 : decode cX0_isGiveable 24 = .ok (.getfield 49, 3) := dk_180 0 49 (dk_at dksX0_isGiveable_1 0 rfl rfl)
theorem dX0_isGiveable_27 : decode cX0_isGiveable 27 = .ok (.iaload, 1) := dk_46 (dk_at dksX0_isGiveable_1 3 rfl rfl)
theorem dX0_isGiveable_28 : decode cX0_isGiveable 28 = .ok (.ldc 18, 2) := dk_18 18 (dk_at dksX0_isGiveable_1 4 rfl rfl)
theorem dX0_isGiveable_30 : decode cX0_isGiveable 30 = .ok (.if_icmp .ge 7, 3) := dk_162 0 7 (dk_at dksX0_isGiveable_1 6 rfl rfl)
theorem dX0_isGiveable_33 : decode cX0_isGiveable 33 = .ok (.iconst 1, 1) := dk_4 (dk_at dksX0_isGiveable_1 9 rfl rfl)
theorem dX0_isGiveable_34 : decode cX0_isGiveable 34 = .ok (.goto 4, 3) := dk_167 0 4 (dk_at dksX0_isGiveable_1 10 rfl rfl)
theorem dX0_isGiveable_37 : decode cX0_isGiveable 37 = .ok (.iconst 0, 1) := dk_3 (dk_at dksX0_isGiveable_1 13 rfl rfl)
theorem dX0_isGiveable_38 : decode cX0_isGiveable 38 = .ok (.ireturn, 1) := dk_172 (dk_at dksX0_isGiveable_1 14 rfl rfl)
abbrev cX0_begins : ByteArray := prog_1_method_28_code
def yX0_begins : MethodName := ⟨RX0, "begins", "(LSwarmPlanner$Member;I)V"⟩
def dkwX0_begins_1 : List UInt8 := [180, 0, 109, 46, 156, 0, 7, 5, 167, 0, 4, 4, 181, 0, 170, 177]
abbrev dktX0_begins_1 : List UInt8 := dkwX0_begins_1 ++ []
def dkwX0_begins_0 : List UInt8 := [43, 89, 180, 0, 193, 4, 96, 181, 0, 193, 43, 180, 0, 109, 28, 159, 0, 24, 43, 42, 180, 0, 98, 43]
abbrev dktX0_begins_0 : List UInt8 := dkwX0_begins_0 ++ dktX0_begins_1
theorem dksX0_begins_0 : cX0_begins.data.toList.drop 0 = dktX0_begins_0 := by decide +kernel
theorem dksX0_begins_1 : cX0_begins.data.toList.drop 24 = dktX0_begins_1 := dk_seg dksX0_begins_0 24 rfl rfl
theorem dX0_begins_0 : decode cX0_begins 0 = .ok (.aload_n 1, 1) := dk_43 (dk_at dksX0_begins_0 0 rfl rfl)
theorem dX0_begins_1 : decode cX0_begins 1 = .ok (.dup, 1) := dk_89 (dk_at dksX0_begins_0 1 rfl rfl)
theorem dX0_begins_2 : decode cX0_begins 2 = .ok (.getfield 193, 3) := dk_180 0 193 (dk_at dksX0_begins_0 2 rfl rfl)
theorem dX0_begins_5 : decode cX0_begins 5 = .ok (.iconst 1, 1) := dk_4 (dk_at dksX0_begins_0 5 rfl rfl)
theorem dX0_begins_6 : decode cX0_begins 6 = .ok (.iadd, 1) := dk_96 (dk_at dksX0_begins_0 6 rfl rfl)
theorem dX0_begins_7 : decode cX0_begins 7 = .ok (.putfield 193, 3) := dk_181 0 193 (dk_at dksX0_begins_0 7 rfl rfl)
theorem dX0_begins_10 : decode cX0_begins 10 = .ok (.aload_n 1, 1) := dk_43 (dk_at dksX0_begins_0 10 rfl rfl)
theorem dX0_begins_11 : decode cX0_begins 11 = .ok (.getfield 109, 3) := dk_180 0 109 (dk_at dksX0_begins_0 11 rfl rfl)
theorem dX0_begins_14 : decode cX0_begins 14 = .ok (.iload_n 2, 1) := dk_28 (dk_at dksX0_begins_0 14 rfl rfl)
theorem dX0_begins_15 : decode cX0_begins 15 = .ok (.if_icmp .eq 24, 3) := dk_159 0 24 (dk_at dksX0_begins_0 15 rfl rfl)
theorem dX0_begins_18 : decode cX0_begins 18 = .ok (.aload_n 1, 1) := dk_43 (dk_at dksX0_begins_0 18 rfl rfl)
theorem dX0_begins_19 : decode cX0_begins 19 = .ok (.aload_n 0, 1) := dk_42 (dk_at dksX0_begins_0 19 rfl rfl)
theorem dX0_begins_20 : decode cX0_begins 20 = .ok (.getfield 98, 3) := dk_180 0 98 (dk_at dksX0_begins_0 20 rfl rfl)
theorem dX0_begins_23 : decode cX0_begins 23 = .ok (.aload_n 1, 1) := dk_43 (dk_at dksX0_begins_0 23 rfl rfl)
theorem dX0_begins_24 : decode cX0_begins 24 = .ok (.getfield 109, 3) := dk_180 0 109 (dk_at dksX0_begins_1 0 rfl rfl)
theorem dX0_begins_27 : decode cX0_begins 27 = .ok (.iaload, 1) := dk_46 (dk_at dksX0_begins_1 3 rfl rfl)
theorem dX0_begins_28 : decode cX0_begins 28 = .ok (.ifCond .ge 7, 3) := dk_156 0 7 (dk_at dksX0_begins_1 4 rfl rfl)
theorem dX0_begins_31 : decode cX0_begins 31 = .ok (.iconst 2, 1) := dk_5 (dk_at dksX0_begins_1 7 rfl rfl)
theorem dX0_begins_32 : decode cX0_begins 32 = .ok (.goto 4, 3) := dk_167 0 4 (dk_at dksX0_begins_1 8 rfl rfl)
theorem dX0_begins_35 : decode cX0_begins 35 = .ok (.iconst 1, 1) := dk_4 (dk_at dksX0_begins_1 11 rfl rfl)
theorem dX0_begins_36 : decode cX0_begins 36 = .ok (.putfield 170, 3) := dk_181 0 170 (dk_at dksX0_begins_1 12 rfl rfl)
theorem dX0_begins_39 : decode cX0_begins 39 = .ok (.return_, 1) := dk_177 (dk_at dksX0_begins_1 15 rfl rfl)
abbrev cX0_distanceOf : ByteArray := prog_1_method_13_code
def yX0_distanceOf : MethodName := ⟨RX0, "distanceOf", "(LSwarmPlanner$Member;)I"⟩
def dkwX0_distanceOf_1 : List UInt8 := [180, 0, 98, 43, 180, 0, 109, 46, 50, 43, 180, 0, 49, 46, 172]
abbrev dktX0_distanceOf_1 : List UInt8 := dkwX0_distanceOf_1 ++ []
def dkwX0_distanceOf_0 : List UInt8 := [42, 180, 0, 98, 43, 180, 0, 109, 46, 156, 0, 8, 16, 251, 167, 0, 22, 42, 180, 0, 45, 42]
abbrev dktX0_distanceOf_0 : List UInt8 := dkwX0_distanceOf_0 ++ dktX0_distanceOf_1
theorem dksX0_distanceOf_0 : cX0_distanceOf.data.toList.drop 0 = dktX0_distanceOf_0 := by decide +kernel
theorem dksX0_distanceOf_1 : cX0_distanceOf.data.toList.drop 22 = dktX0_distanceOf_1 := dk_seg dksX0_distanceOf_0 22 rfl rfl
theorem dX0_distanceOf_0 : decode cX0_distanceOf 0 = .ok (.aload_n 0, 1) := dk_42 (dk_at dksX0_distanceOf_0 0 rfl rfl)
theorem dX0_distanceOf_1 : decode cX0_distanceOf 1 = .ok (.getfield 98, 3) := dk_180 0 98 (dk_at dksX0_distanceOf_0 1 rfl rfl)
theorem dX0_distanceOf_4 : decode cX0_distanceOf 4 = .ok (.aload_n 1, 1) := dk_43 (dk_at dksX0_distanceOf_0 4 rfl rfl)
theorem dX0_distanceOf_5 : decode cX0_distanceOf 5 = .ok (.getfield 109, 3) := dk_180 0 109 (dk_at dksX0_distanceOf_0 5 rfl rfl)
theorem dX0_distanceOf_8 : decode cX0_distanceOf 8 = .ok (.iaload, 1) := dk_46 (dk_at dksX0_distanceOf_0 8 rfl rfl)
theorem dX0_distanceOf_9 : decode cX0_distanceOf 9 = .ok (.ifCond .ge 8, 3) := dk_156 0 8 (dk_at dksX0_distanceOf_0 9 rfl rfl)
theorem dX0_distanceOf_12 : decode cX0_distanceOf 12 = .ok (.bipush (-5), 2) := dk_16 251 (dk_at dksX0_distanceOf_0 12 rfl rfl)
theorem dX0_distanceOf_14 : decode cX0_distanceOf 14 = .ok (.goto 22, 3) := dk_167 0 22 (dk_at dksX0_distanceOf_0 14 rfl rfl)
theorem dX0_distanceOf_17 : decode cX0_distanceOf 17 = .ok (.aload_n 0, 1) := dk_42 (dk_at dksX0_distanceOf_0 17 rfl rfl)
theorem dX0_distanceOf_18 : decode cX0_distanceOf 18 = .ok (.getfield 45, 3) := dk_180 0 45 (dk_at dksX0_distanceOf_0 18 rfl rfl)
theorem dX0_distanceOf_21 : decode cX0_distanceOf 21 = .ok (.aload_n 0, 1) := dk_42 (dk_at dksX0_distanceOf_0 21 rfl rfl)
theorem dX0_distanceOf_22 : decode cX0_distanceOf 22 = .ok (.getfield 98, 3) := dk_180 0 98 (dk_at dksX0_distanceOf_1 0 rfl rfl)
theorem dX0_distanceOf_25 : decode cX0_distanceOf 25 = .ok (.aload_n 1, 1) := dk_43 (dk_at dksX0_distanceOf_1 3 rfl rfl)
theorem dX0_distanceOf_26 : decode cX0_distanceOf 26 = .ok (.getfield 109, 3) := dk_180 0 109 (dk_at dksX0_distanceOf_1 4 rfl rfl)
theorem dX0_distanceOf_29 : decode cX0_distanceOf 29 = .ok (.iaload, 1) := dk_46 (dk_at dksX0_distanceOf_1 7 rfl rfl)
theorem dX0_distanceOf_30 : decode cX0_distanceOf 30 = .ok (.aaload, 1) := dk_50 (dk_at dksX0_distanceOf_1 8 rfl rfl)
theorem dX0_distanceOf_31 : decode cX0_distanceOf 31 = .ok (.aload_n 1, 1) := dk_43 (dk_at dksX0_distanceOf_1 9 rfl rfl)
theorem dX0_distanceOf_32 : decode cX0_distanceOf 32 = .ok (.getfield 49, 3) := dk_180 0 49 (dk_at dksX0_distanceOf_1 10 rfl rfl)
theorem dX0_distanceOf_35 : decode cX0_distanceOf 35 = .ok (.iaload, 1) := dk_46 (dk_at dksX0_distanceOf_1 13 rfl rfl)
theorem dX0_distanceOf_36 : decode cX0_distanceOf 36 = .ok (.ireturn, 1) := dk_172 (dk_at dksX0_distanceOf_1 14 rfl rfl)
abbrev cX0_acts : ByteArray := prog_1_method_27_code
def yX0_acts : MethodName := ⟨RX0, "acts", "(LSwarmPlanner$Member;)V"⟩
def dkwX0_acts_3 : List UInt8 := [92, 46, 4, 96, 79, 42, 43, 182, 0, 190, 42, 45, 182, 0, 190, 177]
abbrev dktX0_acts_3 : List UInt8 := dkwX0_acts_3 ++ []
def dkwX0_acts_2 : List UInt8 := [182, 0, 183, 181, 0, 170, 177, 42, 180, 0, 19, 43, 45, 182, 0, 186, 42, 180, 0, 19, 180, 0, 141, 6]
abbrev dktX0_acts_2 : List UInt8 := dkwX0_acts_2 ++ dktX0_acts_3
def dkwX0_acts_1 : List UInt8 := [92, 46, 4, 96, 79, 43, 3, 181, 0, 170, 177, 42, 43, 182, 0, 179, 78, 45, 199, 0, 13, 43, 42, 43]
abbrev dktX0_acts_1 : List UInt8 := dkwX0_acts_1 ++ dktX0_acts_2
def dkwX0_acts_0 : List UInt8 := [42, 43, 182, 0, 176, 61, 28, 155, 0, 28, 42, 43, 28, 182, 0, 153, 42, 180, 0, 19, 180, 0, 141, 4]
abbrev dktX0_acts_0 : List UInt8 := dkwX0_acts_0 ++ dktX0_acts_1
theorem dksX0_acts_0 : cX0_acts.data.toList.drop 0 = dktX0_acts_0 := by decide +kernel
theorem dksX0_acts_1 : cX0_acts.data.toList.drop 24 = dktX0_acts_1 := dk_seg dksX0_acts_0 24 rfl rfl
theorem dksX0_acts_2 : cX0_acts.data.toList.drop 48 = dktX0_acts_2 := dk_seg dksX0_acts_1 24 rfl rfl
theorem dksX0_acts_3 : cX0_acts.data.toList.drop 72 = dktX0_acts_3 := dk_seg dksX0_acts_2 24 rfl rfl
theorem dX0_acts_0 : decode cX0_acts 0 = .ok (.aload_n 0, 1) := dk_42 (dk_at dksX0_acts_0 0 rfl rfl)
theorem dX0_acts_1 : decode cX0_acts 1 = .ok (.aload_n 1, 1) := dk_43 (dk_at dksX0_acts_0 1 rfl rfl)
theorem dX0_acts_2 : decode cX0_acts 2 = .ok (.invokevirtual 176, 3) := dk_182 0 176 (dk_at dksX0_acts_0 2 rfl rfl)
theorem dX0_acts_5 : decode cX0_acts 5 = .ok (.istore_n 2, 1) := dk_61 (dk_at dksX0_acts_0 5 rfl rfl)
theorem dX0_acts_6 : decode cX0_acts 6 = .ok (.iload_n 2, 1) := dk_28 (dk_at dksX0_acts_0 6 rfl rfl)
theorem dX0_acts_7 : decode cX0_acts 7 = .ok (.ifCond .lt 28, 3) := dk_155 0 28 (dk_at dksX0_acts_0 7 rfl rfl)
theorem dX0_acts_10 : decode cX0_acts 10 = .ok (.aload_n 0, 1) := dk_42 (dk_at dksX0_acts_0 10 rfl rfl)
theorem dX0_acts_11 : decode cX0_acts 11 = .ok (.aload_n 1, 1) := dk_43 (dk_at dksX0_acts_0 11 rfl rfl)
theorem dX0_acts_12 : decode cX0_acts 12 = .ok (.iload_n 2, 1) := dk_28 (dk_at dksX0_acts_0 12 rfl rfl)
theorem dX0_acts_13 : decode cX0_acts 13 = .ok (.invokevirtual 153, 3) := dk_182 0 153 (dk_at dksX0_acts_0 13 rfl rfl)
theorem dX0_acts_16 : decode cX0_acts 16 = .ok (.aload_n 0, 1) := dk_42 (dk_at dksX0_acts_0 16 rfl rfl)
theorem dX0_acts_17 : decode cX0_acts 17 = .ok (.getfield 19, 3) := dk_180 0 19 (dk_at dksX0_acts_0 17 rfl rfl)
theorem dX0_acts_20 : decode cX0_acts 20 = .ok (.getfield 141, 3) := dk_180 0 141 (dk_at dksX0_acts_0 20 rfl rfl)
theorem dX0_acts_23 : decode cX0_acts 23 = .ok (.iconst 1, 1) := dk_4 (dk_at dksX0_acts_0 23 rfl rfl)
theorem dX0_acts_24 : decode cX0_acts 24 = .ok (.dup2, 1) := dk_92 (dk_at dksX0_acts_1 0 rfl rfl)
theorem dX0_acts_25 : decode cX0_acts 25 = .ok (.iaload, 1) := dk_46 (dk_at dksX0_acts_1 1 rfl rfl)
theorem dX0_acts_26 : decode cX0_acts 26 = .ok (.iconst 1, 1) := dk_4 (dk_at dksX0_acts_1 2 rfl rfl)
theorem dX0_acts_27 : decode cX0_acts 27 = .ok (.iadd, 1) := dk_96 (dk_at dksX0_acts_1 3 rfl rfl)
theorem dX0_acts_28 : decode cX0_acts 28 = .ok (.iastore, 1) := dk_79 (dk_at dksX0_acts_1 4 rfl rfl)
theorem dX0_acts_29 : decode cX0_acts 29 = .ok (.aload_n 1, 1) := dk_43 (dk_at dksX0_acts_1 5 rfl rfl)
theorem dX0_acts_30 : decode cX0_acts 30 = .ok (.iconst 0, 1) := dk_3 (dk_at dksX0_acts_1 6 rfl rfl)
theorem dX0_acts_31 : decode cX0_acts 31 = .ok (.putfield 170, 3) := dk_181 0 170 (dk_at dksX0_acts_1 7 rfl rfl)
theorem dX0_acts_34 : decode cX0_acts 34 = .ok (.return_, 1) := dk_177 (dk_at dksX0_acts_1 10 rfl rfl)
theorem dX0_acts_35 : decode cX0_acts 35 = .ok (.aload_n 0, 1) := dk_42 (dk_at dksX0_acts_1 11 rfl rfl)
theorem dX0_acts_36 : decode cX0_acts 36 = .ok (.aload_n 1, 1) := dk_43 (dk_at dksX0_acts_1 12 rfl rfl)
theorem dX0_acts_37 : decode cX0_acts 37 = .ok (.invokevirtual 179, 3) := dk_182 0 179 (dk_at dksX0_acts_1 13 rfl rfl)
theorem dX0_acts_40 : decode cX0_acts 40 = .ok (.astore_n 3, 1) := dk_78 (dk_at dksX0_acts_1 16 rfl rfl)
theorem dX0_acts_41 : decode cX0_acts 41 = .ok (.aload_n 3, 1) := dk_45 (dk_at dksX0_acts_1 17 rfl rfl)
theorem dX0_acts_42 : decode cX0_acts 42 = .ok (.ifnonnull 13, 3) := dk_199 0 13 (dk_at dksX0_acts_1 18 rfl rfl)
theorem dX0_acts_45 : decode cX0_acts 45 = .ok (.aload_n 1, 1) := dk_43 (dk_at dksX0_acts_1 21 rfl rfl)
theorem dX0_acts_46 : decode cX0_acts 46 = .ok (.aload_n 0, 1) := dk_42 (dk_at dksX0_acts_1 22 rfl rfl)
theorem dX0_acts_47 : decode cX0_acts 47 = .ok (.aload_n 1, 1) := dk_43 (dk_at dksX0_acts_1 23 rfl rfl)
theorem dX0_acts_48 : decode cX0_acts 48 = .ok (.invokevirtual 183, 3) := dk_182 0 183 (dk_at dksX0_acts_2 0 rfl rfl)
theorem dX0_acts_51 : decode cX0_acts 51 = .ok (.putfield 170, 3) := dk_181 0 170 (dk_at dksX0_acts_2 3 rfl rfl)
theorem dX0_acts_54 : decode cX0_acts 54 = .ok (.return_, 1) := dk_177 (dk_at dksX0_acts_2 6 rfl rfl)
theorem dX0_acts_55 : decode cX0_acts 55 = .ok (.aload_n 0, 1) := dk_42 (dk_at dksX0_acts_2 7 rfl rfl)
theorem dX0_acts_56 : decode cX0_acts 56 = .ok (.getfield 19, 3) := dk_180 0 19 (dk_at dksX0_acts_2 8 rfl rfl)
theorem dX0_acts_59 : decode cX0_acts 59 = .ok (.aload_n 1, 1) := dk_43 (dk_at dksX0_acts_2 11 rfl rfl)
theorem dX0_acts_60 : decode cX0_acts 60 = .ok (.aload_n 3, 1) := dk_45 (dk_at dksX0_acts_2 12 rfl rfl)
theorem dX0_acts_61 : decode cX0_acts 61 = .ok (.invokevirtual 186, 3) := dk_182 0 186 (dk_at dksX0_acts_2 13 rfl rfl)
theorem dX0_acts_64 : decode cX0_acts 64 = .ok (.aload_n 0, 1) := dk_42 (dk_at dksX0_acts_2 16 rfl rfl)
theorem dX0_acts_65 : decode cX0_acts 65 = .ok (.getfield 19, 3) := dk_180 0 19 (dk_at dksX0_acts_2 17 rfl rfl)
theorem dX0_acts_68 : decode cX0_acts 68 = .ok (.getfield 141, 3) := dk_180 0 141 (dk_at dksX0_acts_2 20 rfl rfl)
theorem dX0_acts_71 : decode cX0_acts 71 = .ok (.iconst 3, 1) := dk_6 (dk_at dksX0_acts_2 23 rfl rfl)
theorem dX0_acts_72 : decode cX0_acts 72 = .ok (.dup2, 1) := dk_92 (dk_at dksX0_acts_3 0 rfl rfl)
theorem dX0_acts_73 : decode cX0_acts 73 = .ok (.iaload, 1) := dk_46 (dk_at dksX0_acts_3 1 rfl rfl)
theorem dX0_acts_74 : decode cX0_acts 74 = .ok (.iconst 1, 1) := dk_4 (dk_at dksX0_acts_3 2 rfl rfl)
theorem dX0_acts_75 : decode cX0_acts 75 = .ok (.iadd, 1) := dk_96 (dk_at dksX0_acts_3 3 rfl rfl)
theorem dX0_acts_76 : decode cX0_acts 76 = .ok (.iastore, 1) := dk_79 (dk_at dksX0_acts_3 4 rfl rfl)
theorem dX0_acts_77 : decode cX0_acts 77 = .ok (.aload_n 0, 1) := dk_42 (dk_at dksX0_acts_3 5 rfl rfl)
theorem dX0_acts_78 : decode cX0_acts 78 = .ok (.aload_n 1, 1) := dk_43 (dk_at dksX0_acts_3 6 rfl rfl)
theorem dX0_acts_79 : decode cX0_acts 79 = .ok (.invokevirtual 190, 3) := dk_182 0 190 (dk_at dksX0_acts_3 7 rfl rfl)
theorem dX0_acts_82 : decode cX0_acts 82 = .ok (.aload_n 0, 1) := dk_42 (dk_at dksX0_acts_3 10 rfl rfl)
theorem dX0_acts_83 : decode cX0_acts 83 = .ok (.aload_n 3, 1) := dk_45 (dk_at dksX0_acts_3 11 rfl rfl)
theorem dX0_acts_84 : decode cX0_acts 84 = .ok (.invokevirtual 190, 3) := dk_182 0 190 (dk_at dksX0_acts_3 12 rfl rfl)
theorem dX0_acts_87 : decode cX0_acts 87 = .ok (.return_, 1) := dk_177 (dk_at dksX0_acts_3 15 rfl rfl)
abbrev cX0_freeFor : ByteArray := prog_1_method_21_code
def yX0_freeFor : MethodName := ⟨RX0, "freeFor", "(LSwarmPlanner$Member;)I"⟩
def dkwX0_freeFor_1 : List UInt8 := [153, 0, 16, 42, 180, 0, 19, 29, 182, 0, 162, 153, 0, 5, 29, 172, 132, 2, 1, 167, 255, 217, 2, 172]
abbrev dktX0_freeFor_1 : List UInt8 := dkwX0_freeFor_1 ++ []
def dkwX0_freeFor_0 : List UInt8 := [3, 61, 28, 7, 162, 0, 40, 43, 180, 0, 49, 28, 184, 0, 32, 62, 42, 43, 29, 182, 0, 158]
abbrev dktX0_freeFor_0 : List UInt8 := dkwX0_freeFor_0 ++ dktX0_freeFor_1
theorem dksX0_freeFor_0 : cX0_freeFor.data.toList.drop 0 = dktX0_freeFor_0 := by decide +kernel
theorem dksX0_freeFor_1 : cX0_freeFor.data.toList.drop 22 = dktX0_freeFor_1 := dk_seg dksX0_freeFor_0 22 rfl rfl
theorem dX0_freeFor_0 : decode cX0_freeFor 0 = .ok (.iconst 0, 1) := dk_3 (dk_at dksX0_freeFor_0 0 rfl rfl)
theorem dX0_freeFor_1 : decode cX0_freeFor 1 = .ok (.istore_n 2, 1) := dk_61 (dk_at dksX0_freeFor_0 1 rfl rfl)
theorem dX0_freeFor_2 : decode cX0_freeFor 2 = .ok (.iload_n 2, 1) := dk_28 (dk_at dksX0_freeFor_0 2 rfl rfl)
theorem dX0_freeFor_3 : decode cX0_freeFor 3 = .ok (.iconst 4, 1) := dk_7 (dk_at dksX0_freeFor_0 3 rfl rfl)
theorem dX0_freeFor_4 : decode cX0_freeFor 4 = .ok (.if_icmp .ge 40, 3) := dk_162 0 40 (dk_at dksX0_freeFor_0 4 rfl rfl)
theorem dX0_freeFor_7 : decode cX0_freeFor 7 = .ok (.aload_n 1, 1) := dk_43 (dk_at dksX0_freeFor_0 7 rfl rfl)
theorem dX0_freeFor_8 : decode cX0_freeFor 8 = .ok (.getfield 49, 3) := dk_180 0 49 (dk_at dksX0_freeFor_0 8 rfl rfl)
theorem dX0_freeFor_11 : decode cX0_freeFor 11 = .ok (.iload_n 2, 1) := dk_28 (dk_at dksX0_freeFor_0 11 rfl rfl)
theorem dX0_freeFor_12 : decode cX0_freeFor 12 = .ok (.invokestatic 32, 3) := dk_184 0 32 (dk_at dksX0_freeFor_0 12 rfl rfl)
theorem dX0_freeFor_15 : decode cX0_freeFor 15 = .ok (.istore_n 3, 1) := dk_62 (dk_at dksX0_freeFor_0 15 rfl rfl)
theorem dX0_freeFor_16 : decode cX0_freeFor 16 = .ok (.aload_n 0, 1) := dk_42 (dk_at dksX0_freeFor_0 16 rfl rfl)
theorem dX0_freeFor_17 : decode cX0_freeFor 17 = .ok (.aload_n 1, 1) := dk_43 (dk_at dksX0_freeFor_0 17 rfl rfl)
theorem dX0_freeFor_18 : decode cX0_freeFor 18 = .ok (.iload_n 3, 1) := dk_29 (dk_at dksX0_freeFor_0 18 rfl rfl)
theorem dX0_freeFor_19 : decode cX0_freeFor 19 = .ok (.invokevirtual 158, 3) := dk_182 0 158 (dk_at dksX0_freeFor_0 19 rfl rfl)
theorem dX0_freeFor_22 : decode cX0_freeFor 22 = .ok (.ifCond .eq 16, 3) := dk_153 0 16 (dk_at dksX0_freeFor_1 0 rfl rfl)
theorem dX0_freeFor_25 : decode cX0_freeFor 25 = .ok (.aload_n 0, 1) := dk_42 (dk_at dksX0_freeFor_1 3 rfl rfl)
theorem dX0_freeFor_26 : decode cX0_freeFor 26 = .ok (.getfield 19, 3) := dk_180 0 19 (dk_at dksX0_freeFor_1 4 rfl rfl)
theorem dX0_freeFor_29 : decode cX0_freeFor 29 = .ok (.iload_n 3, 1) := dk_29 (dk_at dksX0_freeFor_1 7 rfl rfl)
theorem dX0_freeFor_30 : decode cX0_freeFor 30 = .ok (.invokevirtual 162, 3) := dk_182 0 162 (dk_at dksX0_freeFor_1 8 rfl rfl)
theorem dX0_freeFor_33 : decode cX0_freeFor 33 = .ok (.ifCond .eq 5, 3) := dk_153 0 5 (dk_at dksX0_freeFor_1 11 rfl rfl)
theorem dX0_freeFor_36 : decode cX0_freeFor 36 = .ok (.iload_n 3, 1) := dk_29 (dk_at dksX0_freeFor_1 14 rfl rfl)
theorem dX0_freeFor_37 : decode cX0_freeFor 37 = .ok (.ireturn, 1) := dk_172 (dk_at dksX0_freeFor_1 15 rfl rfl)
theorem dX0_freeFor_38 : decode cX0_freeFor 38 = .ok (.iinc 2 1, 3) := dk_132 2 1 (dk_at dksX0_freeFor_1 16 rfl rfl)
theorem dX0_freeFor_41 : decode cX0_freeFor 41 = .ok (.goto (-39), 3) := dk_167 255 217 (dk_at dksX0_freeFor_1 19 rfl rfl)
theorem dX0_freeFor_44 : decode cX0_freeFor 44 = .ok (.iconst (-1), 1) := dk_2 (dk_at dksX0_freeFor_1 22 rfl rfl)
theorem dX0_freeFor_45 : decode cX0_freeFor 45 = .ok (.ireturn, 1) := dk_172 (dk_at dksX0_freeFor_1 23 rfl rfl)
abbrev cX0_isGood : ByteArray := prog_1_method_20_code
def yX0_isGood : MethodName := ⟨RX0, "isGood", "(LSwarmPlanner$Member;I)Z"⟩
def dkwX0_isGood_1 : List UInt8 := [43, 180, 0, 109, 46, 50, 28, 46, 42, 43, 182, 0, 116, 4, 100, 160, 0, 7, 4, 167, 0, 4, 3, 172]
abbrev dktX0_isGood_1 : List UInt8 := dkwX0_isGood_1 ++ []
def dkwX0_isGood_0 : List UInt8 := [28, 155, 0, 45, 42, 180, 0, 19, 180, 0, 23, 28, 51, 154, 0, 33, 42, 180, 0, 45, 42, 180, 0, 98]
abbrev dktX0_isGood_0 : List UInt8 := dkwX0_isGood_0 ++ dktX0_isGood_1
theorem dksX0_isGood_0 : cX0_isGood.data.toList.drop 0 = dktX0_isGood_0 := by decide +kernel
theorem dksX0_isGood_1 : cX0_isGood.data.toList.drop 24 = dktX0_isGood_1 := dk_seg dksX0_isGood_0 24 rfl rfl
theorem dX0_isGood_0 : decode cX0_isGood 0 = .ok (.iload_n 2, 1) := dk_28 (dk_at dksX0_isGood_0 0 rfl rfl)
theorem dX0_isGood_1 : decode cX0_isGood 1 = .ok (.ifCond .lt 45, 3) := dk_155 0 45 (dk_at dksX0_isGood_0 1 rfl rfl)
theorem dX0_isGood_4 : decode cX0_isGood 4 = .ok (.aload_n 0, 1) := dk_42 (dk_at dksX0_isGood_0 4 rfl rfl)
theorem dX0_isGood_5 : decode cX0_isGood 5 = .ok (.getfield 19, 3) := dk_180 0 19 (dk_at dksX0_isGood_0 5 rfl rfl)
theorem dX0_isGood_8 : decode cX0_isGood 8 = .ok (.getfield 23, 3) := dk_180 0 23 (dk_at dksX0_isGood_0 8 rfl rfl)
theorem dX0_isGood_11 : decode cX0_isGood 11 = .ok (.iload_n 2, 1) := dk_28 (dk_at dksX0_isGood_0 11 rfl rfl)
theorem dX0_isGood_12 : decode cX0_isGood 12 = .ok (.baload, 1) := dk_51 (dk_at dksX0_isGood_0 12 rfl rfl)
theorem dX0_isGood_13 : decode cX0_isGood 13 = .ok (.ifCond .ne 33, 3) := dk_154 0 33 (dk_at dksX0_isGood_0 13 rfl rfl)
theorem dX0_isGood_16 : decode cX0_isGood 16 = .ok (.aload_n 0, 1) := dk_42 (dk_at dksX0_isGood_0 16 rfl rfl)
theorem dX0_isGood_17 : decode cX0_isGood 17 = .ok (.getfield 45, 3) := dk_180 0 45 (dk_at dksX0_isGood_0 17 rfl rfl)
theorem dX0_isGood_20 : decode cX0_isGood 20 = .ok (.aload_n 0, 1) := dk_42 (dk_at dksX0_isGood_0 20 rfl rfl)
theorem dX0_isGood_21 : decode cX0_isGood 21 = .ok (.getfield 98, 3) := dk_180 0 98 (dk_at dksX0_isGood_0 21 rfl rfl)
theorem dX0_isGood_24 : decode cX0_isGood 24 = .ok (.aload_n 1, 1) := dk_43 (dk_at dksX0_isGood_1 0 rfl rfl)
theorem dX0_isGood_25 : decode cX0_isGood 25 = .ok (.getfield 109, 3) := dk_180 0 109 (dk_at dksX0_isGood_1 1 rfl rfl)
theorem dX0_isGood_28 : decode cX0_isGood 28 = .ok (.iaload, 1) := dk_46 (dk_at dksX0_isGood_1 4 rfl rfl)
theorem dX0_isGood_29 : decode cX0_isGood 29 = .ok (.aaload, 1) := dk_50 (dk_at dksX0_isGood_1 5 rfl rfl)
theorem dX0_isGood_30 : decode cX0_isGood 30 = .ok (.iload_n 2, 1) := dk_28 (dk_at dksX0_isGood_1 6 rfl rfl)
theorem dX0_isGood_31 : decode cX0_isGood 31 = .ok (.iaload, 1) := dk_46 (dk_at dksX0_isGood_1 7 rfl rfl)
theorem dX0_isGood_32 : decode cX0_isGood 32 = .ok (.aload_n 0, 1) := dk_42 (dk_at dksX0_isGood_1 8 rfl rfl)
theorem dX0_isGood_33 : decode cX0_isGood 33 = .ok (.aload_n 1, 1) := dk_43 (dk_at dksX0_isGood_1 9 rfl rfl)
theorem dX0_isGood_34 : decode cX0_isGood 34 = .ok (.invokevirtual 116, 3) := dk_182 0 116 (dk_at dksX0_isGood_1 10 rfl rfl)
theorem dX0_isGood_37 : decode cX0_isGood 37 = .ok (.iconst 1, 1) := dk_4 (dk_at dksX0_isGood_1 13 rfl rfl)
theorem dX0_isGood_38 : decode cX0_isGood 38 = .ok (.isub, 1) := dk_100 (dk_at dksX0_isGood_1 14 rfl rfl)
theorem dX0_isGood_39 : decode cX0_isGood 39 = .ok (.if_icmp .ne 7, 3) := dk_160 0 7 (dk_at dksX0_isGood_1 15 rfl rfl)
theorem dX0_isGood_42 : decode cX0_isGood 42 = .ok (.iconst 1, 1) := dk_4 (dk_at dksX0_isGood_1 18 rfl rfl)
theorem dX0_isGood_43 : decode cX0_isGood 43 = .ok (.goto 4, 3) := dk_167 0 4 (dk_at dksX0_isGood_1 19 rfl rfl)
theorem dX0_isGood_46 : decode cX0_isGood 46 = .ok (.iconst 0, 1) := dk_3 (dk_at dksX0_isGood_1 22 rfl rfl)
theorem dX0_isGood_47 : decode cX0_isGood 47 = .ok (.ireturn, 1) := dk_172 (dk_at dksX0_isGood_1 23 rfl rfl)
abbrev cX0_partnerOf : ByteArray := prog_1_method_23_code
def yX0_partnerOf : MethodName := ⟨RX0, "partnerOf", "(LSwarmPlanner$Member;)LSwarmPlanner$Member;"⟩
def dkwX0_partnerOf_3 : List UInt8 := [180, 0, 19, 180, 0, 150, 29, 46, 50, 176, 132, 2, 1, 167, 255, 175, 1, 176]
abbrev dktX0_partnerOf_3 : List UInt8 := dkwX0_partnerOf_3 ++ []
def dkwX0_partnerOf_2 : List UInt8 := [42, 180, 0, 19, 180, 0, 150, 29, 46, 50, 182, 0, 166, 153, 0, 21, 42, 180, 0, 19, 180, 0, 80, 42]
abbrev dktX0_partnerOf_2 : List UInt8 := dkwX0_partnerOf_2 ++ dktX0_partnerOf_3
def dkwX0_partnerOf_1 : List UInt8 := [153, 0, 58, 42, 180, 0, 19, 180, 0, 150, 29, 46, 155, 0, 46, 42, 43, 42, 180, 0, 19, 180, 0, 80]
abbrev dktX0_partnerOf_1 : List UInt8 := dkwX0_partnerOf_1 ++ dktX0_partnerOf_2
def dkwX0_partnerOf_0 : List UInt8 := [3, 61, 28, 7, 162, 0, 82, 43, 180, 0, 49, 28, 184, 0, 32, 62, 42, 43, 29, 182, 0, 158]
abbrev dktX0_partnerOf_0 : List UInt8 := dkwX0_partnerOf_0 ++ dktX0_partnerOf_1
theorem dksX0_partnerOf_0 : cX0_partnerOf.data.toList.drop 0 = dktX0_partnerOf_0 := by decide +kernel
theorem dksX0_partnerOf_1 : cX0_partnerOf.data.toList.drop 22 = dktX0_partnerOf_1 := dk_seg dksX0_partnerOf_0 22 rfl rfl
theorem dksX0_partnerOf_2 : cX0_partnerOf.data.toList.drop 46 = dktX0_partnerOf_2 := dk_seg dksX0_partnerOf_1 24 rfl rfl
theorem dksX0_partnerOf_3 : cX0_partnerOf.data.toList.drop 70 = dktX0_partnerOf_3 := dk_seg dksX0_partnerOf_2 24 rfl rfl
theorem dX0_partnerOf_0 : decode cX0_partnerOf 0 = .ok (.iconst 0, 1) := dk_3 (dk_at dksX0_partnerOf_0 0 rfl rfl)
theorem dX0_partnerOf_1 : decode cX0_partnerOf 1 = .ok (.istore_n 2, 1) := dk_61 (dk_at dksX0_partnerOf_0 1 rfl rfl)
theorem dX0_partnerOf_2 : decode cX0_partnerOf 2 = .ok (.iload_n 2, 1) := dk_28 (dk_at dksX0_partnerOf_0 2 rfl rfl)
theorem dX0_partnerOf_3 : decode cX0_partnerOf 3 = .ok (.iconst 4, 1) := dk_7 (dk_at dksX0_partnerOf_0 3 rfl rfl)
theorem dX0_partnerOf_4 : decode cX0_partnerOf 4 = .ok (.if_icmp .ge 82, 3) := dk_162 0 82 (dk_at dksX0_partnerOf_0 4 rfl rfl)
theorem dX0_partnerOf_7 : decode cX0_partnerOf 7 = .ok (.aload_n 1, 1) := dk_43 (dk_at dksX0_partnerOf_0 7 rfl rfl)
theorem dX0_partnerOf_8 : decode cX0_partnerOf 8 = .ok (.getfield 49, 3) := dk_180 0 49 (dk_at dksX0_partnerOf_0 8 rfl rfl)
theorem dX0_partnerOf_11 : decode cX0_partnerOf 11 = .ok (.iload_n 2, 1) := dk_28 (dk_at dksX0_partnerOf_0 11 rfl rfl)
theorem dX0_partnerOf_12 : decode cX0_partnerOf 12 = .ok (.invokestatic 32, 3) := dk_184 0 32 (dk_at dksX0_partnerOf_0 12 rfl rfl)
theorem dX0_partnerOf_15 : decode cX0_partnerOf 15 = .ok (.istore_n 3, 1) := dk_62 (dk_at dksX0_partnerOf_0 15 rfl rfl)
theorem dX0_partnerOf_16 : decode cX0_partnerOf 16 = .ok (.aload_n 0, 1) := dk_42 (dk_at dksX0_partnerOf_0 16 rfl rfl)
theorem dX0_partnerOf_17 : decode cX0_partnerOf 17 = .ok (.aload_n 1, 1) := dk_43 (dk_at dksX0_partnerOf_0 17 rfl rfl)
theorem dX0_partnerOf_18 : decode cX0_partnerOf 18 = .ok (.iload_n 3, 1) := dk_29 (dk_at dksX0_partnerOf_0 18 rfl rfl)
theorem dX0_partnerOf_19 : decode cX0_partnerOf 19 = .ok (.invokevirtual 158, 3) := dk_182 0 158 (dk_at dksX0_partnerOf_0 19 rfl rfl)
theorem dX0_partnerOf_22 : decode cX0_partnerOf 22 = .ok (.ifCond .eq 58, 3) := dk_153 0 58 (dk_at dksX0_partnerOf_1 0 rfl rfl)
theorem dX0_partnerOf_25 : decode cX0_partnerOf 25 = .ok (.aload_n 0, 1) := dk_42 (dk_at dksX0_partnerOf_1 3 rfl rfl)
theorem dX0_partnerOf_26 : decode cX0_partnerOf 26 = .ok (.getfield 19, 3) := dk_180 0 19 (dk_at dksX0_partnerOf_1 4 rfl rfl)
theorem dX0_partnerOf_29 : decode cX0_partnerOf 29 = .ok (.getfield 150, 3) := dk_180 0 150 (dk_at dksX0_partnerOf_1 7 rfl rfl)
theorem dX0_partnerOf_32 : decode cX0_partnerOf 32 = .ok (.iload_n 3, 1) := dk_29 (dk_at dksX0_partnerOf_1 10 rfl rfl)
theorem dX0_partnerOf_33 : decode cX0_partnerOf 33 = .ok (.iaload, 1) := dk_46 (dk_at dksX0_partnerOf_1 11 rfl rfl)
theorem dX0_partnerOf_34 : decode cX0_partnerOf 34 = .ok (.ifCond .lt 46, 3) := dk_155 0 46 (dk_at dksX0_partnerOf_1 12 rfl rfl)
theorem dX0_partnerOf_37 : decode cX0_partnerOf 37 = .ok (.aload_n 0, 1) := dk_42 (dk_at dksX0_partnerOf_1 15 rfl rfl)
theorem dX0_partnerOf_38 : decode cX0_partnerOf 38 = .ok (.aload_n 1, 1) := dk_43 (dk_at dksX0_partnerOf_1 16 rfl rfl)
theorem dX0_partnerOf_39 : decode cX0_partnerOf 39 = .ok (.aload_n 0, 1) := dk_42 (dk_at dksX0_partnerOf_1 17 rfl rfl)
theorem dX0_partnerOf_40 : decode cX0_partnerOf 40 = .ok (.getfield 19, 3) := dk_180 0 19 (dk_at dksX0_partnerOf_1 18 rfl rfl)
theorem dX0_partnerOf_43 : decode cX0_partnerOf 43 = .ok (.getfield 80, 3) := dk_180 0 80 (dk_at dksX0_partnerOf_1 21 rfl rfl)
theorem dX0_partnerOf_46 : decode cX0_partnerOf 46 = .ok (.aload_n 0, 1) := dk_42 (dk_at dksX0_partnerOf_2 0 rfl rfl)
theorem dX0_partnerOf_47 : decode cX0_partnerOf 47 = .ok (.getfield 19, 3) := dk_180 0 19 (dk_at dksX0_partnerOf_2 1 rfl rfl)
theorem dX0_partnerOf_50 : decode cX0_partnerOf 50 = .ok (.getfield 150, 3) := dk_180 0 150 (dk_at dksX0_partnerOf_2 4 rfl rfl)
theorem dX0_partnerOf_53 : decode cX0_partnerOf 53 = .ok (.iload_n 3, 1) := dk_29 (dk_at dksX0_partnerOf_2 7 rfl rfl)
theorem dX0_partnerOf_54 : decode cX0_partnerOf 54 = .ok (.iaload, 1) := dk_46 (dk_at dksX0_partnerOf_2 8 rfl rfl)
theorem dX0_partnerOf_55 : decode cX0_partnerOf 55 = .ok (.aaload, 1) := dk_50 (dk_at dksX0_partnerOf_2 9 rfl rfl)
theorem dX0_partnerOf_56 : decode cX0_partnerOf 56 = .ok (.invokevirtual 166, 3) := dk_182 0 166 (dk_at dksX0_partnerOf_2 10 rfl rfl)
theorem dX0_partnerOf_59 : decode cX0_partnerOf 59 = .ok (.ifCond .eq 21, 3) := dk_153 0 21 (dk_at dksX0_partnerOf_2 13 rfl rfl)
theorem dX0_partnerOf_62 : decode cX0_partnerOf 62 = .ok (.aload_n 0, 1) := dk_42 (dk_at dksX0_partnerOf_2 16 rfl rfl)
theorem dX0_partnerOf_63 : decode cX0_partnerOf 63 = .ok (.getfield 19, 3) := dk_180 0 19 (dk_at dksX0_partnerOf_2 17 rfl rfl)
theorem dX0_partnerOf_66 : decode cX0_partnerOf 66 = .ok (.getfield 80, 3) := dk_180 0 80 (dk_at dksX0_partnerOf_2 20 rfl rfl)
theorem dX0_partnerOf_69 : decode cX0_partnerOf 69 = .ok (.aload_n 0, 1) := dk_42 (dk_at dksX0_partnerOf_2 23 rfl rfl)
theorem dX0_partnerOf_70 : decode cX0_partnerOf 70 = .ok (.getfield 19, 3) := dk_180 0 19 (dk_at dksX0_partnerOf_3 0 rfl rfl)
theorem dX0_partnerOf_73 : decode cX0_partnerOf 73 = .ok (.getfield 150, 3) := dk_180 0 150 (dk_at dksX0_partnerOf_3 3 rfl rfl)
theorem dX0_partnerOf_76 : decode cX0_partnerOf 76 = .ok (.iload_n 3, 1) := dk_29 (dk_at dksX0_partnerOf_3 6 rfl rfl)
theorem dX0_partnerOf_77 : decode cX0_partnerOf 77 = .ok (.iaload, 1) := dk_46 (dk_at dksX0_partnerOf_3 7 rfl rfl)
theorem dX0_partnerOf_78 : decode cX0_partnerOf 78 = .ok (.aaload, 1) := dk_50 (dk_at dksX0_partnerOf_3 8 rfl rfl)
theorem dX0_partnerOf_79 : decode cX0_partnerOf 79 = .ok (.areturn, 1) := dk_176 (dk_at dksX0_partnerOf_3 9 rfl rfl)
theorem dX0_partnerOf_80 : decode cX0_partnerOf 80 = .ok (.iinc 2 1, 3) := dk_132 2 1 (dk_at dksX0_partnerOf_3 10 rfl rfl)
theorem dX0_partnerOf_83 : decode cX0_partnerOf 83 = .ok (.goto (-81), 3) := dk_167 255 175 (dk_at dksX0_partnerOf_3 13 rfl rfl)
theorem dX0_partnerOf_86 : decode cX0_partnerOf 86 = .ok (.aconst_null, 1) := dk_1 (dk_at dksX0_partnerOf_3 16 rfl rfl)
theorem dX0_partnerOf_87 : decode cX0_partnerOf 87 = .ok (.areturn, 1) := dk_176 (dk_at dksX0_partnerOf_3 17 rfl rfl)
abbrev cX0_gains : ByteArray := prog_1_method_22_code
def yX0_gains : MethodName := ⟨RX0, "gains", "(LSwarmPlanner$Member;LSwarmPlanner$Member;)Z"⟩
def dkwX0_gains_2 : List UInt8 := [180, 0, 49, 46, 164, 0, 7, 4, 167, 0, 4, 3, 172]
abbrev dktX0_gains_2 : List UInt8 := dkwX0_gains_2 ++ []
def dkwX0_gains_1 : List UInt8 := [155, 0, 34, 42, 44, 182, 0, 116, 42, 180, 0, 45, 42, 180, 0, 98, 44, 180, 0, 109, 46, 50, 43]
abbrev dktX0_gains_1 : List UInt8 := dkwX0_gains_1 ++ dktX0_gains_2
def dkwX0_gains_0 : List UInt8 := [44, 180, 0, 109, 42, 180, 0, 19, 182, 0, 55, 159, 0, 46, 42, 180, 0, 98, 44, 180, 0, 109, 46]
abbrev dktX0_gains_0 : List UInt8 := dkwX0_gains_0 ++ dktX0_gains_1
theorem dksX0_gains_0 : cX0_gains.data.toList.drop 0 = dktX0_gains_0 := by decide +kernel
theorem dksX0_gains_1 : cX0_gains.data.toList.drop 23 = dktX0_gains_1 := dk_seg dksX0_gains_0 23 rfl rfl
theorem dksX0_gains_2 : cX0_gains.data.toList.drop 46 = dktX0_gains_2 := dk_seg dksX0_gains_1 23 rfl rfl
theorem dX0_gains_0 : decode cX0_gains 0 = .ok (.aload_n 2, 1) := dk_44 (dk_at dksX0_gains_0 0 rfl rfl)
theorem dX0_gains_1 : decode cX0_gains 1 = .ok (.getfield 109, 3) := dk_180 0 109 (dk_at dksX0_gains_0 1 rfl rfl)
theorem dX0_gains_4 : decode cX0_gains 4 = .ok (.aload_n 0, 1) := dk_42 (dk_at dksX0_gains_0 4 rfl rfl)
theorem dX0_gains_5 : decode cX0_gains 5 = .ok (.getfield 19, 3) := dk_180 0 19 (dk_at dksX0_gains_0 5 rfl rfl)
theorem dX0_gains_8 : decode cX0_gains 8 = .ok (.invokevirtual 55, 3) := dk_182 0 55 (dk_at dksX0_gains_0 8 rfl rfl)
theorem dX0_gains_11 : decode cX0_gains 11 = .ok (.if_icmp .eq 46, 3) := dk_159 0 46 (dk_at dksX0_gains_0 11 rfl rfl)
theorem dX0_gains_14 : decode cX0_gains 14 = .ok (.aload_n 0, 1) := dk_42 (dk_at dksX0_gains_0 14 rfl rfl)
theorem dX0_gains_15 : decode cX0_gains 15 = .ok (.getfield 98, 3) := dk_180 0 98 (dk_at dksX0_gains_0 15 rfl rfl)
theorem dX0_gains_18 : decode cX0_gains 18 = .ok (.aload_n 2, 1) := dk_44 (dk_at dksX0_gains_0 18 rfl rfl)
theorem dX0_gains_19 : decode cX0_gains 19 = .ok (.getfield 109, 3) := dk_180 0 109 (dk_at dksX0_gains_0 19 rfl rfl)
theorem dX0_gains_22 : decode cX0_gains 22 = .ok (.iaload, 1) := dk_46 (dk_at dksX0_gains_0 22 rfl rfl)
theorem dX0_gains_23 : decode cX0_gains 23 = .ok (.ifCond .lt 34, 3) := dk_155 0 34 (dk_at dksX0_gains_1 0 rfl rfl)
theorem dX0_gains_26 : decode cX0_gains 26 = .ok (.aload_n 0, 1) := dk_42 (dk_at dksX0_gains_1 3 rfl rfl)
theorem dX0_gains_27 : decode cX0_gains 27 = .ok (.aload_n 2, 1) := dk_44 (dk_at dksX0_gains_1 4 rfl rfl)
theorem dX0_gains_28 : decode cX0_gains 28 = .ok (.invokevirtual 116, 3) := dk_182 0 116 (dk_at dksX0_gains_1 5 rfl rfl)
theorem dX0_gains_31 : decode cX0_gains 31 = .ok (.aload_n 0, 1) := dk_42 (dk_at dksX0_gains_1 8 rfl rfl)
theorem dX0_gains_32 : decode cX0_gains 32 = .ok (.getfield 45, 3) := dk_180 0 45 (dk_at dksX0_gains_1 9 rfl rfl)
theorem dX0_gains_35 : decode cX0_gains 35 = .ok (.aload_n 0, 1) := dk_42 (dk_at dksX0_gains_1 12 rfl rfl)
theorem dX0_gains_36 : decode cX0_gains 36 = .ok (.getfield 98, 3) := dk_180 0 98 (dk_at dksX0_gains_1 13 rfl rfl)
theorem dX0_gains_39 : decode cX0_gains 39 = .ok (.aload_n 2, 1) := dk_44 (dk_at dksX0_gains_1 16 rfl rfl)
theorem dX0_gains_40 : decode cX0_gains 40 = .ok (.getfield 109, 3) := dk_180 0 109 (dk_at dksX0_gains_1 17 rfl rfl)
theorem dX0_gains_43 : decode cX0_gains 43 = .ok (.iaload, 1) := dk_46 (dk_at dksX0_gains_1 20 rfl rfl)
theorem dX0_gains_44 : decode cX0_gains 44 = .ok (.aaload, 1) := dk_50 (dk_at dksX0_gains_1 21 rfl rfl)
theorem dX0_gains_45 : decode cX0_gains 45 = .ok (.aload_n 1, 1) := dk_43 (dk_at dksX0_gains_1 22 rfl rfl)
theorem dX0_gains_46 : decode cX0_gains 46 = .ok (.getfield 49, 3) := dk_180 0 49 (dk_at dksX0_gains_2 0 rfl rfl)
theorem dX0_gains_49 : decode cX0_gains 49 = .ok (.iaload, 1) := dk_46 (dk_at dksX0_gains_2 3 rfl rfl)
theorem dX0_gains_50 : decode cX0_gains 50 = .ok (.if_icmp .le 7, 3) := dk_164 0 7 (dk_at dksX0_gains_2 4 rfl rfl)
theorem dX0_gains_53 : decode cX0_gains 53 = .ok (.iconst 1, 1) := dk_4 (dk_at dksX0_gains_2 7 rfl rfl)
theorem dX0_gains_54 : decode cX0_gains 54 = .ok (.goto 4, 3) := dk_167 0 4 (dk_at dksX0_gains_2 8 rfl rfl)
theorem dX0_gains_57 : decode cX0_gains 57 = .ok (.iconst 0, 1) := dk_3 (dk_at dksX0_gains_2 11 rfl rfl)
theorem dX0_gains_58 : decode cX0_gains 58 = .ok (.ireturn, 1) := dk_172 (dk_at dksX0_gains_2 12 rfl rfl)
abbrev cX0_waitsOrGoes : ByteArray := prog_1_method_26_code
def yX0_waitsOrGoes : MethodName := ⟨RX0, "waitsOrGoes", "(LSwarmPlanner$Member;)I"⟩
def dkwX0_waitsOrGoes_2 : List UInt8 := [46, 4, 96, 79, 8, 172, 42, 43, 182, 0, 155, 6, 172]
abbrev dktX0_waitsOrGoes_2 : List UInt8 := dkwX0_waitsOrGoes_2 ++ []
def dkwX0_waitsOrGoes_1 : List UInt8 := [167, 0, 4, 2, 61, 28, 155, 0, 24, 42, 43, 28, 182, 0, 153, 42, 180, 0, 19, 180, 0, 141, 7, 92]
abbrev dktX0_waitsOrGoes_1 : List UInt8 := dkwX0_waitsOrGoes_1 ++ dktX0_waitsOrGoes_2
def dkwX0_waitsOrGoes_0 : List UInt8 := [43, 89, 180, 0, 135, 4, 96, 181, 0, 135, 43, 180, 0, 135, 6, 161, 0, 11, 42, 43, 182, 0, 173]
abbrev dktX0_waitsOrGoes_0 : List UInt8 := dkwX0_waitsOrGoes_0 ++ dktX0_waitsOrGoes_1
theorem dksX0_waitsOrGoes_0 : cX0_waitsOrGoes.data.toList.drop 0 = dktX0_waitsOrGoes_0 := by decide +kernel
theorem dksX0_waitsOrGoes_1 : cX0_waitsOrGoes.data.toList.drop 23 = dktX0_waitsOrGoes_1 := dk_seg dksX0_waitsOrGoes_0 23 rfl rfl
theorem dksX0_waitsOrGoes_2 : cX0_waitsOrGoes.data.toList.drop 47 = dktX0_waitsOrGoes_2 := dk_seg dksX0_waitsOrGoes_1 24 rfl rfl
theorem dX0_waitsOrGoes_0 : decode cX0_waitsOrGoes 0 = .ok (.aload_n 1, 1) := dk_43 (dk_at dksX0_waitsOrGoes_0 0 rfl rfl)
theorem dX0_waitsOrGoes_1 : decode cX0_waitsOrGoes 1 = .ok (.dup, 1) := dk_89 (dk_at dksX0_waitsOrGoes_0 1 rfl rfl)
theorem dX0_waitsOrGoes_2 : decode cX0_waitsOrGoes 2 = .ok (.getfield 135, 3) := dk_180 0 135 (dk_at dksX0_waitsOrGoes_0 2 rfl rfl)
theorem dX0_waitsOrGoes_5 : decode cX0_waitsOrGoes 5 = .ok (.iconst 1, 1) := dk_4 (dk_at dksX0_waitsOrGoes_0 5 rfl rfl)
theorem dX0_waitsOrGoes_6 : decode cX0_waitsOrGoes 6 = .ok (.iadd, 1) := dk_96 (dk_at dksX0_waitsOrGoes_0 6 rfl rfl)
theorem dX0_waitsOrGoes_7 : decode cX0_waitsOrGoes 7 = .ok (.putfield 135, 3) := dk_181 0 135 (dk_at dksX0_waitsOrGoes_0 7 rfl rfl)
theorem dX0_waitsOrGoes_10 : decode cX0_waitsOrGoes 10 = .ok (.aload_n 1, 1) := dk_43 (dk_at dksX0_waitsOrGoes_0 10 rfl rfl)
theorem dX0_waitsOrGoes_11 : decode cX0_waitsOrGoes 11 = .ok (.getfield 135, 3) := dk_180 0 135 (dk_at dksX0_waitsOrGoes_0 11 rfl rfl)
theorem dX0_waitsOrGoes_14 : decode cX0_waitsOrGoes 14 = .ok (.iconst 3, 1) := dk_6 (dk_at dksX0_waitsOrGoes_0 14 rfl rfl)
theorem dX0_waitsOrGoes_15 : decode cX0_waitsOrGoes 15 = .ok (.if_icmp .lt 11, 3) := dk_161 0 11 (dk_at dksX0_waitsOrGoes_0 15 rfl rfl)
theorem dX0_waitsOrGoes_18 : decode cX0_waitsOrGoes 18 = .ok (.aload_n 0, 1) := dk_42 (dk_at dksX0_waitsOrGoes_0 18 rfl rfl)
theorem dX0_waitsOrGoes_19 : decode cX0_waitsOrGoes 19 = .ok (.aload_n 1, 1) := dk_43 (dk_at dksX0_waitsOrGoes_0 19 rfl rfl)
theorem dX0_waitsOrGoes_20 : decode cX0_waitsOrGoes 20 = .ok (.invokevirtual 173, 3) := dk_182 0 173 (dk_at dksX0_waitsOrGoes_0 20 rfl rfl)
theorem dX0_waitsOrGoes_23 : decode cX0_waitsOrGoes 23 = .ok (.goto 4, 3) := dk_167 0 4 (dk_at dksX0_waitsOrGoes_1 0 rfl rfl)
theorem dX0_waitsOrGoes_26 : decode cX0_waitsOrGoes 26 = .ok (.iconst (-1), 1) := dk_2 (dk_at dksX0_waitsOrGoes_1 3 rfl rfl)
theorem dX0_waitsOrGoes_27 : decode cX0_waitsOrGoes 27 = .ok (.istore_n 2, 1) := dk_61 (dk_at dksX0_waitsOrGoes_1 4 rfl rfl)
theorem dX0_waitsOrGoes_28 : decode cX0_waitsOrGoes 28 = .ok (.iload_n 2, 1) := dk_28 (dk_at dksX0_waitsOrGoes_1 5 rfl rfl)
theorem dX0_waitsOrGoes_29 : decode cX0_waitsOrGoes 29 = .ok (.ifCond .lt 24, 3) := dk_155 0 24 (dk_at dksX0_waitsOrGoes_1 6 rfl rfl)
theorem dX0_waitsOrGoes_32 : decode cX0_waitsOrGoes 32 = .ok (.aload_n 0, 1) := dk_42 (dk_at dksX0_waitsOrGoes_1 9 rfl rfl)
theorem dX0_waitsOrGoes_33 : decode cX0_waitsOrGoes 33 = .ok (.aload_n 1, 1) := dk_43 (dk_at dksX0_waitsOrGoes_1 10 rfl rfl)
theorem dX0_waitsOrGoes_34 : decode cX0_waitsOrGoes 34 = .ok (.iload_n 2, 1) := dk_28 (dk_at dksX0_waitsOrGoes_1 11 rfl rfl)
theorem dX0_waitsOrGoes_35 : decode cX0_waitsOrGoes 35 = .ok (.invokevirtual 153, 3) := dk_182 0 153 (dk_at dksX0_waitsOrGoes_1 12 rfl rfl)
theorem dX0_waitsOrGoes_38 : decode cX0_waitsOrGoes 38 = .ok (.aload_n 0, 1) := dk_42 (dk_at dksX0_waitsOrGoes_1 15 rfl rfl)
theorem dX0_waitsOrGoes_39 : decode cX0_waitsOrGoes 39 = .ok (.getfield 19, 3) := dk_180 0 19 (dk_at dksX0_waitsOrGoes_1 16 rfl rfl)
theorem dX0_waitsOrGoes_42 : decode cX0_waitsOrGoes 42 = .ok (.getfield 141, 3) := dk_180 0 141 (dk_at dksX0_waitsOrGoes_1 19 rfl rfl)
theorem dX0_waitsOrGoes_45 : decode cX0_waitsOrGoes 45 = .ok (.iconst 4, 1) := dk_7 (dk_at dksX0_waitsOrGoes_1 22 rfl rfl)
theorem dX0_waitsOrGoes_46 : decode cX0_waitsOrGoes 46 = .ok (.dup2, 1) := dk_92 (dk_at dksX0_waitsOrGoes_1 23 rfl rfl)
theorem dX0_waitsOrGoes_47 : decode cX0_waitsOrGoes 47 = .ok (.iaload, 1) := dk_46 (dk_at dksX0_waitsOrGoes_2 0 rfl rfl)
theorem dX0_waitsOrGoes_48 : decode cX0_waitsOrGoes 48 = .ok (.iconst 1, 1) := dk_4 (dk_at dksX0_waitsOrGoes_2 1 rfl rfl)
theorem dX0_waitsOrGoes_49 : decode cX0_waitsOrGoes 49 = .ok (.iadd, 1) := dk_96 (dk_at dksX0_waitsOrGoes_2 2 rfl rfl)
theorem dX0_waitsOrGoes_50 : decode cX0_waitsOrGoes 50 = .ok (.iastore, 1) := dk_79 (dk_at dksX0_waitsOrGoes_2 3 rfl rfl)
theorem dX0_waitsOrGoes_51 : decode cX0_waitsOrGoes 51 = .ok (.iconst 5, 1) := dk_8 (dk_at dksX0_waitsOrGoes_2 4 rfl rfl)
theorem dX0_waitsOrGoes_52 : decode cX0_waitsOrGoes 52 = .ok (.ireturn, 1) := dk_172 (dk_at dksX0_waitsOrGoes_2 5 rfl rfl)
theorem dX0_waitsOrGoes_53 : decode cX0_waitsOrGoes 53 = .ok (.aload_n 0, 1) := dk_42 (dk_at dksX0_waitsOrGoes_2 6 rfl rfl)
theorem dX0_waitsOrGoes_54 : decode cX0_waitsOrGoes 54 = .ok (.aload_n 1, 1) := dk_43 (dk_at dksX0_waitsOrGoes_2 7 rfl rfl)
theorem dX0_waitsOrGoes_55 : decode cX0_waitsOrGoes 55 = .ok (.invokevirtual 155, 3) := dk_182 0 155 (dk_at dksX0_waitsOrGoes_2 8 rfl rfl)
theorem dX0_waitsOrGoes_58 : decode cX0_waitsOrGoes 58 = .ok (.iconst 3, 1) := dk_6 (dk_at dksX0_waitsOrGoes_2 11 rfl rfl)
theorem dX0_waitsOrGoes_59 : decode cX0_waitsOrGoes 59 = .ok (.ireturn, 1) := dk_172 (dk_at dksX0_waitsOrGoes_2 12 rfl rfl)
abbrev cX0_asideOf : ByteArray := prog_1_method_24_code
def yX0_asideOf : MethodName := ⟨RX0, "asideOf", "(LSwarmPlanner$Member;)I"⟩
def dkwX0_asideOf_1 : List UInt8 := [29, 182, 0, 162, 153, 0, 5, 29, 172, 132, 2, 1, 167, 255, 222, 2, 172]
abbrev dktX0_asideOf_1 : List UInt8 := dkwX0_asideOf_1 ++ []
def dkwX0_asideOf_0 : List UInt8 := [3, 61, 28, 7, 162, 0, 35, 43, 180, 0, 49, 28, 184, 0, 32, 62, 29, 155, 0, 16, 42, 180, 0, 19]
abbrev dktX0_asideOf_0 : List UInt8 := dkwX0_asideOf_0 ++ dktX0_asideOf_1
theorem dksX0_asideOf_0 : cX0_asideOf.data.toList.drop 0 = dktX0_asideOf_0 := by decide +kernel
theorem dksX0_asideOf_1 : cX0_asideOf.data.toList.drop 24 = dktX0_asideOf_1 := dk_seg dksX0_asideOf_0 24 rfl rfl
theorem dX0_asideOf_0 : decode cX0_asideOf 0 = .ok (.iconst 0, 1) := dk_3 (dk_at dksX0_asideOf_0 0 rfl rfl)
theorem dX0_asideOf_1 : decode cX0_asideOf 1 = .ok (.istore_n 2, 1) := dk_61 (dk_at dksX0_asideOf_0 1 rfl rfl)
theorem dX0_asideOf_2 : decode cX0_asideOf 2 = .ok (.iload_n 2, 1) := dk_28 (dk_at dksX0_asideOf_0 2 rfl rfl)
theorem dX0_asideOf_3 : decode cX0_asideOf 3 = .ok (.iconst 4, 1) := dk_7 (dk_at dksX0_asideOf_0 3 rfl rfl)
theorem dX0_asideOf_4 : decode cX0_asideOf 4 = .ok (.if_icmp .ge 35, 3) := dk_162 0 35 (dk_at dksX0_asideOf_0 4 rfl rfl)
theorem dX0_asideOf_7 : decode cX0_asideOf 7 = .ok (.aload_n 1, 1) := dk_43 (dk_at dksX0_asideOf_0 7 rfl rfl)
theorem dX0_asideOf_8 : decode cX0_asideOf 8 = .ok (.getfield 49, 3) := dk_180 0 49 (dk_at dksX0_asideOf_0 8 rfl rfl)
theorem dX0_asideOf_11 : decode cX0_asideOf 11 = .ok (.iload_n 2, 1) := dk_28 (dk_at dksX0_asideOf_0 11 rfl rfl)
theorem dX0_asideOf_12 : decode cX0_asideOf 12 = .ok (.invokestatic 32, 3) := dk_184 0 32 (dk_at dksX0_asideOf_0 12 rfl rfl)
theorem dX0_asideOf_15 : decode cX0_asideOf 15 = .ok (.istore_n 3, 1) := dk_62 (dk_at dksX0_asideOf_0 15 rfl rfl)
theorem dX0_asideOf_16 : decode cX0_asideOf 16 = .ok (.iload_n 3, 1) := dk_29 (dk_at dksX0_asideOf_0 16 rfl rfl)
theorem dX0_asideOf_17 : decode cX0_asideOf 17 = .ok (.ifCond .lt 16, 3) := dk_155 0 16 (dk_at dksX0_asideOf_0 17 rfl rfl)
theorem dX0_asideOf_20 : decode cX0_asideOf 20 = .ok (.aload_n 0, 1) := dk_42 (dk_at dksX0_asideOf_0 20 rfl rfl)
theorem dX0_asideOf_21 : decode cX0_asideOf 21 = .ok (.getfield 19, 3) := dk_180 0 19 (dk_at dksX0_asideOf_0 21 rfl rfl)
theorem dX0_asideOf_24 : decode cX0_asideOf 24 = .ok (.iload_n 3, 1) := dk_29 (dk_at dksX0_asideOf_1 0 rfl rfl)
theorem dX0_asideOf_25 : decode cX0_asideOf 25 = .ok (.invokevirtual 162, 3) := dk_182 0 162 (dk_at dksX0_asideOf_1 1 rfl rfl)
theorem dX0_asideOf_28 : decode cX0_asideOf 28 = .ok (.ifCond .eq 5, 3) := dk_153 0 5 (dk_at dksX0_asideOf_1 4 rfl rfl)
theorem dX0_asideOf_31 : decode cX0_asideOf 31 = .ok (.iload_n 3, 1) := dk_29 (dk_at dksX0_asideOf_1 7 rfl rfl)
theorem dX0_asideOf_32 : decode cX0_asideOf 32 = .ok (.ireturn, 1) := dk_172 (dk_at dksX0_asideOf_1 8 rfl rfl)
theorem dX0_asideOf_33 : decode cX0_asideOf 33 = .ok (.iinc 2 1, 3) := dk_132 2 1 (dk_at dksX0_asideOf_1 9 rfl rfl)
theorem dX0_asideOf_36 : decode cX0_asideOf 36 = .ok (.goto (-34), 3) := dk_167 255 222 (dk_at dksX0_asideOf_1 12 rfl rfl)
theorem dX0_asideOf_39 : decode cX0_asideOf 39 = .ok (.iconst (-1), 1) := dk_2 (dk_at dksX0_asideOf_1 15 rfl rfl)
theorem dX0_asideOf_40 : decode cX0_asideOf 40 = .ok (.ireturn, 1) := dk_172 (dk_at dksX0_asideOf_1 16 rfl rfl)
abbrev cX0_isExchanged : ByteArray := prog_1_method_25_code
def yX0_isExchanged : MethodName := ⟨RX0, "isExchanged", "(LSwarmPlanner$Member;)V"⟩
def dkwX0_isExchanged_0 : List UInt8 := [43, 89, 180, 0, 132, 4, 96, 181, 0, 132, 43, 3, 181, 0, 135, 43, 7, 181, 0, 170, 177]
abbrev dktX0_isExchanged_0 : List UInt8 := dkwX0_isExchanged_0 ++ []
theorem dksX0_isExchanged_0 : cX0_isExchanged.data.toList.drop 0 = dktX0_isExchanged_0 := by decide +kernel
theorem dX0_isExchanged_0 : decode cX0_isExchanged 0 = .ok (.aload_n 1, 1) := dk_43 (dk_at dksX0_isExchanged_0 0 rfl rfl)
theorem dX0_isExchanged_1 : decode cX0_isExchanged 1 = .ok (.dup, 1) := dk_89 (dk_at dksX0_isExchanged_0 1 rfl rfl)
theorem dX0_isExchanged_2 : decode cX0_isExchanged 2 = .ok (.getfield 132, 3) := dk_180 0 132 (dk_at dksX0_isExchanged_0 2 rfl rfl)
theorem dX0_isExchanged_5 : decode cX0_isExchanged 5 = .ok (.iconst 1, 1) := dk_4 (dk_at dksX0_isExchanged_0 5 rfl rfl)
theorem dX0_isExchanged_6 : decode cX0_isExchanged 6 = .ok (.iadd, 1) := dk_96 (dk_at dksX0_isExchanged_0 6 rfl rfl)
theorem dX0_isExchanged_7 : decode cX0_isExchanged 7 = .ok (.putfield 132, 3) := dk_181 0 132 (dk_at dksX0_isExchanged_0 7 rfl rfl)
theorem dX0_isExchanged_10 : decode cX0_isExchanged 10 = .ok (.aload_n 1, 1) := dk_43 (dk_at dksX0_isExchanged_0 10 rfl rfl)
theorem dX0_isExchanged_11 : decode cX0_isExchanged 11 = .ok (.iconst 0, 1) := dk_3 (dk_at dksX0_isExchanged_0 11 rfl rfl)
theorem dX0_isExchanged_12 : decode cX0_isExchanged 12 = .ok (.putfield 135, 3) := dk_181 0 135 (dk_at dksX0_isExchanged_0 12 rfl rfl)
theorem dX0_isExchanged_15 : decode cX0_isExchanged 15 = .ok (.aload_n 1, 1) := dk_43 (dk_at dksX0_isExchanged_0 15 rfl rfl)
theorem dX0_isExchanged_16 : decode cX0_isExchanged 16 = .ok (.iconst 4, 1) := dk_7 (dk_at dksX0_isExchanged_0 16 rfl rfl)
theorem dX0_isExchanged_17 : decode cX0_isExchanged 17 = .ok (.putfield 170, 3) := dk_181 0 170 (dk_at dksX0_isExchanged_0 17 rfl rfl)
theorem dX0_isExchanged_20 : decode cX0_isExchanged 20 = .ok (.return_, 1) := dk_177 (dk_at dksX0_isExchanged_0 20 rfl rfl)
abbrev cX0_elsewhere : ByteArray := prog_1_method_46_code
def yX0_elsewhere : MethodName := ⟨RX0, "elsewhere", "()I"⟩
def dkwX0_elsewhere_2 : List UInt8 := [3, 184, 0, 112, 96, 60, 132, 2, 1, 167, 255, 203, 27, 172]
abbrev dktX0_elsewhere_2 : List UInt8 := dkwX0_elsewhere_2 ++ []
def dkwX0_elsewhere_1 : List UInt8 := [180, 0, 19, 180, 0, 80, 28, 50, 180, 0, 49, 42, 180, 1, 10, 28, 46, 159, 0, 7, 4, 167, 0, 4]
abbrev dktX0_elsewhere_1 : List UInt8 := dkwX0_elsewhere_1 ++ dktX0_elsewhere_2
def dkwX0_elsewhere_0 : List UInt8 := [3, 60, 3, 61, 28, 16, 10, 162, 0, 53, 27, 42, 180, 0, 19, 180, 0, 80, 28, 50, 198, 0, 28, 42]
abbrev dktX0_elsewhere_0 : List UInt8 := dkwX0_elsewhere_0 ++ dktX0_elsewhere_1
theorem dksX0_elsewhere_0 : cX0_elsewhere.data.toList.drop 0 = dktX0_elsewhere_0 := by decide +kernel
theorem dksX0_elsewhere_1 : cX0_elsewhere.data.toList.drop 24 = dktX0_elsewhere_1 := dk_seg dksX0_elsewhere_0 24 rfl rfl
theorem dksX0_elsewhere_2 : cX0_elsewhere.data.toList.drop 48 = dktX0_elsewhere_2 := dk_seg dksX0_elsewhere_1 24 rfl rfl
theorem dX0_elsewhere_0 : decode cX0_elsewhere 0 = .ok (.iconst 0, 1) := dk_3 (dk_at dksX0_elsewhere_0 0 rfl rfl)
theorem dX0_elsewhere_1 : decode cX0_elsewhere 1 = .ok (.istore_n 1, 1) := dk_60 (dk_at dksX0_elsewhere_0 1 rfl rfl)
theorem dX0_elsewhere_2 : decode cX0_elsewhere 2 = .ok (.iconst 0, 1) := dk_3 (dk_at dksX0_elsewhere_0 2 rfl rfl)
theorem dX0_elsewhere_3 : decode cX0_elsewhere 3 = .ok (.istore_n 2, 1) := dk_61 (dk_at dksX0_elsewhere_0 3 rfl rfl)
theorem dX0_elsewhere_4 : decode cX0_elsewhere 4 = .ok (.iload_n 2, 1) := dk_28 (dk_at dksX0_elsewhere_0 4 rfl rfl)
theorem dX0_elsewhere_5 : decode cX0_elsewhere 5 = .ok (.bipush 10, 2) := dk_16 10 (dk_at dksX0_elsewhere_0 5 rfl rfl)
theorem dX0_elsewhere_7 : decode cX0_elsewhere 7 = .ok (.if_icmp .ge 53, 3) := dk_162 0 53 (dk_at dksX0_elsewhere_0 7 rfl rfl)
theorem dX0_elsewhere_10 : decode cX0_elsewhere 10 = .ok (.iload_n 1, 1) := dk_27 (dk_at dksX0_elsewhere_0 10 rfl rfl)
theorem dX0_elsewhere_11 : decode cX0_elsewhere 11 = .ok (.aload_n 0, 1) := dk_42 (dk_at dksX0_elsewhere_0 11 rfl rfl)
theorem dX0_elsewhere_12 : decode cX0_elsewhere 12 = .ok (.getfield 19, 3) := dk_180 0 19 (dk_at dksX0_elsewhere_0 12 rfl rfl)
theorem dX0_elsewhere_15 : decode cX0_elsewhere 15 = .ok (.getfield 80, 3) := dk_180 0 80 (dk_at dksX0_elsewhere_0 15 rfl rfl)
theorem dX0_elsewhere_18 : decode cX0_elsewhere 18 = .ok (.iload_n 2, 1) := dk_28 (dk_at dksX0_elsewhere_0 18 rfl rfl)
theorem dX0_elsewhere_19 : decode cX0_elsewhere 19 = .ok (.aaload, 1) := dk_50 (dk_at dksX0_elsewhere_0 19 rfl rfl)
theorem dX0_elsewhere_20 : decode cX0_elsewhere 20 = .ok (.ifnull 28, 3) := dk_198 0 28 (dk_at dksX0_elsewhere_0 20 rfl rfl)
theorem dX0_elsewhere_23 : decode cX0_elsewhere 23 = .ok (.aload_n 0, 1) := dk_42 (dk_at dksX0_elsewhere_0 23 rfl rfl)
theorem dX0_elsewhere_24 : decode cX0_elsewhere 24 = .ok (.getfield 19, 3) := dk_180 0 19 (dk_at dksX0_elsewhere_1 0 rfl rfl)
theorem dX0_elsewhere_27 : decode cX0_elsewhere 27 = .ok (.getfield 80, 3) := dk_180 0 80 (dk_at dksX0_elsewhere_1 3 rfl rfl)
theorem dX0_elsewhere_30 : decode cX0_elsewhere 30 = .ok (.iload_n 2, 1) := dk_28 (dk_at dksX0_elsewhere_1 6 rfl rfl)
theorem dX0_elsewhere_31 : decode cX0_elsewhere 31 = .ok (.aaload, 1) := dk_50 (dk_at dksX0_elsewhere_1 7 rfl rfl)
theorem dX0_elsewhere_32 : decode cX0_elsewhere 32 = .ok (.getfield 49, 3) := dk_180 0 49 (dk_at dksX0_elsewhere_1 8 rfl rfl)
theorem dX0_elsewhere_35 : decode cX0_elsewhere 35 = .ok (.aload_n 0, 1) := dk_42 (dk_at dksX0_elsewhere_1 11 rfl rfl)
theorem dX0_elsewhere_36 : decode cX0_elsewhere 36 = .ok (.getfield 266, 3) := dk_180 1 10 (dk_at dksX0_elsewhere_1 12 rfl rfl)
theorem dX0_elsewhere_39 : decode cX0_elsewhere 39 = .ok (.iload_n 2, 1) := dk_28 (dk_at dksX0_elsewhere_1 15 rfl rfl)
theorem dX0_elsewhere_40 : decode cX0_elsewhere 40 = .ok (.iaload, 1) := dk_46 (dk_at dksX0_elsewhere_1 16 rfl rfl)
theorem dX0_elsewhere_41 : decode cX0_elsewhere 41 = .ok (.if_icmp .eq 7, 3) := dk_159 0 7 (dk_at dksX0_elsewhere_1 17 rfl rfl)
theorem dX0_elsewhere_44 : decode cX0_elsewhere 44 = .ok (.iconst 1, 1) := dk_4 (dk_at dksX0_elsewhere_1 20 rfl rfl)
theorem dX0_elsewhere_45 : decode cX0_elsewhere 45 = .ok (.goto 4, 3) := dk_167 0 4 (dk_at dksX0_elsewhere_1 21 rfl rfl)
theorem dX0_elsewhere_48 : decode cX0_elsewhere 48 = .ok (.iconst 0, 1) := dk_3 (dk_at dksX0_elsewhere_2 0 rfl rfl)
theorem dX0_elsewhere_49 : decode cX0_elsewhere 49 = .ok (.invokestatic 112, 3) := dk_184 0 112 (dk_at dksX0_elsewhere_2 1 rfl rfl)
theorem dX0_elsewhere_52 : decode cX0_elsewhere 52 = .ok (.iadd, 1) := dk_96 (dk_at dksX0_elsewhere_2 4 rfl rfl)
theorem dX0_elsewhere_53 : decode cX0_elsewhere 53 = .ok (.istore_n 1, 1) := dk_60 (dk_at dksX0_elsewhere_2 5 rfl rfl)
theorem dX0_elsewhere_54 : decode cX0_elsewhere 54 = .ok (.iinc 2 1, 3) := dk_132 2 1 (dk_at dksX0_elsewhere_2 6 rfl rfl)
theorem dX0_elsewhere_57 : decode cX0_elsewhere 57 = .ok (.goto (-53), 3) := dk_167 255 203 (dk_at dksX0_elsewhere_2 9 rfl rfl)
theorem dX0_elsewhere_60 : decode cX0_elsewhere 60 = .ok (.iload_n 1, 1) := dk_27 (dk_at dksX0_elsewhere_2 12 rfl rfl)
theorem dX0_elsewhere_61 : decode cX0_elsewhere 61 = .ok (.ireturn, 1) := dk_172 (dk_at dksX0_elsewhere_2 13 rfl rfl)
abbrev cX0_execute : ByteArray := prog_1_method_50_code
def yX0_execute : MethodName := ⟨RX0, "execute", "()I"⟩
def dkwX0_execute_1 : List UInt8 := [16, 156, 43, 180, 1, 81, 100, 61, 42, 3, 181, 1, 66, 28, 172, 78, 42, 3, 181, 1, 66, 45, 191]
abbrev dktX0_execute_1 : List UInt8 := dkwX0_execute_1 ++ []
def dkwX0_execute_0 : List UInt8 := [42, 187, 1, 73, 89, 42, 183, 1, 75, 182, 1, 104, 182, 1, 108, 60, 42, 3, 181, 1, 66, 27, 172, 76]
abbrev dktX0_execute_0 : List UInt8 := dkwX0_execute_0 ++ dktX0_execute_1
theorem dksX0_execute_0 : cX0_execute.data.toList.drop 0 = dktX0_execute_0 := by decide +kernel
theorem dksX0_execute_1 : cX0_execute.data.toList.drop 24 = dktX0_execute_1 := dk_seg dksX0_execute_0 24 rfl rfl
theorem dX0_execute_0 : decode cX0_execute 0 = .ok (.aload_n 0, 1) := dk_42 (dk_at dksX0_execute_0 0 rfl rfl)
theorem dX0_execute_1 : decode cX0_execute 1 = .ok (.new 329, 3) := dk_187 1 73 (dk_at dksX0_execute_0 1 rfl rfl)
theorem dX0_execute_4 : decode cX0_execute 4 = .ok (.dup, 1) := dk_89 (dk_at dksX0_execute_0 4 rfl rfl)
theorem dX0_execute_5 : decode cX0_execute 5 = .ok (.aload_n 0, 1) := dk_42 (dk_at dksX0_execute_0 5 rfl rfl)
theorem dX0_execute_6 : decode cX0_execute 6 = .ok (.invokespecial 331, 3) := dk_183 1 75 (dk_at dksX0_execute_0 6 rfl rfl)
theorem dX0_execute_9 : decode cX0_execute 9 = .ok (.invokevirtual 360, 3) := dk_182 1 104 (dk_at dksX0_execute_0 9 rfl rfl)
theorem dX0_execute_12 : decode cX0_execute 12 = .ok (.invokevirtual 364, 3) := dk_182 1 108 (dk_at dksX0_execute_0 12 rfl rfl)
theorem dX0_execute_15 : decode cX0_execute 15 = .ok (.istore_n 1, 1) := dk_60 (dk_at dksX0_execute_0 15 rfl rfl)
theorem dX0_execute_16 : decode cX0_execute 16 = .ok (.aload_n 0, 1) := dk_42 (dk_at dksX0_execute_0 16 rfl rfl)
theorem dX0_execute_17 : decode cX0_execute 17 = .ok (.iconst 0, 1) := dk_3 (dk_at dksX0_execute_0 17 rfl rfl)
theorem dX0_execute_18 : decode cX0_execute 18 = .ok (.putfield 322, 3) := dk_181 1 66 (dk_at dksX0_execute_0 18 rfl rfl)
theorem dX0_execute_21 : decode cX0_execute 21 = .ok (.iload_n 1, 1) := dk_27 (dk_at dksX0_execute_0 21 rfl rfl)
theorem dX0_execute_22 : decode cX0_execute 22 = .ok (.ireturn, 1) := dk_172 (dk_at dksX0_execute_0 22 rfl rfl)
theorem dX0_execute_23 : decode cX0_execute 23 = .ok (.astore_n 1, 1) := dk_76 (dk_at dksX0_execute_0 23 rfl rfl)
theorem dX0_execute_24 : decode cX0_execute 24 = .ok (.bipush (-100), 2) := dk_16 156 (dk_at dksX0_execute_1 0 rfl rfl)
theorem dX0_execute_26 : decode cX0_execute 26 = .ok (.aload_n 1, 1) := dk_43 (dk_at dksX0_execute_1 2 rfl rfl)
theorem dX0_execute_27 : decode cX0_execute 27 = .ok (.getfield 337, 3) := dk_180 1 81 (dk_at dksX0_execute_1 3 rfl rfl)
theorem dX0_execute_30 : decode cX0_execute 30 = .ok (.isub, 1) := dk_100 (dk_at dksX0_execute_1 6 rfl rfl)
theorem dX0_execute_31 : decode cX0_execute 31 = .ok (.istore_n 2, 1) := dk_61 (dk_at dksX0_execute_1 7 rfl rfl)
theorem dX0_execute_32 : decode cX0_execute 32 = .ok (.aload_n 0, 1) := dk_42 (dk_at dksX0_execute_1 8 rfl rfl)
theorem dX0_execute_33 : decode cX0_execute 33 = .ok (.iconst 0, 1) := dk_3 (dk_at dksX0_execute_1 9 rfl rfl)
theorem dX0_execute_34 : decode cX0_execute 34 = .ok (.putfield 322, 3) := dk_181 1 66 (dk_at dksX0_execute_1 10 rfl rfl)
theorem dX0_execute_37 : decode cX0_execute 37 = .ok (.iload_n 2, 1) := dk_28 (dk_at dksX0_execute_1 13 rfl rfl)
theorem dX0_execute_38 : decode cX0_execute 38 = .ok (.ireturn, 1) := dk_172 (dk_at dksX0_execute_1 14 rfl rfl)
theorem dX0_execute_39 : decode cX0_execute 39 = .ok (.astore_n 3, 1) := dk_78 (dk_at dksX0_execute_1 15 rfl rfl)
theorem dX0_execute_40 : decode cX0_execute 40 = .ok (.aload_n 0, 1) := dk_42 (dk_at dksX0_execute_1 16 rfl rfl)
theorem dX0_execute_41 : decode cX0_execute 41 = .ok (.iconst 0, 1) := dk_3 (dk_at dksX0_execute_1 17 rfl rfl)
theorem dX0_execute_42 : decode cX0_execute 42 = .ok (.putfield 322, 3) := dk_181 1 66 (dk_at dksX0_execute_1 18 rfl rfl)
theorem dX0_execute_45 : decode cX0_execute 45 = .ok (.aload_n 3, 1) := dk_45 (dk_at dksX0_execute_1 21 rfl rfl)
theorem dX0_execute_46 : decode cX0_execute 46 = .ok (.athrow, 1) := dk_191 (dk_at dksX0_execute_1 22 rfl rfl)
abbrev cX0_carriesOut : ByteArray := prog_1_method_49_code
def yX0_carriesOut : MethodName := ⟨RX0, "carriesOut", "(Ljava/util/ArrayList;)I"⟩
def dkwX0_carriesOut_5 : List UInt8 := [172]
abbrev dktX0_carriesOut_5 : List UInt8 := dkwX0_carriesOut_5 ++ []
def dkwX0_carriesOut_4 : List UInt8 := [182, 0, 233, 16, 8, 164, 0, 15, 42, 180, 1, 3, 3, 182, 1, 28, 192, 0, 24, 78, 43, 182, 0, 233]
abbrev dktX0_carriesOut_4 : List UInt8 := dkwX0_carriesOut_4 ++ dktX0_carriesOut_5
def dkwX0_carriesOut_3 : List UInt8 := [182, 1, 101, 132, 3, 1, 167, 255, 193, 42, 180, 1, 3, 44, 182, 0, 232, 87, 42, 180, 1, 3]
abbrev dktX0_carriesOut_3 : List UInt8 := dkwX0_carriesOut_3 ++ dktX0_carriesOut_4
def dkwX0_carriesOut_2 : List UInt8 := [181, 1, 13, 42, 29, 181, 1, 16, 17, 255, 56, 21, 4, 100, 172, 43, 29, 182, 0, 234, 192, 1, 96]
abbrev dktX0_carriesOut_2 : List UInt8 := dkwX0_carriesOut_2 ++ dktX0_carriesOut_3
def dkwX0_carriesOut_1 : List UInt8 := [182, 0, 234, 192, 1, 96, 182, 1, 98, 54, 4, 21, 4, 158, 0, 26, 42, 44, 181, 0, 19, 42, 21, 4]
abbrev dktX0_carriesOut_1 : List UInt8 := dkwX0_carriesOut_1 ++ dktX0_carriesOut_2
def dkwX0_carriesOut_0 : List UInt8 := [187, 0, 24, 89, 42, 180, 0, 19, 183, 1, 25, 77, 3, 62, 29, 43, 182, 0, 233, 162, 0, 61, 43, 29]
abbrev dktX0_carriesOut_0 : List UInt8 := dkwX0_carriesOut_0 ++ dktX0_carriesOut_1
theorem dksX0_carriesOut_0 : cX0_carriesOut.data.toList.drop 0 = dktX0_carriesOut_0 := by decide +kernel
theorem dksX0_carriesOut_1 : cX0_carriesOut.data.toList.drop 24 = dktX0_carriesOut_1 := dk_seg dksX0_carriesOut_0 24 rfl rfl
theorem dksX0_carriesOut_2 : cX0_carriesOut.data.toList.drop 48 = dktX0_carriesOut_2 := dk_seg dksX0_carriesOut_1 24 rfl rfl
theorem dksX0_carriesOut_3 : cX0_carriesOut.data.toList.drop 71 = dktX0_carriesOut_3 := dk_seg dksX0_carriesOut_2 23 rfl rfl
theorem dksX0_carriesOut_4 : cX0_carriesOut.data.toList.drop 93 = dktX0_carriesOut_4 := dk_seg dksX0_carriesOut_3 22 rfl rfl
theorem dksX0_carriesOut_5 : cX0_carriesOut.data.toList.drop 117 = dktX0_carriesOut_5 := dk_seg dksX0_carriesOut_4 24 rfl rfl
theorem dX0_carriesOut_0 : decode cX0_carriesOut 0 = .ok (.new 24, 3) := dk_187 0 24 (dk_at dksX0_carriesOut_0 0 rfl rfl)
theorem dX0_carriesOut_3 : decode cX0_carriesOut 3 = .ok (.dup, 1) := dk_89 (dk_at dksX0_carriesOut_0 3 rfl rfl)
theorem dX0_carriesOut_4 : decode cX0_carriesOut 4 = .ok (.aload_n 0, 1) := dk_42 (dk_at dksX0_carriesOut_0 4 rfl rfl)
theorem dX0_carriesOut_5 : decode cX0_carriesOut 5 = .ok (.getfield 19, 3) := dk_180 0 19 (dk_at dksX0_carriesOut_0 5 rfl rfl)
theorem dX0_carriesOut_8 : decode cX0_carriesOut 8 = .ok (.invokespecial 281, 3) := dk_183 1 25 (dk_at dksX0_carriesOut_0 8 rfl rfl)
theorem dX0_carriesOut_11 : decode cX0_carriesOut 11 = .ok (.astore_n 2, 1) := dk_77 (dk_at dksX0_carriesOut_0 11 rfl rfl)
theorem dX0_carriesOut_12 : decode cX0_carriesOut 12 = .ok (.iconst 0, 1) := dk_3 (dk_at dksX0_carriesOut_0 12 rfl rfl)
theorem dX0_carriesOut_13 : decode cX0_carriesOut 13 = .ok (.istore_n 3, 1) := dk_62 (dk_at dksX0_carriesOut_0 13 rfl rfl)
theorem dX0_carriesOut_14 : decode cX0_carriesOut 14 = .ok (.iload_n 3, 1) := dk_29 (dk_at dksX0_carriesOut_0 14 rfl rfl)
theorem dX0_carriesOut_15 : decode cX0_carriesOut 15 = .ok (.aload_n 1, 1) := dk_43 (dk_at dksX0_carriesOut_0 15 rfl rfl)
theorem dX0_carriesOut_16 : decode cX0_carriesOut 16 = .ok (.invokevirtual 233, 3) := dk_182 0 233 (dk_at dksX0_carriesOut_0 16 rfl rfl)
theorem dX0_carriesOut_19 : decode cX0_carriesOut 19 = .ok (.if_icmp .ge 61, 3) := dk_162 0 61 (dk_at dksX0_carriesOut_0 19 rfl rfl)
theorem dX0_carriesOut_22 : decode cX0_carriesOut 22 = .ok (.aload_n 1, 1) := dk_43 (dk_at dksX0_carriesOut_0 22 rfl rfl)
theorem dX0_carriesOut_23 : decode cX0_carriesOut 23 = .ok (.iload_n 3, 1) := dk_29 (dk_at dksX0_carriesOut_0 23 rfl rfl)
theorem dX0_carriesOut_24 : decode cX0_carriesOut 24 = .ok (.invokevirtual 234, 3) := dk_182 0 234 (dk_at dksX0_carriesOut_1 0 rfl rfl)
theorem dX0_carriesOut_27 : decode cX0_carriesOut 27 = .ok (.checkcast 352, 3) := dk_192 1 96 (dk_at dksX0_carriesOut_1 3 rfl rfl)
theorem dX0_carriesOut_30 : decode cX0_carriesOut 30 = .ok (.invokevirtual 354, 3) := dk_182 1 98 (dk_at dksX0_carriesOut_1 6 rfl rfl)
theorem dX0_carriesOut_33 : decode cX0_carriesOut 33 = .ok (.istore 4, 2) := dk_54 4 (dk_at dksX0_carriesOut_1 9 rfl rfl)
theorem dX0_carriesOut_35 : decode cX0_carriesOut 35 = .ok (.iload 4, 2) := dk_21 4 (dk_at dksX0_carriesOut_1 11 rfl rfl)
theorem dX0_carriesOut_37 : decode cX0_carriesOut 37 = .ok (.ifCond .le 26, 3) := dk_158 0 26 (dk_at dksX0_carriesOut_1 13 rfl rfl)
theorem dX0_carriesOut_40 : decode cX0_carriesOut 40 = .ok (.aload_n 0, 1) := dk_42 (dk_at dksX0_carriesOut_1 16 rfl rfl)
theorem dX0_carriesOut_41 : decode cX0_carriesOut 41 = .ok (.aload_n 2, 1) := dk_44 (dk_at dksX0_carriesOut_1 17 rfl rfl)
theorem dX0_carriesOut_42 : decode cX0_carriesOut 42 = .ok (.putfield 19, 3) := dk_181 0 19 (dk_at dksX0_carriesOut_1 18 rfl rfl)
theorem dX0_carriesOut_45 : decode cX0_carriesOut 45 = .ok (.aload_n 0, 1) := dk_42 (dk_at dksX0_carriesOut_1 21 rfl rfl)
theorem dX0_carriesOut_46 : decode cX0_carriesOut 46 = .ok (.iload 4, 2) := dk_21 4 (dk_at dksX0_carriesOut_1 22 rfl rfl)
theorem dX0_carriesOut_48 : decode cX0_carriesOut 48 = .ok (.putfield 269, 3) := dk_181 1 13 (dk_at dksX0_carriesOut_2 0 rfl rfl)
theorem dX0_carriesOut_51 : decode cX0_carriesOut 51 = .ok (.aload_n 0, 1) := dk_42 (dk_at dksX0_carriesOut_2 3 rfl rfl)
theorem dX0_carriesOut_52 : decode cX0_carriesOut 52 = .ok (.iload_n 3, 1) := dk_29 (dk_at dksX0_carriesOut_2 4 rfl rfl)
theorem dX0_carriesOut_53 : decode cX0_carriesOut 53 = .ok (.putfield 272, 3) := dk_181 1 16 (dk_at dksX0_carriesOut_2 5 rfl rfl)
theorem dX0_carriesOut_56 : decode cX0_carriesOut 56 = .ok (.sipush (-200), 3) := dk_17 255 56 (dk_at dksX0_carriesOut_2 8 rfl rfl)
theorem dX0_carriesOut_59 : decode cX0_carriesOut 59 = .ok (.iload 4, 2) := dk_21 4 (dk_at dksX0_carriesOut_2 11 rfl rfl)
theorem dX0_carriesOut_61 : decode cX0_carriesOut 61 = .ok (.isub, 1) := dk_100 (dk_at dksX0_carriesOut_2 13 rfl rfl)
theorem dX0_carriesOut_62 : decode cX0_carriesOut 62 = .ok (.ireturn, 1) := dk_172 (dk_at dksX0_carriesOut_2 14 rfl rfl)
theorem dX0_carriesOut_63 : decode cX0_carriesOut 63 = .ok (.aload_n 1, 1) := dk_43 (dk_at dksX0_carriesOut_2 15 rfl rfl)
theorem dX0_carriesOut_64 : decode cX0_carriesOut 64 = .ok (.iload_n 3, 1) := dk_29 (dk_at dksX0_carriesOut_2 16 rfl rfl)
theorem dX0_carriesOut_65 : decode cX0_carriesOut 65 = .ok (.invokevirtual 234, 3) := dk_182 0 234 (dk_at dksX0_carriesOut_2 17 rfl rfl)
theorem dX0_carriesOut_68 : decode cX0_carriesOut 68 = .ok (.checkcast 352, 3) := dk_192 1 96 (dk_at dksX0_carriesOut_2 20 rfl rfl)
theorem dX0_carriesOut_71 : decode cX0_carriesOut 71 = .ok (.invokevirtual 357, 3) := dk_182 1 101 (dk_at dksX0_carriesOut_3 0 rfl rfl)
theorem dX0_carriesOut_74 : decode cX0_carriesOut 74 = .ok (.iinc 3 1, 3) := dk_132 3 1 (dk_at dksX0_carriesOut_3 3 rfl rfl)
theorem dX0_carriesOut_77 : decode cX0_carriesOut 77 = .ok (.goto (-63), 3) := dk_167 255 193 (dk_at dksX0_carriesOut_3 6 rfl rfl)
theorem dX0_carriesOut_80 : decode cX0_carriesOut 80 = .ok (.aload_n 0, 1) := dk_42 (dk_at dksX0_carriesOut_3 9 rfl rfl)
theorem dX0_carriesOut_81 : decode cX0_carriesOut 81 = .ok (.getfield 259, 3) := dk_180 1 3 (dk_at dksX0_carriesOut_3 10 rfl rfl)
theorem dX0_carriesOut_84 : decode cX0_carriesOut 84 = .ok (.aload_n 2, 1) := dk_44 (dk_at dksX0_carriesOut_3 13 rfl rfl)
theorem dX0_carriesOut_85 : decode cX0_carriesOut 85 = .ok (.invokevirtual 232, 3) := dk_182 0 232 (dk_at dksX0_carriesOut_3 14 rfl rfl)
theorem dX0_carriesOut_88 : decode cX0_carriesOut 88 = .ok (.pop, 1) := dk_87 (dk_at dksX0_carriesOut_3 17 rfl rfl)
theorem dX0_carriesOut_89 : decode cX0_carriesOut 89 = .ok (.aload_n 0, 1) := dk_42 (dk_at dksX0_carriesOut_3 18 rfl rfl)
theorem dX0_carriesOut_90 : decode cX0_carriesOut 90 = .ok (.getfield 259, 3) := dk_180 1 3 (dk_at dksX0_carriesOut_3 19 rfl rfl)
theorem dX0_carriesOut_93 : decode cX0_carriesOut 93 = .ok (.invokevirtual 233, 3) := dk_182 0 233 (dk_at dksX0_carriesOut_4 0 rfl rfl)
theorem dX0_carriesOut_96 : decode cX0_carriesOut 96 = .ok (.bipush 8, 2) := dk_16 8 (dk_at dksX0_carriesOut_4 3 rfl rfl)
theorem dX0_carriesOut_98 : decode cX0_carriesOut 98 = .ok (.if_icmp .le 15, 3) := dk_164 0 15 (dk_at dksX0_carriesOut_4 5 rfl rfl)
theorem dX0_carriesOut_101 : decode cX0_carriesOut 101 = .ok (.aload_n 0, 1) := dk_42 (dk_at dksX0_carriesOut_4 8 rfl rfl)
theorem dX0_carriesOut_102 : decode cX0_carriesOut 102 = .ok (.getfield 259, 3) := dk_180 1 3 (dk_at dksX0_carriesOut_4 9 rfl rfl)
theorem dX0_carriesOut_105 : decode cX0_carriesOut 105 = .ok (.iconst 0, 1) := dk_3 (dk_at dksX0_carriesOut_4 12 rfl rfl)
theorem dX0_carriesOut_106 : decode cX0_carriesOut 106 = .ok (.invokevirtual 284, 3) := dk_182 1 28 (dk_at dksX0_carriesOut_4 13 rfl rfl)
theorem dX0_carriesOut_109 : decode cX0_carriesOut 109 = .ok (.checkcast 24, 3) := dk_192 0 24 (dk_at dksX0_carriesOut_4 16 rfl rfl)
theorem dX0_carriesOut_112 : decode cX0_carriesOut 112 = .ok (.astore_n 3, 1) := dk_78 (dk_at dksX0_carriesOut_4 19 rfl rfl)
theorem dX0_carriesOut_113 : decode cX0_carriesOut 113 = .ok (.aload_n 1, 1) := dk_43 (dk_at dksX0_carriesOut_4 20 rfl rfl)
theorem dX0_carriesOut_114 : decode cX0_carriesOut 114 = .ok (.invokevirtual 233, 3) := dk_182 0 233 (dk_at dksX0_carriesOut_4 21 rfl rfl)
theorem dX0_carriesOut_117 : decode cX0_carriesOut 117 = .ok (.ireturn, 1) := dk_172 (dk_at dksX0_carriesOut_5 0 rfl rfl)
abbrev cX0_refusal : ByteArray := prog_1_method_51_code
def yX0_refusal : MethodName := ⟨RX0, "refusal", "(I)I"⟩
def dkwX0_refusal_1 : List UInt8 := [172]
abbrev dktX0_refusal_1 : List UInt8 := dkwX0_refusal_1 ++ []
def dkwX0_refusal_0 : List UInt8 := [27, 154, 0, 10, 42, 180, 1, 13, 167, 0, 16, 27, 4, 160, 0, 10, 42, 180, 1, 16, 167, 0, 4, 2]
abbrev dktX0_refusal_0 : List UInt8 := dkwX0_refusal_0 ++ dktX0_refusal_1
theorem dksX0_refusal_0 : cX0_refusal.data.toList.drop 0 = dktX0_refusal_0 := by decide +kernel
theorem dksX0_refusal_1 : cX0_refusal.data.toList.drop 24 = dktX0_refusal_1 := dk_seg dksX0_refusal_0 24 rfl rfl
theorem dX0_refusal_0 : decode cX0_refusal 0 = .ok (.iload_n 1, 1) := dk_27 (dk_at dksX0_refusal_0 0 rfl rfl)
theorem dX0_refusal_1 : decode cX0_refusal 1 = .ok (.ifCond .ne 10, 3) := dk_154 0 10 (dk_at dksX0_refusal_0 1 rfl rfl)
theorem dX0_refusal_4 : decode cX0_refusal 4 = .ok (.aload_n 0, 1) := dk_42 (dk_at dksX0_refusal_0 4 rfl rfl)
theorem dX0_refusal_5 : decode cX0_refusal 5 = .ok (.getfield 269, 3) := dk_180 1 13 (dk_at dksX0_refusal_0 5 rfl rfl)
theorem dX0_refusal_8 : decode cX0_refusal 8 = .ok (.goto 16, 3) := dk_167 0 16 (dk_at dksX0_refusal_0 8 rfl rfl)
theorem dX0_refusal_11 : decode cX0_refusal 11 = .ok (.iload_n 1, 1) := dk_27 (dk_at dksX0_refusal_0 11 rfl rfl)
theorem dX0_refusal_12 : decode cX0_refusal 12 = .ok (.iconst 1, 1) := dk_4 (dk_at dksX0_refusal_0 12 rfl rfl)
theorem dX0_refusal_13 : decode cX0_refusal 13 = .ok (.if_icmp .ne 10, 3) := dk_160 0 10 (dk_at dksX0_refusal_0 13 rfl rfl)
theorem dX0_refusal_16 : decode cX0_refusal 16 = .ok (.aload_n 0, 1) := dk_42 (dk_at dksX0_refusal_0 16 rfl rfl)
theorem dX0_refusal_17 : decode cX0_refusal 17 = .ok (.getfield 272, 3) := dk_180 1 16 (dk_at dksX0_refusal_0 17 rfl rfl)
theorem dX0_refusal_20 : decode cX0_refusal 20 = .ok (.goto 4, 3) := dk_167 0 4 (dk_at dksX0_refusal_0 20 rfl rfl)
theorem dX0_refusal_23 : decode cX0_refusal 23 = .ok (.iconst (-1), 1) := dk_2 (dk_at dksX0_refusal_0 23 rfl rfl)
theorem dX0_refusal_24 : decode cX0_refusal 24 = .ok (.ireturn, 1) := dk_172 (dk_at dksX0_refusal_1 0 rfl rfl)
abbrev cX0_member : ByteArray := prog_1_method_52_code
def yX0_member : MethodName := ⟨RX0, "member", "(II)I"⟩
def dkwX0_member_5 : List UInt8 := [180, 0, 132, 167, 0, 18, 45, 180, 0, 138, 167, 0, 11, 45, 180, 0, 193, 167, 0, 4, 2, 172]
abbrev dktX0_member_5 : List UInt8 := dkwX0_member_5 ++ []
def dkwX0_member_4 : List UInt8 := [42, 45, 182, 0, 116, 167, 0, 39, 45, 180, 0, 170, 167, 0, 32, 45, 180, 0, 135, 167, 0, 25, 45]
abbrev dktX0_member_4 : List UInt8 := dkwX0_member_4 ++ dktX0_member_5
def dkwX0_member_3 : List UInt8 := [45, 180, 0, 49, 167, 0, 64, 42, 180, 0, 98, 27, 46, 167, 0, 55, 42, 45, 182, 1, 112, 167, 0, 47]
abbrev dktX0_member_3 : List UInt8 := dkwX0_member_3 ++ dktX0_member_4
def dkwX0_member_2 : List UInt8 := [170, 0, 0, 0, 0, 0, 118, 0, 0, 0, 0, 0, 0, 0, 8, 0, 0, 0, 51, 0, 0, 0, 58, 0, 0, 0, 67, 0, 0, 0, 75, 0, 0, 0, 83, 0, 0, 0, 90, 0, 0, 0, 97, 0, 0, 0, 104, 0, 0, 0, 111]
abbrev dktX0_member_2 : List UInt8 := dkwX0_member_2 ++ dktX0_member_3
def dkwX0_member_1 : List UInt8 := [4, 6, 184, 0, 3, 153, 0, 7, 42, 182, 0, 120, 28]
abbrev dktX0_member_1 : List UInt8 := dkwX0_member_1 ++ dktX0_member_2
def dkwX0_member_0 : List UInt8 := [42, 180, 0, 19, 27, 182, 1, 45, 154, 0, 5, 2, 172, 42, 180, 0, 19, 180, 0, 80, 27, 50, 78, 28]
abbrev dktX0_member_0 : List UInt8 := dkwX0_member_0 ++ dktX0_member_1
theorem dksX0_member_0 : cX0_member.data.toList.drop 0 = dktX0_member_0 := by decide +kernel
theorem dksX0_member_1 : cX0_member.data.toList.drop 24 = dktX0_member_1 := dk_seg dksX0_member_0 24 rfl rfl
theorem dksX0_member_2 : cX0_member.data.toList.drop 37 = dktX0_member_2 := dk_seg dksX0_member_1 13 rfl rfl
theorem dksX0_member_3 : cX0_member.data.toList.drop 88 = dktX0_member_3 := dk_seg dksX0_member_2 51 rfl rfl
theorem dksX0_member_4 : cX0_member.data.toList.drop 112 = dktX0_member_4 := dk_seg dksX0_member_3 24 rfl rfl
theorem dksX0_member_5 : cX0_member.data.toList.drop 135 = dktX0_member_5 := dk_seg dksX0_member_4 23 rfl rfl
theorem dX0_member_0 : decode cX0_member 0 = .ok (.aload_n 0, 1) := dk_42 (dk_at dksX0_member_0 0 rfl rfl)
theorem dX0_member_1 : decode cX0_member 1 = .ok (.getfield 19, 3) := dk_180 0 19 (dk_at dksX0_member_0 1 rfl rfl)
theorem dX0_member_4 : decode cX0_member 4 = .ok (.iload_n 1, 1) := dk_27 (dk_at dksX0_member_0 4 rfl rfl)
theorem dX0_member_5 : decode cX0_member 5 = .ok (.invokevirtual 301, 3) := dk_182 1 45 (dk_at dksX0_member_0 5 rfl rfl)
theorem dX0_member_8 : decode cX0_member 8 = .ok (.ifCond .ne 5, 3) := dk_154 0 5 (dk_at dksX0_member_0 8 rfl rfl)
theorem dX0_member_11 : decode cX0_member 11 = .ok (.iconst (-1), 1) := dk_2 (dk_at dksX0_member_0 11 rfl rfl)
theorem dX0_member_12 : decode cX0_member 12 = .ok (.ireturn, 1) := dk_172 (dk_at dksX0_member_0 12 rfl rfl)
theorem dX0_member_13 : decode cX0_member 13 = .ok (.aload_n 0, 1) := dk_42 (dk_at dksX0_member_0 13 rfl rfl)
theorem dX0_member_14 : decode cX0_member 14 = .ok (.getfield 19, 3) := dk_180 0 19 (dk_at dksX0_member_0 14 rfl rfl)
theorem dX0_member_17 : decode cX0_member 17 = .ok (.getfield 80, 3) := dk_180 0 80 (dk_at dksX0_member_0 17 rfl rfl)
theorem dX0_member_20 : decode cX0_member 20 = .ok (.iload_n 1, 1) := dk_27 (dk_at dksX0_member_0 20 rfl rfl)
theorem dX0_member_21 : decode cX0_member 21 = .ok (.aaload, 1) := dk_50 (dk_at dksX0_member_0 21 rfl rfl)
theorem dX0_member_22 : decode cX0_member 22 = .ok (.astore_n 3, 1) := dk_78 (dk_at dksX0_member_0 22 rfl rfl)
theorem dX0_member_23 : decode cX0_member 23 = .ok (.iload_n 2, 1) := dk_28 (dk_at dksX0_member_0 23 rfl rfl)
theorem dX0_member_24 : decode cX0_member 24 = .ok (.iconst 1, 1) := dk_4 (dk_at dksX0_member_1 0 rfl rfl)
theorem dX0_member_25 : decode cX0_member 25 = .ok (.iconst 3, 1) := dk_6 (dk_at dksX0_member_1 1 rfl rfl)
theorem dX0_member_26 : decode cX0_member 26 = .ok (.invokestatic 3, 3) := dk_184 0 3 (dk_at dksX0_member_1 2 rfl rfl)
theorem dX0_member_29 : decode cX0_member 29 = .ok (.ifCond .eq 7, 3) := dk_153 0 7 (dk_at dksX0_member_1 5 rfl rfl)
theorem dX0_member_32 : decode cX0_member 32 = .ok (.aload_n 0, 1) := dk_42 (dk_at dksX0_member_1 8 rfl rfl)
theorem dX0_member_33 : decode cX0_member 33 = .ok (.invokevirtual 120, 3) := dk_182 0 120 (dk_at dksX0_member_1 9 rfl rfl)
theorem dX0_member_36 : decode cX0_member 36 = .ok (.iload_n 2, 1) := dk_28 (dk_at dksX0_member_1 12 rfl rfl)
theorem dX0_member_37 : decode cX0_member 37 = .ok (.tableswitch 118 0 8 #[51, 58, 67, 75, 83, 90, 97, 104, 111], 51) := by decide +kernel
theorem dX0_member_88 : decode cX0_member 88 = .ok (.aload_n 3, 1) := dk_45 (dk_at dksX0_member_3 0 rfl rfl)
theorem dX0_member_89 : decode cX0_member 89 = .ok (.getfield 49, 3) := dk_180 0 49 (dk_at dksX0_member_3 1 rfl rfl)
theorem dX0_member_92 : decode cX0_member 92 = .ok (.goto 64, 3) := dk_167 0 64 (dk_at dksX0_member_3 4 rfl rfl)
theorem dX0_member_95 : decode cX0_member 95 = .ok (.aload_n 0, 1) := dk_42 (dk_at dksX0_member_3 7 rfl rfl)
theorem dX0_member_96 : decode cX0_member 96 = .ok (.getfield 98, 3) := dk_180 0 98 (dk_at dksX0_member_3 8 rfl rfl)
theorem dX0_member_99 : decode cX0_member 99 = .ok (.iload_n 1, 1) := dk_27 (dk_at dksX0_member_3 11 rfl rfl)
theorem dX0_member_100 : decode cX0_member 100 = .ok (.iaload, 1) := dk_46 (dk_at dksX0_member_3 12 rfl rfl)
theorem dX0_member_101 : decode cX0_member 101 = .ok (.goto 55, 3) := dk_167 0 55 (dk_at dksX0_member_3 13 rfl rfl)
theorem dX0_member_104 : decode cX0_member 104 = .ok (.aload_n 0, 1) := dk_42 (dk_at dksX0_member_3 16 rfl rfl)
theorem dX0_member_105 : decode cX0_member 105 = .ok (.aload_n 3, 1) := dk_45 (dk_at dksX0_member_3 17 rfl rfl)
theorem dX0_member_106 : decode cX0_member 106 = .ok (.invokevirtual 368, 3) := dk_182 1 112 (dk_at dksX0_member_3 18 rfl rfl)
theorem dX0_member_109 : decode cX0_member 109 = .ok (.goto 47, 3) := dk_167 0 47 (dk_at dksX0_member_3 21 rfl rfl)
theorem dX0_member_112 : decode cX0_member 112 = .ok (.aload_n 0, 1) := dk_42 (dk_at dksX0_member_4 0 rfl rfl)
theorem dX0_member_113 : decode cX0_member 113 = .ok (.aload_n 3, 1) := dk_45 (dk_at dksX0_member_4 1 rfl rfl)
theorem dX0_member_114 : decode cX0_member 114 = .ok (.invokevirtual 116, 3) := dk_182 0 116 (dk_at dksX0_member_4 2 rfl rfl)
theorem dX0_member_117 : decode cX0_member 117 = .ok (.goto 39, 3) := dk_167 0 39 (dk_at dksX0_member_4 5 rfl rfl)
theorem dX0_member_120 : decode cX0_member 120 = .ok (.aload_n 3, 1) := dk_45 (dk_at dksX0_member_4 8 rfl rfl)
theorem dX0_member_121 : decode cX0_member 121 = .ok (.getfield 170, 3) := dk_180 0 170 (dk_at dksX0_member_4 9 rfl rfl)
theorem dX0_member_124 : decode cX0_member 124 = .ok (.goto 32, 3) := dk_167 0 32 (dk_at dksX0_member_4 12 rfl rfl)
theorem dX0_member_127 : decode cX0_member 127 = .ok (.aload_n 3, 1) := dk_45 (dk_at dksX0_member_4 15 rfl rfl)
theorem dX0_member_128 : decode cX0_member 128 = .ok (.getfield 135, 3) := dk_180 0 135 (dk_at dksX0_member_4 16 rfl rfl)
theorem dX0_member_131 : decode cX0_member 131 = .ok (.goto 25, 3) := dk_167 0 25 (dk_at dksX0_member_4 19 rfl rfl)
theorem dX0_member_134 : decode cX0_member 134 = .ok (.aload_n 3, 1) := dk_45 (dk_at dksX0_member_4 22 rfl rfl)
theorem dX0_member_135 : decode cX0_member 135 = .ok (.getfield 132, 3) := dk_180 0 132 (dk_at dksX0_member_5 0 rfl rfl)
theorem dX0_member_138 : decode cX0_member 138 = .ok (.goto 18, 3) := dk_167 0 18 (dk_at dksX0_member_5 3 rfl rfl)
theorem dX0_member_141 : decode cX0_member 141 = .ok (.aload_n 3, 1) := dk_45 (dk_at dksX0_member_5 6 rfl rfl)
theorem dX0_member_142 : decode cX0_member 142 = .ok (.getfield 138, 3) := dk_180 0 138 (dk_at dksX0_member_5 7 rfl rfl)
theorem dX0_member_145 : decode cX0_member 145 = .ok (.goto 11, 3) := dk_167 0 11 (dk_at dksX0_member_5 10 rfl rfl)
theorem dX0_member_148 : decode cX0_member 148 = .ok (.aload_n 3, 1) := dk_45 (dk_at dksX0_member_5 13 rfl rfl)
theorem dX0_member_149 : decode cX0_member 149 = .ok (.getfield 193, 3) := dk_180 0 193 (dk_at dksX0_member_5 14 rfl rfl)
theorem dX0_member_152 : decode cX0_member 152 = .ok (.goto 4, 3) := dk_167 0 4 (dk_at dksX0_member_5 17 rfl rfl)
theorem dX0_member_155 : decode cX0_member 155 = .ok (.iconst (-1), 1) := dk_2 (dk_at dksX0_member_5 20 rfl rfl)
theorem dX0_member_156 : decode cX0_member 156 = .ok (.ireturn, 1) := dk_172 (dk_at dksX0_member_5 21 rfl rfl)
abbrev cX0_placeOf : ByteArray := prog_1_method_12_code
def yX0_placeOf : MethodName := ⟨RX0, "placeOf", "(LSwarmPlanner$Member;)I"⟩
def dkwX0_placeOf_1 : List UInt8 := [180, 0, 98, 43, 180, 0, 109, 46, 46, 172]
abbrev dktX0_placeOf_1 : List UInt8 := dkwX0_placeOf_1 ++ []
def dkwX0_placeOf_0 : List UInt8 := [42, 180, 0, 98, 43, 180, 0, 109, 46, 156, 0, 8, 16, 251, 167, 0, 17, 42, 180, 0, 42, 42]
abbrev dktX0_placeOf_0 : List UInt8 := dkwX0_placeOf_0 ++ dktX0_placeOf_1
theorem dksX0_placeOf_0 : cX0_placeOf.data.toList.drop 0 = dktX0_placeOf_0 := by decide +kernel
theorem dksX0_placeOf_1 : cX0_placeOf.data.toList.drop 22 = dktX0_placeOf_1 := dk_seg dksX0_placeOf_0 22 rfl rfl
theorem dX0_placeOf_0 : decode cX0_placeOf 0 = .ok (.aload_n 0, 1) := dk_42 (dk_at dksX0_placeOf_0 0 rfl rfl)
theorem dX0_placeOf_1 : decode cX0_placeOf 1 = .ok (.getfield 98, 3) := dk_180 0 98 (dk_at dksX0_placeOf_0 1 rfl rfl)
theorem dX0_placeOf_4 : decode cX0_placeOf 4 = .ok (.aload_n 1, 1) := dk_43 (dk_at dksX0_placeOf_0 4 rfl rfl)
theorem dX0_placeOf_5 : decode cX0_placeOf 5 = .ok (.getfield 109, 3) := dk_180 0 109 (dk_at dksX0_placeOf_0 5 rfl rfl)
theorem dX0_placeOf_8 : decode cX0_placeOf 8 = .ok (.iaload, 1) := dk_46 (dk_at dksX0_placeOf_0 8 rfl rfl)
theorem dX0_placeOf_9 : decode cX0_placeOf 9 = .ok (.ifCond .ge 8, 3) := dk_156 0 8 (dk_at dksX0_placeOf_0 9 rfl rfl)
theorem dX0_placeOf_12 : decode cX0_placeOf 12 = .ok (.bipush (-5), 2) := dk_16 251 (dk_at dksX0_placeOf_0 12 rfl rfl)
theorem dX0_placeOf_14 : decode cX0_placeOf 14 = .ok (.goto 17, 3) := dk_167 0 17 (dk_at dksX0_placeOf_0 14 rfl rfl)
theorem dX0_placeOf_17 : decode cX0_placeOf 17 = .ok (.aload_n 0, 1) := dk_42 (dk_at dksX0_placeOf_0 17 rfl rfl)
theorem dX0_placeOf_18 : decode cX0_placeOf 18 = .ok (.getfield 42, 3) := dk_180 0 42 (dk_at dksX0_placeOf_0 18 rfl rfl)
theorem dX0_placeOf_21 : decode cX0_placeOf 21 = .ok (.aload_n 0, 1) := dk_42 (dk_at dksX0_placeOf_0 21 rfl rfl)
theorem dX0_placeOf_22 : decode cX0_placeOf 22 = .ok (.getfield 98, 3) := dk_180 0 98 (dk_at dksX0_placeOf_1 0 rfl rfl)
theorem dX0_placeOf_25 : decode cX0_placeOf 25 = .ok (.aload_n 1, 1) := dk_43 (dk_at dksX0_placeOf_1 3 rfl rfl)
theorem dX0_placeOf_26 : decode cX0_placeOf 26 = .ok (.getfield 109, 3) := dk_180 0 109 (dk_at dksX0_placeOf_1 4 rfl rfl)
theorem dX0_placeOf_29 : decode cX0_placeOf 29 = .ok (.iaload, 1) := dk_46 (dk_at dksX0_placeOf_1 7 rfl rfl)
theorem dX0_placeOf_30 : decode cX0_placeOf 30 = .ok (.iaload, 1) := dk_46 (dk_at dksX0_placeOf_1 8 rfl rfl)
theorem dX0_placeOf_31 : decode cX0_placeOf 31 = .ok (.ireturn, 1) := dk_172 (dk_at dksX0_placeOf_1 9 rfl rfl)
abbrev cX0_swarm : ByteArray := prog_1_method_53_code
def yX0_swarm : MethodName := ⟨RX0, "swarm", "(I)I"⟩
def dkwX0_swarm_5 : List UInt8 := [172]
abbrev dktX0_swarm_5 : List UInt8 := dkwX0_swarm_5 ++ []
def dkwX0_swarm_4 : List UInt8 := [182, 0, 122, 167, 0, 21, 42, 182, 1, 115, 184, 0, 112, 167, 0, 11, 42, 180, 0, 74, 167, 0, 4, 2]
abbrev dktX0_swarm_4 : List UInt8 := dkwX0_swarm_4 ++ dktX0_swarm_5
def dkwX0_swarm_3 : List UInt8 := [180, 0, 144, 167, 0, 45, 42, 180, 0, 19, 180, 0, 63, 167, 0, 35, 42, 182, 0, 125, 167, 0, 28, 42]
abbrev dktX0_swarm_3 : List UInt8 := dkwX0_swarm_3 ++ dktX0_swarm_4
def dkwX0_swarm_2 : List UInt8 := [42, 180, 0, 19, 182, 1, 51, 167, 0, 65, 42, 180, 0, 19, 182, 0, 55, 167, 0, 55, 42, 180, 0, 19]
abbrev dktX0_swarm_2 : List UInt8 := dkwX0_swarm_2 ++ dktX0_swarm_3
def dkwX0_swarm_1 : List UInt8 := [170, 0, 0, 0, 0, 0, 118, 0, 0, 0, 0, 0, 0, 0, 7, 0, 0, 0, 47, 0, 0, 0, 57, 0, 0, 0, 67, 0, 0, 0, 77, 0, 0, 0, 87, 0, 0, 0, 94, 0, 0, 0, 101, 0, 0, 0, 111]
abbrev dktX0_swarm_1 : List UInt8 := dkwX0_swarm_1 ++ dktX0_swarm_2
def dkwX0_swarm_0 : List UInt8 := [42, 182, 0, 120, 27]
abbrev dktX0_swarm_0 : List UInt8 := dkwX0_swarm_0 ++ dktX0_swarm_1
theorem dksX0_swarm_0 : cX0_swarm.data.toList.drop 0 = dktX0_swarm_0 := by decide +kernel
theorem dksX0_swarm_1 : cX0_swarm.data.toList.drop 5 = dktX0_swarm_1 := dk_seg dksX0_swarm_0 5 rfl rfl
theorem dksX0_swarm_2 : cX0_swarm.data.toList.drop 52 = dktX0_swarm_2 := dk_seg dksX0_swarm_1 47 rfl rfl
theorem dksX0_swarm_3 : cX0_swarm.data.toList.drop 76 = dktX0_swarm_3 := dk_seg dksX0_swarm_2 24 rfl rfl
theorem dksX0_swarm_4 : cX0_swarm.data.toList.drop 100 = dktX0_swarm_4 := dk_seg dksX0_swarm_3 24 rfl rfl
theorem dksX0_swarm_5 : cX0_swarm.data.toList.drop 124 = dktX0_swarm_5 := dk_seg dksX0_swarm_4 24 rfl rfl
theorem dX0_swarm_0 : decode cX0_swarm 0 = .ok (.aload_n 0, 1) := dk_42 (dk_at dksX0_swarm_0 0 rfl rfl)
theorem dX0_swarm_1 : decode cX0_swarm 1 = .ok (.invokevirtual 120, 3) := dk_182 0 120 (dk_at dksX0_swarm_0 1 rfl rfl)
theorem dX0_swarm_4 : decode cX0_swarm 4 = .ok (.iload_n 1, 1) := dk_27 (dk_at dksX0_swarm_0 4 rfl rfl)
theorem dX0_swarm_5 : decode cX0_swarm 5 = .ok (.tableswitch 118 0 7 #[47, 57, 67, 77, 87, 94, 101, 111], 47) := by decide +kernel
theorem dX0_swarm_52 : decode cX0_swarm 52 = .ok (.aload_n 0, 1) := dk_42 (dk_at dksX0_swarm_2 0 rfl rfl)
theorem dX0_swarm_53 : decode cX0_swarm 53 = .ok (.getfield 19, 3) := dk_180 0 19 (dk_at dksX0_swarm_2 1 rfl rfl)
theorem dX0_swarm_56 : decode cX0_swarm 56 = .ok (.invokevirtual 307, 3) := dk_182 1 51 (dk_at dksX0_swarm_2 4 rfl rfl)
theorem dX0_swarm_59 : decode cX0_swarm 59 = .ok (.goto 65, 3) := dk_167 0 65 (dk_at dksX0_swarm_2 7 rfl rfl)
theorem dX0_swarm_62 : decode cX0_swarm 62 = .ok (.aload_n 0, 1) := dk_42 (dk_at dksX0_swarm_2 10 rfl rfl)
theorem dX0_swarm_63 : decode cX0_swarm 63 = .ok (.getfield 19, 3) := dk_180 0 19 (dk_at dksX0_swarm_2 11 rfl rfl)
theorem dX0_swarm_66 : decode cX0_swarm 66 = .ok (.invokevirtual 55, 3) := dk_182 0 55 (dk_at dksX0_swarm_2 14 rfl rfl)
theorem dX0_swarm_69 : decode cX0_swarm 69 = .ok (.goto 55, 3) := dk_167 0 55 (dk_at dksX0_swarm_2 17 rfl rfl)
theorem dX0_swarm_72 : decode cX0_swarm 72 = .ok (.aload_n 0, 1) := dk_42 (dk_at dksX0_swarm_2 20 rfl rfl)
theorem dX0_swarm_73 : decode cX0_swarm 73 = .ok (.getfield 19, 3) := dk_180 0 19 (dk_at dksX0_swarm_2 21 rfl rfl)
theorem dX0_swarm_76 : decode cX0_swarm 76 = .ok (.getfield 144, 3) := dk_180 0 144 (dk_at dksX0_swarm_3 0 rfl rfl)
theorem dX0_swarm_79 : decode cX0_swarm 79 = .ok (.goto 45, 3) := dk_167 0 45 (dk_at dksX0_swarm_3 3 rfl rfl)
theorem dX0_swarm_82 : decode cX0_swarm 82 = .ok (.aload_n 0, 1) := dk_42 (dk_at dksX0_swarm_3 6 rfl rfl)
theorem dX0_swarm_83 : decode cX0_swarm 83 = .ok (.getfield 19, 3) := dk_180 0 19 (dk_at dksX0_swarm_3 7 rfl rfl)
theorem dX0_swarm_86 : decode cX0_swarm 86 = .ok (.getfield 63, 3) := dk_180 0 63 (dk_at dksX0_swarm_3 10 rfl rfl)
theorem dX0_swarm_89 : decode cX0_swarm 89 = .ok (.goto 35, 3) := dk_167 0 35 (dk_at dksX0_swarm_3 13 rfl rfl)
theorem dX0_swarm_92 : decode cX0_swarm 92 = .ok (.aload_n 0, 1) := dk_42 (dk_at dksX0_swarm_3 16 rfl rfl)
theorem dX0_swarm_93 : decode cX0_swarm 93 = .ok (.invokevirtual 125, 3) := dk_182 0 125 (dk_at dksX0_swarm_3 17 rfl rfl)
theorem dX0_swarm_96 : decode cX0_swarm 96 = .ok (.goto 28, 3) := dk_167 0 28 (dk_at dksX0_swarm_3 20 rfl rfl)
theorem dX0_swarm_99 : decode cX0_swarm 99 = .ok (.aload_n 0, 1) := dk_42 (dk_at dksX0_swarm_3 23 rfl rfl)
theorem dX0_swarm_100 : decode cX0_swarm 100 = .ok (.invokevirtual 122, 3) := dk_182 0 122 (dk_at dksX0_swarm_4 0 rfl rfl)
theorem dX0_swarm_103 : decode cX0_swarm 103 = .ok (.goto 21, 3) := dk_167 0 21 (dk_at dksX0_swarm_4 3 rfl rfl)
theorem dX0_swarm_106 : decode cX0_swarm 106 = .ok (.aload_n 0, 1) := dk_42 (dk_at dksX0_swarm_4 6 rfl rfl)
theorem dX0_swarm_107 : decode cX0_swarm 107 = .ok (.invokevirtual 371, 3) := dk_182 1 115 (dk_at dksX0_swarm_4 7 rfl rfl)
theorem dX0_swarm_110 : decode cX0_swarm 110 = .ok (.invokestatic 112, 3) := dk_184 0 112 (dk_at dksX0_swarm_4 10 rfl rfl)
theorem dX0_swarm_113 : decode cX0_swarm 113 = .ok (.goto 11, 3) := dk_167 0 11 (dk_at dksX0_swarm_4 13 rfl rfl)
theorem dX0_swarm_116 : decode cX0_swarm 116 = .ok (.aload_n 0, 1) := dk_42 (dk_at dksX0_swarm_4 16 rfl rfl)
theorem dX0_swarm_117 : decode cX0_swarm 117 = .ok (.getfield 74, 3) := dk_180 0 74 (dk_at dksX0_swarm_4 17 rfl rfl)
theorem dX0_swarm_120 : decode cX0_swarm 120 = .ok (.goto 4, 3) := dk_167 0 4 (dk_at dksX0_swarm_4 20 rfl rfl)
theorem dX0_swarm_123 : decode cX0_swarm 123 = .ok (.iconst (-1), 1) := dk_2 (dk_at dksX0_swarm_4 23 rfl rfl)
theorem dX0_swarm_124 : decode cX0_swarm 124 = .ok (.ireturn, 1) := dk_172 (dk_at dksX0_swarm_5 0 rfl rfl)
abbrev cX0_given : ByteArray := prog_1_method_14_code
def yX0_given : MethodName := ⟨RX0, "given", "()I"⟩
def dkwX0_given_1 : List UInt8 := [3, 184, 0, 112, 96, 60, 132, 2, 1, 167, 255, 227, 27, 172]
abbrev dktX0_given_1 : List UInt8 := dkwX0_given_1 ++ []
def dkwX0_given_0 : List UInt8 := [3, 60, 3, 61, 28, 16, 10, 162, 0, 29, 27, 42, 180, 0, 98, 28, 46, 155, 0, 7, 4, 167, 0, 4]
abbrev dktX0_given_0 : List UInt8 := dkwX0_given_0 ++ dktX0_given_1
theorem dksX0_given_0 : cX0_given.data.toList.drop 0 = dktX0_given_0 := by decide +kernel
theorem dksX0_given_1 : cX0_given.data.toList.drop 24 = dktX0_given_1 := dk_seg dksX0_given_0 24 rfl rfl
theorem dX0_given_0 : decode cX0_given 0 = .ok (.iconst 0, 1) := dk_3 (dk_at dksX0_given_0 0 rfl rfl)
theorem dX0_given_1 : decode cX0_given 1 = .ok (.istore_n 1, 1) := dk_60 (dk_at dksX0_given_0 1 rfl rfl)
theorem dX0_given_2 : decode cX0_given 2 = .ok (.iconst 0, 1) := dk_3 (dk_at dksX0_given_0 2 rfl rfl)
theorem dX0_given_3 : decode cX0_given 3 = .ok (.istore_n 2, 1) := dk_61 (dk_at dksX0_given_0 3 rfl rfl)
theorem dX0_given_4 : decode cX0_given 4 = .ok (.iload_n 2, 1) := dk_28 (dk_at dksX0_given_0 4 rfl rfl)
theorem dX0_given_5 : decode cX0_given 5 = .ok (.bipush 10, 2) := dk_16 10 (dk_at dksX0_given_0 5 rfl rfl)
theorem dX0_given_7 : decode cX0_given 7 = .ok (.if_icmp .ge 29, 3) := dk_162 0 29 (dk_at dksX0_given_0 7 rfl rfl)
theorem dX0_given_10 : decode cX0_given 10 = .ok (.iload_n 1, 1) := dk_27 (dk_at dksX0_given_0 10 rfl rfl)
theorem dX0_given_11 : decode cX0_given 11 = .ok (.aload_n 0, 1) := dk_42 (dk_at dksX0_given_0 11 rfl rfl)
theorem dX0_given_12 : decode cX0_given 12 = .ok (.getfield 98, 3) := dk_180 0 98 (dk_at dksX0_given_0 12 rfl rfl)
theorem dX0_given_15 : decode cX0_given 15 = .ok (.iload_n 2, 1) := dk_28 (dk_at dksX0_given_0 15 rfl rfl)
theorem dX0_given_16 : decode cX0_given 16 = .ok (.iaload, 1) := dk_46 (dk_at dksX0_given_0 16 rfl rfl)
theorem dX0_given_17 : decode cX0_given 17 = .ok (.ifCond .lt 7, 3) := dk_155 0 7 (dk_at dksX0_given_0 17 rfl rfl)
theorem dX0_given_20 : decode cX0_given 20 = .ok (.iconst 1, 1) := dk_4 (dk_at dksX0_given_0 20 rfl rfl)
theorem dX0_given_21 : decode cX0_given 21 = .ok (.goto 4, 3) := dk_167 0 4 (dk_at dksX0_given_0 21 rfl rfl)
theorem dX0_given_24 : decode cX0_given 24 = .ok (.iconst 0, 1) := dk_3 (dk_at dksX0_given_1 0 rfl rfl)
theorem dX0_given_25 : decode cX0_given 25 = .ok (.invokestatic 112, 3) := dk_184 0 112 (dk_at dksX0_given_1 1 rfl rfl)
theorem dX0_given_28 : decode cX0_given 28 = .ok (.iadd, 1) := dk_96 (dk_at dksX0_given_1 4 rfl rfl)
theorem dX0_given_29 : decode cX0_given 29 = .ok (.istore_n 1, 1) := dk_60 (dk_at dksX0_given_1 5 rfl rfl)
theorem dX0_given_30 : decode cX0_given 30 = .ok (.iinc 2 1, 3) := dk_132 2 1 (dk_at dksX0_given_1 6 rfl rfl)
theorem dX0_given_33 : decode cX0_given 33 = .ok (.goto (-29), 3) := dk_167 255 227 (dk_at dksX0_given_1 9 rfl rfl)
theorem dX0_given_36 : decode cX0_given 36 = .ok (.iload_n 1, 1) := dk_27 (dk_at dksX0_given_1 12 rfl rfl)
theorem dX0_given_37 : decode cX0_given 37 = .ok (.ireturn, 1) := dk_172 (dk_at dksX0_given_1 13 rfl rfl)
abbrev cX0_distances : ByteArray := prog_1_method_15_code
def yX0_distances : MethodName := ⟨RX0, "distances", "()I"⟩
def dkwX0_distances_2 : List UInt8 := [172]
abbrev dktX0_distances_2 : List UInt8 := dkwX0_distances_2 ++ []
def dkwX0_distances_1 : List UInt8 := [180, 0, 19, 180, 0, 80, 28, 50, 182, 0, 116, 167, 0, 4, 3, 96, 60, 132, 2, 1, 167, 255, 218, 27]
abbrev dktX0_distances_1 : List UInt8 := dkwX0_distances_1 ++ dktX0_distances_2
def dkwX0_distances_0 : List UInt8 := [3, 60, 3, 61, 28, 16, 10, 162, 0, 38, 27, 42, 180, 0, 98, 28, 46, 155, 0, 19, 42, 42]
abbrev dktX0_distances_0 : List UInt8 := dkwX0_distances_0 ++ dktX0_distances_1
theorem dksX0_distances_0 : cX0_distances.data.toList.drop 0 = dktX0_distances_0 := by decide +kernel
theorem dksX0_distances_1 : cX0_distances.data.toList.drop 22 = dktX0_distances_1 := dk_seg dksX0_distances_0 22 rfl rfl
theorem dksX0_distances_2 : cX0_distances.data.toList.drop 46 = dktX0_distances_2 := dk_seg dksX0_distances_1 24 rfl rfl
theorem dX0_distances_0 : decode cX0_distances 0 = .ok (.iconst 0, 1) := dk_3 (dk_at dksX0_distances_0 0 rfl rfl)
theorem dX0_distances_1 : decode cX0_distances 1 = .ok (.istore_n 1, 1) := dk_60 (dk_at dksX0_distances_0 1 rfl rfl)
theorem dX0_distances_2 : decode cX0_distances 2 = .ok (.iconst 0, 1) := dk_3 (dk_at dksX0_distances_0 2 rfl rfl)
theorem dX0_distances_3 : decode cX0_distances 3 = .ok (.istore_n 2, 1) := dk_61 (dk_at dksX0_distances_0 3 rfl rfl)
theorem dX0_distances_4 : decode cX0_distances 4 = .ok (.iload_n 2, 1) := dk_28 (dk_at dksX0_distances_0 4 rfl rfl)
theorem dX0_distances_5 : decode cX0_distances 5 = .ok (.bipush 10, 2) := dk_16 10 (dk_at dksX0_distances_0 5 rfl rfl)
theorem dX0_distances_7 : decode cX0_distances 7 = .ok (.if_icmp .ge 38, 3) := dk_162 0 38 (dk_at dksX0_distances_0 7 rfl rfl)
theorem dX0_distances_10 : decode cX0_distances 10 = .ok (.iload_n 1, 1) := dk_27 (dk_at dksX0_distances_0 10 rfl rfl)
theorem dX0_distances_11 : decode cX0_distances 11 = .ok (.aload_n 0, 1) := dk_42 (dk_at dksX0_distances_0 11 rfl rfl)
theorem dX0_distances_12 : decode cX0_distances 12 = .ok (.getfield 98, 3) := dk_180 0 98 (dk_at dksX0_distances_0 12 rfl rfl)
theorem dX0_distances_15 : decode cX0_distances 15 = .ok (.iload_n 2, 1) := dk_28 (dk_at dksX0_distances_0 15 rfl rfl)
theorem dX0_distances_16 : decode cX0_distances 16 = .ok (.iaload, 1) := dk_46 (dk_at dksX0_distances_0 16 rfl rfl)
theorem dX0_distances_17 : decode cX0_distances 17 = .ok (.ifCond .lt 19, 3) := dk_155 0 19 (dk_at dksX0_distances_0 17 rfl rfl)
theorem dX0_distances_20 : decode cX0_distances 20 = .ok (.aload_n 0, 1) := dk_42 (dk_at dksX0_distances_0 20 rfl rfl)
theorem dX0_distances_21 : decode cX0_distances 21 = .ok (.aload_n 0, 1) := dk_42 (dk_at dksX0_distances_0 21 rfl rfl)
theorem dX0_distances_22 : decode cX0_distances 22 = .ok (.getfield 19, 3) := dk_180 0 19 (dk_at dksX0_distances_1 0 rfl rfl)
theorem dX0_distances_25 : decode cX0_distances 25 = .ok (.getfield 80, 3) := dk_180 0 80 (dk_at dksX0_distances_1 3 rfl rfl)
theorem dX0_distances_28 : decode cX0_distances 28 = .ok (.iload_n 2, 1) := dk_28 (dk_at dksX0_distances_1 6 rfl rfl)
theorem dX0_distances_29 : decode cX0_distances 29 = .ok (.aaload, 1) := dk_50 (dk_at dksX0_distances_1 7 rfl rfl)
theorem dX0_distances_30 : decode cX0_distances 30 = .ok (.invokevirtual 116, 3) := dk_182 0 116 (dk_at dksX0_distances_1 8 rfl rfl)
theorem dX0_distances_33 : decode cX0_distances 33 = .ok (.goto 4, 3) := dk_167 0 4 (dk_at dksX0_distances_1 11 rfl rfl)
theorem dX0_distances_36 : decode cX0_distances 36 = .ok (.iconst 0, 1) := dk_3 (dk_at dksX0_distances_1 14 rfl rfl)
theorem dX0_distances_37 : decode cX0_distances 37 = .ok (.iadd, 1) := dk_96 (dk_at dksX0_distances_1 15 rfl rfl)
theorem dX0_distances_38 : decode cX0_distances 38 = .ok (.istore_n 1, 1) := dk_60 (dk_at dksX0_distances_1 16 rfl rfl)
theorem dX0_distances_39 : decode cX0_distances 39 = .ok (.iinc 2 1, 3) := dk_132 2 1 (dk_at dksX0_distances_1 17 rfl rfl)
theorem dX0_distances_42 : decode cX0_distances 42 = .ok (.goto (-38), 3) := dk_167 255 218 (dk_at dksX0_distances_1 20 rfl rfl)
theorem dX0_distances_45 : decode cX0_distances 45 = .ok (.iload_n 1, 1) := dk_27 (dk_at dksX0_distances_1 23 rfl rfl)
theorem dX0_distances_46 : decode cX0_distances 46 = .ok (.ireturn, 1) := dk_172 (dk_at dksX0_distances_2 0 rfl rfl)
abbrev cX0_isFormed : ByteArray := prog_1_method_16_code
def yX0_isFormed : MethodName := ⟨RX0, "isFormed", "()Z"⟩
def dkwX0_isFormed_2 : List UInt8 := [157, 0, 11, 43, 182, 0, 66, 4, 160, 0, 7, 4, 167, 0, 4, 3, 172]
abbrev dktX0_isFormed_2 : List UInt8 := dkwX0_isFormed_2 ++ []
def dkwX0_isFormed_1 : List UInt8 := [182, 0, 55, 155, 0, 7, 43, 199, 0, 5, 3, 172, 42, 182, 0, 122, 154, 0, 22, 42, 182, 0, 125]
abbrev dktX0_isFormed_1 : List UInt8 := dkwX0_isFormed_1 ++ dktX0_isFormed_2
def dkwX0_isFormed_0 : List UInt8 := [42, 182, 0, 120, 42, 180, 0, 19, 180, 0, 59, 42, 180, 0, 19, 180, 0, 63, 50, 76, 42, 180, 0, 19]
abbrev dktX0_isFormed_0 : List UInt8 := dkwX0_isFormed_0 ++ dktX0_isFormed_1
theorem dksX0_isFormed_0 : cX0_isFormed.data.toList.drop 0 = dktX0_isFormed_0 := by decide +kernel
theorem dksX0_isFormed_1 : cX0_isFormed.data.toList.drop 24 = dktX0_isFormed_1 := dk_seg dksX0_isFormed_0 24 rfl rfl
theorem dksX0_isFormed_2 : cX0_isFormed.data.toList.drop 47 = dktX0_isFormed_2 := dk_seg dksX0_isFormed_1 23 rfl rfl
theorem dX0_isFormed_0 : decode cX0_isFormed 0 = .ok (.aload_n 0, 1) := dk_42 (dk_at dksX0_isFormed_0 0 rfl rfl)
theorem dX0_isFormed_1 : decode cX0_isFormed 1 = .ok (.invokevirtual 120, 3) := dk_182 0 120 (dk_at dksX0_isFormed_0 1 rfl rfl)
theorem dX0_isFormed_4 : decode cX0_isFormed 4 = .ok (.aload_n 0, 1) := dk_42 (dk_at dksX0_isFormed_0 4 rfl rfl)
theorem dX0_isFormed_5 : decode cX0_isFormed 5 = .ok (.getfield 19, 3) := dk_180 0 19 (dk_at dksX0_isFormed_0 5 rfl rfl)
theorem dX0_isFormed_8 : decode cX0_isFormed 8 = .ok (.getfield 59, 3) := dk_180 0 59 (dk_at dksX0_isFormed_0 8 rfl rfl)
theorem dX0_isFormed_11 : decode cX0_isFormed 11 = .ok (.aload_n 0, 1) := dk_42 (dk_at dksX0_isFormed_0 11 rfl rfl)
theorem dX0_isFormed_12 : decode cX0_isFormed 12 = .ok (.getfield 19, 3) := dk_180 0 19 (dk_at dksX0_isFormed_0 12 rfl rfl)
theorem dX0_isFormed_15 : decode cX0_isFormed 15 = .ok (.getfield 63, 3) := dk_180 0 63 (dk_at dksX0_isFormed_0 15 rfl rfl)
theorem dX0_isFormed_18 : decode cX0_isFormed 18 = .ok (.aaload, 1) := dk_50 (dk_at dksX0_isFormed_0 18 rfl rfl)
theorem dX0_isFormed_19 : decode cX0_isFormed 19 = .ok (.astore_n 1, 1) := dk_76 (dk_at dksX0_isFormed_0 19 rfl rfl)
theorem dX0_isFormed_20 : decode cX0_isFormed 20 = .ok (.aload_n 0, 1) := dk_42 (dk_at dksX0_isFormed_0 20 rfl rfl)
theorem dX0_isFormed_21 : decode cX0_isFormed 21 = .ok (.getfield 19, 3) := dk_180 0 19 (dk_at dksX0_isFormed_0 21 rfl rfl)
theorem dX0_isFormed_24 : decode cX0_isFormed 24 = .ok (.invokevirtual 55, 3) := dk_182 0 55 (dk_at dksX0_isFormed_1 0 rfl rfl)
theorem dX0_isFormed_27 : decode cX0_isFormed 27 = .ok (.ifCond .lt 7, 3) := dk_155 0 7 (dk_at dksX0_isFormed_1 3 rfl rfl)
theorem dX0_isFormed_30 : decode cX0_isFormed 30 = .ok (.aload_n 1, 1) := dk_43 (dk_at dksX0_isFormed_1 6 rfl rfl)
theorem dX0_isFormed_31 : decode cX0_isFormed 31 = .ok (.ifnonnull 5, 3) := dk_199 0 5 (dk_at dksX0_isFormed_1 7 rfl rfl)
theorem dX0_isFormed_34 : decode cX0_isFormed 34 = .ok (.iconst 0, 1) := dk_3 (dk_at dksX0_isFormed_1 10 rfl rfl)
theorem dX0_isFormed_35 : decode cX0_isFormed 35 = .ok (.ireturn, 1) := dk_172 (dk_at dksX0_isFormed_1 11 rfl rfl)
theorem dX0_isFormed_36 : decode cX0_isFormed 36 = .ok (.aload_n 0, 1) := dk_42 (dk_at dksX0_isFormed_1 12 rfl rfl)
theorem dX0_isFormed_37 : decode cX0_isFormed 37 = .ok (.invokevirtual 122, 3) := dk_182 0 122 (dk_at dksX0_isFormed_1 13 rfl rfl)
theorem dX0_isFormed_40 : decode cX0_isFormed 40 = .ok (.ifCond .ne 22, 3) := dk_154 0 22 (dk_at dksX0_isFormed_1 16 rfl rfl)
theorem dX0_isFormed_43 : decode cX0_isFormed 43 = .ok (.aload_n 0, 1) := dk_42 (dk_at dksX0_isFormed_1 19 rfl rfl)
theorem dX0_isFormed_44 : decode cX0_isFormed 44 = .ok (.invokevirtual 125, 3) := dk_182 0 125 (dk_at dksX0_isFormed_1 20 rfl rfl)
theorem dX0_isFormed_47 : decode cX0_isFormed 47 = .ok (.ifCond .gt 11, 3) := dk_157 0 11 (dk_at dksX0_isFormed_2 0 rfl rfl)
theorem dX0_isFormed_50 : decode cX0_isFormed 50 = .ok (.aload_n 1, 1) := dk_43 (dk_at dksX0_isFormed_2 3 rfl rfl)
theorem dX0_isFormed_51 : decode cX0_isFormed 51 = .ok (.invokevirtual 66, 3) := dk_182 0 66 (dk_at dksX0_isFormed_2 4 rfl rfl)
theorem dX0_isFormed_54 : decode cX0_isFormed 54 = .ok (.iconst 1, 1) := dk_4 (dk_at dksX0_isFormed_2 7 rfl rfl)
theorem dX0_isFormed_55 : decode cX0_isFormed 55 = .ok (.if_icmp .ne 7, 3) := dk_160 0 7 (dk_at dksX0_isFormed_2 8 rfl rfl)
theorem dX0_isFormed_58 : decode cX0_isFormed 58 = .ok (.iconst 1, 1) := dk_4 (dk_at dksX0_isFormed_2 11 rfl rfl)
theorem dX0_isFormed_59 : decode cX0_isFormed 59 = .ok (.goto 4, 3) := dk_167 0 4 (dk_at dksX0_isFormed_2 12 rfl rfl)
theorem dX0_isFormed_62 : decode cX0_isFormed 62 = .ok (.iconst 0, 1) := dk_3 (dk_at dksX0_isFormed_2 15 rfl rfl)
theorem dX0_isFormed_63 : decode cX0_isFormed 63 = .ok (.ireturn, 1) := dk_172 (dk_at dksX0_isFormed_2 16 rfl rfl)
abbrev cX0_cell : ByteArray := prog_1_method_57_code
def yX0_cell : MethodName := ⟨RX0, "cell", "(II)I"⟩
def dkwX0_cell_6 : List UInt8 := [42, 27, 182, 1, 124, 167, 0, 4, 2, 172]
abbrev dktX0_cell_6 : List UInt8 := dkwX0_cell_6 ++ []
def dkwX0_cell_5 : List UInt8 := [180, 0, 19, 180, 0, 80, 42, 180, 0, 19, 182, 0, 55, 50, 180, 0, 49, 27, 182, 1, 121, 167, 0, 12]
abbrev dktX0_cell_5 : List UInt8 := dkwX0_cell_5 ++ dktX0_cell_6
def dkwX0_cell_4 : List UInt8 := [182, 1, 118, 167, 0, 53, 42, 180, 0, 19, 182, 0, 55, 156, 0, 8, 16, 251, 167, 0, 38, 42, 42]
abbrev dktX0_cell_4 : List UInt8 := dkwX0_cell_4 ++ dktX0_cell_5
def dkwX0_cell_3 : List UInt8 := [156, 0, 8, 16, 251, 167, 0, 73, 42, 180, 0, 19, 180, 0, 150, 27, 46, 167, 0, 61, 42, 27]
abbrev dktX0_cell_3 : List UInt8 := dkwX0_cell_3 ++ dktX0_cell_4
def dkwX0_cell_2 : List UInt8 := [42, 180, 0, 19, 180, 0, 23, 27, 51, 184, 0, 112, 167, 0, 90, 42, 180, 0, 19, 180, 0, 150, 27, 46]
abbrev dktX0_cell_2 : List UInt8 := dkwX0_cell_2 ++ dktX0_cell_3
def dkwX0_cell_1 : List UInt8 := [170, 0, 0, 0, 0, 135, 0, 0, 0, 0, 0, 0, 0, 4, 0, 0, 0, 34, 0, 0, 0, 49, 0, 0, 0, 78, 0, 0, 0, 86, 0, 0, 0, 127]
abbrev dktX0_cell_1 : List UInt8 := dkwX0_cell_1 ++ dktX0_cell_2
def dkwX0_cell_0 : List UInt8 := [27, 184, 1, 57, 154, 0, 5, 2, 172, 28]
abbrev dktX0_cell_0 : List UInt8 := dkwX0_cell_0 ++ dktX0_cell_1
theorem dksX0_cell_0 : cX0_cell.data.toList.drop 0 = dktX0_cell_0 := by decide +kernel
theorem dksX0_cell_1 : cX0_cell.data.toList.drop 10 = dktX0_cell_1 := dk_seg dksX0_cell_0 10 rfl rfl
theorem dksX0_cell_2 : cX0_cell.data.toList.drop 44 = dktX0_cell_2 := dk_seg dksX0_cell_1 34 rfl rfl
theorem dksX0_cell_3 : cX0_cell.data.toList.drop 68 = dktX0_cell_3 := dk_seg dksX0_cell_2 24 rfl rfl
theorem dksX0_cell_4 : cX0_cell.data.toList.drop 90 = dktX0_cell_4 := dk_seg dksX0_cell_3 22 rfl rfl
theorem dksX0_cell_5 : cX0_cell.data.toList.drop 113 = dktX0_cell_5 := dk_seg dksX0_cell_4 23 rfl rfl
theorem dksX0_cell_6 : cX0_cell.data.toList.drop 137 = dktX0_cell_6 := dk_seg dksX0_cell_5 24 rfl rfl
theorem dX0_cell_0 : decode cX0_cell 0 = .ok (.iload_n 1, 1) := dk_27 (dk_at dksX0_cell_0 0 rfl rfl)
theorem dX0_cell_1 : decode cX0_cell 1 = .ok (.invokestatic 313, 3) := dk_184 1 57 (dk_at dksX0_cell_0 1 rfl rfl)
theorem dX0_cell_4 : decode cX0_cell 4 = .ok (.ifCond .ne 5, 3) := dk_154 0 5 (dk_at dksX0_cell_0 4 rfl rfl)
theorem dX0_cell_7 : decode cX0_cell 7 = .ok (.iconst (-1), 1) := dk_2 (dk_at dksX0_cell_0 7 rfl rfl)
theorem dX0_cell_8 : decode cX0_cell 8 = .ok (.ireturn, 1) := dk_172 (dk_at dksX0_cell_0 8 rfl rfl)
theorem dX0_cell_9 : decode cX0_cell 9 = .ok (.iload_n 2, 1) := dk_28 (dk_at dksX0_cell_0 9 rfl rfl)
theorem dX0_cell_10 : decode cX0_cell 10 = .ok (.tableswitch 135 0 4 #[34, 49, 78, 86, 127], 34) := by decide +kernel
theorem dX0_cell_44 : decode cX0_cell 44 = .ok (.aload_n 0, 1) := dk_42 (dk_at dksX0_cell_2 0 rfl rfl)
theorem dX0_cell_45 : decode cX0_cell 45 = .ok (.getfield 19, 3) := dk_180 0 19 (dk_at dksX0_cell_2 1 rfl rfl)
theorem dX0_cell_48 : decode cX0_cell 48 = .ok (.getfield 23, 3) := dk_180 0 23 (dk_at dksX0_cell_2 4 rfl rfl)
theorem dX0_cell_51 : decode cX0_cell 51 = .ok (.iload_n 1, 1) := dk_27 (dk_at dksX0_cell_2 7 rfl rfl)
theorem dX0_cell_52 : decode cX0_cell 52 = .ok (.baload, 1) := dk_51 (dk_at dksX0_cell_2 8 rfl rfl)
theorem dX0_cell_53 : decode cX0_cell 53 = .ok (.invokestatic 112, 3) := dk_184 0 112 (dk_at dksX0_cell_2 9 rfl rfl)
theorem dX0_cell_56 : decode cX0_cell 56 = .ok (.goto 90, 3) := dk_167 0 90 (dk_at dksX0_cell_2 12 rfl rfl)
theorem dX0_cell_59 : decode cX0_cell 59 = .ok (.aload_n 0, 1) := dk_42 (dk_at dksX0_cell_2 15 rfl rfl)
theorem dX0_cell_60 : decode cX0_cell 60 = .ok (.getfield 19, 3) := dk_180 0 19 (dk_at dksX0_cell_2 16 rfl rfl)
theorem dX0_cell_63 : decode cX0_cell 63 = .ok (.getfield 150, 3) := dk_180 0 150 (dk_at dksX0_cell_2 19 rfl rfl)
theorem dX0_cell_66 : decode cX0_cell 66 = .ok (.iload_n 1, 1) := dk_27 (dk_at dksX0_cell_2 22 rfl rfl)
theorem dX0_cell_67 : decode cX0_cell 67 = .ok (.iaload, 1) := dk_46 (dk_at dksX0_cell_2 23 rfl rfl)
theorem dX0_cell_68 : decode cX0_cell 68 = .ok (.ifCond .ge 8, 3) := dk_156 0 8 (dk_at dksX0_cell_3 0 rfl rfl)
theorem dX0_cell_71 : decode cX0_cell 71 = .ok (.bipush (-5), 2) := dk_16 251 (dk_at dksX0_cell_3 3 rfl rfl)
theorem dX0_cell_73 : decode cX0_cell 73 = .ok (.goto 73, 3) := dk_167 0 73 (dk_at dksX0_cell_3 5 rfl rfl)
theorem dX0_cell_76 : decode cX0_cell 76 = .ok (.aload_n 0, 1) := dk_42 (dk_at dksX0_cell_3 8 rfl rfl)
theorem dX0_cell_77 : decode cX0_cell 77 = .ok (.getfield 19, 3) := dk_180 0 19 (dk_at dksX0_cell_3 9 rfl rfl)
theorem dX0_cell_80 : decode cX0_cell 80 = .ok (.getfield 150, 3) := dk_180 0 150 (dk_at dksX0_cell_3 12 rfl rfl)
theorem dX0_cell_83 : decode cX0_cell 83 = .ok (.iload_n 1, 1) := dk_27 (dk_at dksX0_cell_3 15 rfl rfl)
theorem dX0_cell_84 : decode cX0_cell 84 = .ok (.iaload, 1) := dk_46 (dk_at dksX0_cell_3 16 rfl rfl)
theorem dX0_cell_85 : decode cX0_cell 85 = .ok (.goto 61, 3) := dk_167 0 61 (dk_at dksX0_cell_3 17 rfl rfl)
theorem dX0_cell_88 : decode cX0_cell 88 = .ok (.aload_n 0, 1) := dk_42 (dk_at dksX0_cell_3 20 rfl rfl)
theorem dX0_cell_89 : decode cX0_cell 89 = .ok (.iload_n 1, 1) := dk_27 (dk_at dksX0_cell_3 21 rfl rfl)
theorem dX0_cell_90 : decode cX0_cell 90 = .ok (.invokevirtual 374, 3) := dk_182 1 118 (dk_at dksX0_cell_4 0 rfl rfl)
theorem dX0_cell_93 : decode cX0_cell 93 = .ok (.goto 53, 3) := dk_167 0 53 (dk_at dksX0_cell_4 3 rfl rfl)
theorem dX0_cell_96 : decode cX0_cell 96 = .ok (.aload_n 0, 1) := dk_42 (dk_at dksX0_cell_4 6 rfl rfl)
theorem dX0_cell_97 : decode cX0_cell 97 = .ok (.getfield 19, 3) := dk_180 0 19 (dk_at dksX0_cell_4 7 rfl rfl)
theorem dX0_cell_100 : decode cX0_cell 100 = .ok (.invokevirtual 55, 3) := dk_182 0 55 (dk_at dksX0_cell_4 10 rfl rfl)
theorem dX0_cell_103 : decode cX0_cell 103 = .ok (.ifCond .ge 8, 3) := dk_156 0 8 (dk_at dksX0_cell_4 13 rfl rfl)
theorem dX0_cell_106 : decode cX0_cell 106 = .ok (.bipush (-5), 2) := dk_16 251 (dk_at dksX0_cell_4 16 rfl rfl)
theorem dX0_cell_108 : decode cX0_cell 108 = .ok (.goto 38, 3) := dk_167 0 38 (dk_at dksX0_cell_4 18 rfl rfl)
theorem dX0_cell_111 : decode cX0_cell 111 = .ok (.aload_n 0, 1) := dk_42 (dk_at dksX0_cell_4 21 rfl rfl)
theorem dX0_cell_112 : decode cX0_cell 112 = .ok (.aload_n 0, 1) := dk_42 (dk_at dksX0_cell_4 22 rfl rfl)
theorem dX0_cell_113 : decode cX0_cell 113 = .ok (.getfield 19, 3) := dk_180 0 19 (dk_at dksX0_cell_5 0 rfl rfl)
theorem dX0_cell_116 : decode cX0_cell 116 = .ok (.getfield 80, 3) := dk_180 0 80 (dk_at dksX0_cell_5 3 rfl rfl)
theorem dX0_cell_119 : decode cX0_cell 119 = .ok (.aload_n 0, 1) := dk_42 (dk_at dksX0_cell_5 6 rfl rfl)
theorem dX0_cell_120 : decode cX0_cell 120 = .ok (.getfield 19, 3) := dk_180 0 19 (dk_at dksX0_cell_5 7 rfl rfl)
theorem dX0_cell_123 : decode cX0_cell 123 = .ok (.invokevirtual 55, 3) := dk_182 0 55 (dk_at dksX0_cell_5 10 rfl rfl)
theorem dX0_cell_126 : decode cX0_cell 126 = .ok (.aaload, 1) := dk_50 (dk_at dksX0_cell_5 13 rfl rfl)
theorem dX0_cell_127 : decode cX0_cell 127 = .ok (.getfield 49, 3) := dk_180 0 49 (dk_at dksX0_cell_5 14 rfl rfl)
theorem dX0_cell_130 : decode cX0_cell 130 = .ok (.iload_n 1, 1) := dk_27 (dk_at dksX0_cell_5 17 rfl rfl)
theorem dX0_cell_131 : decode cX0_cell 131 = .ok (.invokevirtual 377, 3) := dk_182 1 121 (dk_at dksX0_cell_5 18 rfl rfl)
theorem dX0_cell_134 : decode cX0_cell 134 = .ok (.goto 12, 3) := dk_167 0 12 (dk_at dksX0_cell_5 21 rfl rfl)
theorem dX0_cell_137 : decode cX0_cell 137 = .ok (.aload_n 0, 1) := dk_42 (dk_at dksX0_cell_6 0 rfl rfl)
theorem dX0_cell_138 : decode cX0_cell 138 = .ok (.iload_n 1, 1) := dk_27 (dk_at dksX0_cell_6 1 rfl rfl)
theorem dX0_cell_139 : decode cX0_cell 139 = .ok (.invokevirtual 380, 3) := dk_182 1 124 (dk_at dksX0_cell_6 2 rfl rfl)
theorem dX0_cell_142 : decode cX0_cell 142 = .ok (.goto 4, 3) := dk_167 0 4 (dk_at dksX0_cell_6 5 rfl rfl)
theorem dX0_cell_145 : decode cX0_cell 145 = .ok (.iconst (-1), 1) := dk_2 (dk_at dksX0_cell_6 8 rfl rfl)
theorem dX0_cell_146 : decode cX0_cell 146 = .ok (.ireturn, 1) := dk_172 (dk_at dksX0_cell_6 9 rfl rfl)
abbrev cX0_slotAt : ByteArray := prog_1_method_54_code
def yX0_slotAt : MethodName := ⟨RX0, "slotAt", "(I)I"⟩
def dkwX0_slotAt_4 : List UInt8 := [132, 4, 1, 167, 255, 208, 16, 251, 172]
abbrev dktX0_slotAt_4 : List UInt8 := dkwX0_slotAt_4 ++ []
def dkwX0_slotAt_3 : List UInt8 := [180, 0, 84, 21, 4, 46, 45, 180, 0, 87, 21, 4, 46, 184, 0, 14, 27, 160, 0, 6, 21, 4, 172]
abbrev dktX0_slotAt_3 : List UInt8 := dkwX0_slotAt_3 ++ dktX0_slotAt_4
def dkwX0_slotAt_2 : List UInt8 := [54, 4, 21, 4, 45, 182, 0, 66, 162, 0, 45, 42, 180, 0, 19, 180, 0, 80, 28, 50, 180, 0, 49, 45]
abbrev dktX0_slotAt_2 : List UInt8 := dkwX0_slotAt_2 ++ dktX0_slotAt_3
def dkwX0_slotAt_1 : List UInt8 := [28, 155, 0, 19, 45, 198, 0, 15, 42, 180, 0, 19, 180, 0, 23, 27, 51, 153, 0, 6, 16, 251, 172, 3]
abbrev dktX0_slotAt_1 : List UInt8 := dkwX0_slotAt_1 ++ dktX0_slotAt_2
def dkwX0_slotAt_0 : List UInt8 := [42, 180, 0, 19, 182, 0, 55, 61, 42, 180, 0, 19, 180, 0, 59, 42, 180, 0, 19, 180, 0, 63, 50, 78]
abbrev dktX0_slotAt_0 : List UInt8 := dkwX0_slotAt_0 ++ dktX0_slotAt_1
theorem dksX0_slotAt_0 : cX0_slotAt.data.toList.drop 0 = dktX0_slotAt_0 := by decide +kernel
theorem dksX0_slotAt_1 : cX0_slotAt.data.toList.drop 24 = dktX0_slotAt_1 := dk_seg dksX0_slotAt_0 24 rfl rfl
theorem dksX0_slotAt_2 : cX0_slotAt.data.toList.drop 48 = dktX0_slotAt_2 := dk_seg dksX0_slotAt_1 24 rfl rfl
theorem dksX0_slotAt_3 : cX0_slotAt.data.toList.drop 72 = dktX0_slotAt_3 := dk_seg dksX0_slotAt_2 24 rfl rfl
theorem dksX0_slotAt_4 : cX0_slotAt.data.toList.drop 95 = dktX0_slotAt_4 := dk_seg dksX0_slotAt_3 23 rfl rfl
theorem dX0_slotAt_0 : decode cX0_slotAt 0 = .ok (.aload_n 0, 1) := dk_42 (dk_at dksX0_slotAt_0 0 rfl rfl)
theorem dX0_slotAt_1 : decode cX0_slotAt 1 = .ok (.getfield 19, 3) := dk_180 0 19 (dk_at dksX0_slotAt_0 1 rfl rfl)
theorem dX0_slotAt_4 : decode cX0_slotAt 4 = .ok (.invokevirtual 55, 3) := dk_182 0 55 (dk_at dksX0_slotAt_0 4 rfl rfl)
theorem dX0_slotAt_7 : decode cX0_slotAt 7 = .ok (.istore_n 2, 1) := dk_61 (dk_at dksX0_slotAt_0 7 rfl rfl)
theorem dX0_slotAt_8 : decode cX0_slotAt 8 = .ok (.aload_n 0, 1) := dk_42 (dk_at dksX0_slotAt_0 8 rfl rfl)
theorem dX0_slotAt_9 : decode cX0_slotAt 9 = .ok (.getfield 19, 3) := dk_180 0 19 (dk_at dksX0_slotAt_0 9 rfl rfl)
theorem dX0_slotAt_12 : decode cX0_slotAt 12 = .ok (.getfield 59, 3) := dk_180 0 59 (dk_at dksX0_slotAt_0 12 rfl rfl)
theorem dX0_slotAt_15 : decode cX0_slotAt 15 = .ok (.aload_n 0, 1) := dk_42 (dk_at dksX0_slotAt_0 15 rfl rfl)
theorem dX0_slotAt_16 : decode cX0_slotAt 16 = .ok (.getfield 19, 3) := dk_180 0 19 (dk_at dksX0_slotAt_0 16 rfl rfl)
theorem dX0_slotAt_19 : decode cX0_slotAt 19 = .ok (.getfield 63, 3) := dk_180 0 63 (dk_at dksX0_slotAt_0 19 rfl rfl)
theorem dX0_slotAt_22 : decode cX0_slotAt 22 = .ok (.aaload, 1) := dk_50 (dk_at dksX0_slotAt_0 22 rfl rfl)
theorem dX0_slotAt_23 : decode cX0_slotAt 23 = .ok (.astore_n 3, 1) := dk_78 (dk_at dksX0_slotAt_0 23 rfl rfl)
theorem dX0_slotAt_24 : decode cX0_slotAt 24 = .ok (.iload_n 2, 1) := dk_28 (dk_at dksX0_slotAt_1 0 rfl rfl)
theorem dX0_slotAt_25 : decode cX0_slotAt 25 = .ok (.ifCond .lt 19, 3) := dk_155 0 19 (dk_at dksX0_slotAt_1 1 rfl rfl)
theorem dX0_slotAt_28 : decode cX0_slotAt 28 = .ok (.aload_n 3, 1) := dk_45 (dk_at dksX0_slotAt_1 4 rfl rfl)
theorem dX0_slotAt_29 : decode cX0_slotAt 29 = .ok (.ifnull 15, 3) := dk_198 0 15 (dk_at dksX0_slotAt_1 5 rfl rfl)
theorem dX0_slotAt_32 : decode cX0_slotAt 32 = .ok (.aload_n 0, 1) := dk_42 (dk_at dksX0_slotAt_1 8 rfl rfl)
theorem dX0_slotAt_33 : decode cX0_slotAt 33 = .ok (.getfield 19, 3) := dk_180 0 19 (dk_at dksX0_slotAt_1 9 rfl rfl)
theorem dX0_slotAt_36 : decode cX0_slotAt 36 = .ok (.getfield 23, 3) := dk_180 0 23 (dk_at dksX0_slotAt_1 12 rfl rfl)
theorem dX0_slotAt_39 : decode cX0_slotAt 39 = .ok (.iload_n 1, 1) := dk_27 (dk_at dksX0_slotAt_1 15 rfl rfl)
theorem dX0_slotAt_40 : decode cX0_slotAt 40 = .ok (.baload, 1) := dk_51 (dk_at dksX0_slotAt_1 16 rfl rfl)
theorem dX0_slotAt_41 : decode cX0_slotAt 41 = .ok (.ifCond .eq 6, 3) := dk_153 0 6 (dk_at dksX0_slotAt_1 17 rfl rfl)
theorem dX0_slotAt_44 : decode cX0_slotAt 44 = .ok (.bipush (-5), 2) := dk_16 251 (dk_at dksX0_slotAt_1 20 rfl rfl)
theorem dX0_slotAt_46 : decode cX0_slotAt 46 = .ok (.ireturn, 1) := dk_172 (dk_at dksX0_slotAt_1 22 rfl rfl)
theorem dX0_slotAt_47 : decode cX0_slotAt 47 = .ok (.iconst 0, 1) := dk_3 (dk_at dksX0_slotAt_1 23 rfl rfl)
theorem dX0_slotAt_48 : decode cX0_slotAt 48 = .ok (.istore 4, 2) := dk_54 4 (dk_at dksX0_slotAt_2 0 rfl rfl)
theorem dX0_slotAt_50 : decode cX0_slotAt 50 = .ok (.iload 4, 2) := dk_21 4 (dk_at dksX0_slotAt_2 2 rfl rfl)
theorem dX0_slotAt_52 : decode cX0_slotAt 52 = .ok (.aload_n 3, 1) := dk_45 (dk_at dksX0_slotAt_2 4 rfl rfl)
theorem dX0_slotAt_53 : decode cX0_slotAt 53 = .ok (.invokevirtual 66, 3) := dk_182 0 66 (dk_at dksX0_slotAt_2 5 rfl rfl)
theorem dX0_slotAt_56 : decode cX0_slotAt 56 = .ok (.if_icmp .ge 45, 3) := dk_162 0 45 (dk_at dksX0_slotAt_2 8 rfl rfl)
theorem dX0_slotAt_59 : decode cX0_slotAt 59 = .ok (.aload_n 0, 1) := dk_42 (dk_at dksX0_slotAt_2 11 rfl rfl)
theorem dX0_slotAt_60 : decode cX0_slotAt 60 = .ok (.getfield 19, 3) := dk_180 0 19 (dk_at dksX0_slotAt_2 12 rfl rfl)
theorem dX0_slotAt_63 : decode cX0_slotAt 63 = .ok (.getfield 80, 3) := dk_180 0 80 (dk_at dksX0_slotAt_2 15 rfl rfl)
theorem dX0_slotAt_66 : decode cX0_slotAt 66 = .ok (.iload_n 2, 1) := dk_28 (dk_at dksX0_slotAt_2 18 rfl rfl)
theorem dX0_slotAt_67 : decode cX0_slotAt 67 = .ok (.aaload, 1) := dk_50 (dk_at dksX0_slotAt_2 19 rfl rfl)
theorem dX0_slotAt_68 : decode cX0_slotAt 68 = .ok (.getfield 49, 3) := dk_180 0 49 (dk_at dksX0_slotAt_2 20 rfl rfl)
theorem dX0_slotAt_71 : decode cX0_slotAt 71 = .ok (.aload_n 3, 1) := dk_45 (dk_at dksX0_slotAt_2 23 rfl rfl)
theorem dX0_slotAt_72 : decode cX0_slotAt 72 = .ok (.getfield 84, 3) := dk_180 0 84 (dk_at dksX0_slotAt_3 0 rfl rfl)
theorem dX0_slotAt_75 : decode cX0_slotAt 75 = .ok (.iload 4, 2) := dk_21 4 (dk_at dksX0_slotAt_3 3 rfl rfl)
theorem dX0_slotAt_77 : decode cX0_slotAt 77 = .ok (.iaload, 1) := dk_46 (dk_at dksX0_slotAt_3 5 rfl rfl)
theorem dX0_slotAt_78 : decode cX0_slotAt 78 = .ok (.aload_n 3, 1) := dk_45 (dk_at dksX0_slotAt_3 6 rfl rfl)
theorem dX0_slotAt_79 : decode cX0_slotAt 79 = .ok (.getfield 87, 3) := dk_180 0 87 (dk_at dksX0_slotAt_3 7 rfl rfl)
theorem dX0_slotAt_82 : decode cX0_slotAt 82 = .ok (.iload 4, 2) := dk_21 4 (dk_at dksX0_slotAt_3 10 rfl rfl)
theorem dX0_slotAt_84 : decode cX0_slotAt 84 = .ok (.iaload, 1) := dk_46 (dk_at dksX0_slotAt_3 12 rfl rfl)
theorem dX0_slotAt_85 : decode cX0_slotAt 85 = .ok (.invokestatic 14, 3) := dk_184 0 14 (dk_at dksX0_slotAt_3 13 rfl rfl)
theorem dX0_slotAt_88 : decode cX0_slotAt 88 = .ok (.iload_n 1, 1) := dk_27 (dk_at dksX0_slotAt_3 16 rfl rfl)
theorem dX0_slotAt_89 : decode cX0_slotAt 89 = .ok (.if_icmp .ne 6, 3) := dk_160 0 6 (dk_at dksX0_slotAt_3 17 rfl rfl)
theorem dX0_slotAt_92 : decode cX0_slotAt 92 = .ok (.iload 4, 2) := dk_21 4 (dk_at dksX0_slotAt_3 20 rfl rfl)
theorem dX0_slotAt_94 : decode cX0_slotAt 94 = .ok (.ireturn, 1) := dk_172 (dk_at dksX0_slotAt_3 22 rfl rfl)
theorem dX0_slotAt_95 : decode cX0_slotAt 95 = .ok (.iinc 4 1, 3) := dk_132 4 1 (dk_at dksX0_slotAt_4 0 rfl rfl)
theorem dX0_slotAt_98 : decode cX0_slotAt 98 = .ok (.goto (-48), 3) := dk_167 255 208 (dk_at dksX0_slotAt_4 3 rfl rfl)
theorem dX0_slotAt_101 : decode cX0_slotAt 101 = .ok (.bipush (-5), 2) := dk_16 251 (dk_at dksX0_slotAt_4 6 rfl rfl)
theorem dX0_slotAt_103 : decode cX0_slotAt 103 = .ok (.ireturn, 1) := dk_172 (dk_at dksX0_slotAt_4 8 rfl rfl)
abbrev cX0_wayOf : ByteArray := prog_1_method_55_code
def yX0_wayOf : MethodName := ⟨RX0, "wayOf", "(II)I"⟩
def dkwX0_wayOf_1 : List UInt8 := [167, 0, 9, 42, 180, 0, 147, 28, 46, 172]
abbrev dktX0_wayOf_1 : List UInt8 := dkwX0_wayOf_1 ++ []
def dkwX0_wayOf_0 : List UInt8 := [42, 27, 42, 180, 0, 147, 182, 0, 90, 42, 180, 0, 147, 28, 46, 18, 18, 160, 0, 8, 16, 251]
abbrev dktX0_wayOf_0 : List UInt8 := dkwX0_wayOf_0 ++ dktX0_wayOf_1
theorem dksX0_wayOf_0 : cX0_wayOf.data.toList.drop 0 = dktX0_wayOf_0 := by decide +kernel
theorem dksX0_wayOf_1 : cX0_wayOf.data.toList.drop 22 = dktX0_wayOf_1 := dk_seg dksX0_wayOf_0 22 rfl rfl
theorem dX0_wayOf_0 : decode cX0_wayOf 0 = .ok (.aload_n 0, 1) := dk_42 (dk_at dksX0_wayOf_0 0 rfl rfl)
theorem dX0_wayOf_1 : decode cX0_wayOf 1 = .ok (.iload_n 1, 1) := dk_27 (dk_at dksX0_wayOf_0 1 rfl rfl)
theorem dX0_wayOf_2 : decode cX0_wayOf 2 = .ok (.aload_n 0, 1) := dk_42 (dk_at dksX0_wayOf_0 2 rfl rfl)
theorem dX0_wayOf_3 : decode cX0_wayOf 3 = .ok (.getfield 147, 3) := dk_180 0 147 (dk_at dksX0_wayOf_0 3 rfl rfl)
theorem dX0_wayOf_6 : decode cX0_wayOf 6 = .ok (.invokevirtual 90, 3) := dk_182 0 90 (dk_at dksX0_wayOf_0 6 rfl rfl)
theorem dX0_wayOf_9 : decode cX0_wayOf 9 = .ok (.aload_n 0, 1) := dk_42 (dk_at dksX0_wayOf_0 9 rfl rfl)
theorem dX0_wayOf_10 : decode cX0_wayOf 10 = .ok (.getfield 147, 3) := dk_180 0 147 (dk_at dksX0_wayOf_0 10 rfl rfl)
theorem dX0_wayOf_13 : decode cX0_wayOf 13 = .ok (.iload_n 2, 1) := dk_28 (dk_at dksX0_wayOf_0 13 rfl rfl)
theorem dX0_wayOf_14 : decode cX0_wayOf 14 = .ok (.iaload, 1) := dk_46 (dk_at dksX0_wayOf_0 14 rfl rfl)
theorem dX0_wayOf_15 : decode cX0_wayOf 15 = .ok (.ldc 18, 2) := dk_18 18 (dk_at dksX0_wayOf_0 15 rfl rfl)
theorem dX0_wayOf_17 : decode cX0_wayOf 17 = .ok (.if_icmp .ne 8, 3) := dk_160 0 8 (dk_at dksX0_wayOf_0 17 rfl rfl)
theorem dX0_wayOf_20 : decode cX0_wayOf 20 = .ok (.bipush (-5), 2) := dk_16 251 (dk_at dksX0_wayOf_0 20 rfl rfl)
theorem dX0_wayOf_22 : decode cX0_wayOf 22 = .ok (.goto 9, 3) := dk_167 0 9 (dk_at dksX0_wayOf_1 0 rfl rfl)
theorem dX0_wayOf_25 : decode cX0_wayOf 25 = .ok (.aload_n 0, 1) := dk_42 (dk_at dksX0_wayOf_1 3 rfl rfl)
theorem dX0_wayOf_26 : decode cX0_wayOf 26 = .ok (.getfield 147, 3) := dk_180 0 147 (dk_at dksX0_wayOf_1 4 rfl rfl)
theorem dX0_wayOf_29 : decode cX0_wayOf 29 = .ok (.iload_n 2, 1) := dk_28 (dk_at dksX0_wayOf_1 7 rfl rfl)
theorem dX0_wayOf_30 : decode cX0_wayOf 30 = .ok (.iaload, 1) := dk_46 (dk_at dksX0_wayOf_1 8 rfl rfl)
theorem dX0_wayOf_31 : decode cX0_wayOf 31 = .ok (.ireturn, 1) := dk_172 (dk_at dksX0_wayOf_1 9 rfl rfl)
abbrev cX0_openAround : ByteArray := prog_1_method_56_code
def yX0_openAround : MethodName := ⟨RX0, "openAround", "(I)I"⟩
def dkwX0_openAround_2 : List UInt8 := [132, 3, 1, 167, 255, 212, 28, 172]
abbrev dktX0_openAround_2 : List UInt8 := dkwX0_openAround_2 ++ []
def dkwX0_openAround_1 : List UInt8 := [180, 0, 19, 180, 0, 23, 21, 4, 51, 154, 0, 7, 4, 167, 0, 4, 3, 184, 0, 112, 96, 61]
abbrev dktX0_openAround_1 : List UInt8 := dkwX0_openAround_1 ++ dktX0_openAround_2
def dkwX0_openAround_0 : List UInt8 := [3, 61, 3, 62, 29, 7, 162, 0, 45, 27, 29, 184, 0, 32, 54, 4, 28, 21, 4, 155, 0, 20, 42]
abbrev dktX0_openAround_0 : List UInt8 := dkwX0_openAround_0 ++ dktX0_openAround_1
theorem dksX0_openAround_0 : cX0_openAround.data.toList.drop 0 = dktX0_openAround_0 := by decide +kernel
theorem dksX0_openAround_1 : cX0_openAround.data.toList.drop 23 = dktX0_openAround_1 := dk_seg dksX0_openAround_0 23 rfl rfl
theorem dksX0_openAround_2 : cX0_openAround.data.toList.drop 45 = dktX0_openAround_2 := dk_seg dksX0_openAround_1 22 rfl rfl
theorem dX0_openAround_0 : decode cX0_openAround 0 = .ok (.iconst 0, 1) := dk_3 (dk_at dksX0_openAround_0 0 rfl rfl)
theorem dX0_openAround_1 : decode cX0_openAround 1 = .ok (.istore_n 2, 1) := dk_61 (dk_at dksX0_openAround_0 1 rfl rfl)
theorem dX0_openAround_2 : decode cX0_openAround 2 = .ok (.iconst 0, 1) := dk_3 (dk_at dksX0_openAround_0 2 rfl rfl)
theorem dX0_openAround_3 : decode cX0_openAround 3 = .ok (.istore_n 3, 1) := dk_62 (dk_at dksX0_openAround_0 3 rfl rfl)
theorem dX0_openAround_4 : decode cX0_openAround 4 = .ok (.iload_n 3, 1) := dk_29 (dk_at dksX0_openAround_0 4 rfl rfl)
theorem dX0_openAround_5 : decode cX0_openAround 5 = .ok (.iconst 4, 1) := dk_7 (dk_at dksX0_openAround_0 5 rfl rfl)
theorem dX0_openAround_6 : decode cX0_openAround 6 = .ok (.if_icmp .ge 45, 3) := dk_162 0 45 (dk_at dksX0_openAround_0 6 rfl rfl)
theorem dX0_openAround_9 : decode cX0_openAround 9 = .ok (.iload_n 1, 1) := dk_27 (dk_at dksX0_openAround_0 9 rfl rfl)
theorem dX0_openAround_10 : decode cX0_openAround 10 = .ok (.iload_n 3, 1) := dk_29 (dk_at dksX0_openAround_0 10 rfl rfl)
theorem dX0_openAround_11 : decode cX0_openAround 11 = .ok (.invokestatic 32, 3) := dk_184 0 32 (dk_at dksX0_openAround_0 11 rfl rfl)
theorem dX0_openAround_14 : decode cX0_openAround 14 = .ok (.istore 4, 2) := dk_54 4 (dk_at dksX0_openAround_0 14 rfl rfl)
theorem dX0_openAround_16 : decode cX0_openAround 16 = .ok (.iload_n 2, 1) := dk_28 (dk_at dksX0_openAround_0 16 rfl rfl)
theorem dX0_openAround_17 : decode cX0_openAround 17 = .ok (.iload 4, 2) := dk_21 4 (dk_at dksX0_openAround_0 17 rfl rfl)
theorem dX0_openAround_19 : decode cX0_openAround 19 = .ok (.ifCond .lt 20, 3) := dk_155 0 20 (dk_at dksX0_openAround_0 19 rfl rfl)
theorem dX0_openAround_22 : decode cX0_openAround 22 = .ok (.aload_n 0, 1) := dk_42 (dk_at dksX0_openAround_0 22 rfl rfl)
theorem dX0_openAround_23 : decode cX0_openAround 23 = .ok (.getfield 19, 3) := dk_180 0 19 (dk_at dksX0_openAround_1 0 rfl rfl)
theorem dX0_openAround_26 : decode cX0_openAround 26 = .ok (.getfield 23, 3) := dk_180 0 23 (dk_at dksX0_openAround_1 3 rfl rfl)
theorem dX0_openAround_29 : decode cX0_openAround 29 = .ok (.iload 4, 2) := dk_21 4 (dk_at dksX0_openAround_1 6 rfl rfl)
theorem dX0_openAround_31 : decode cX0_openAround 31 = .ok (.baload, 1) := dk_51 (dk_at dksX0_openAround_1 8 rfl rfl)
theorem dX0_openAround_32 : decode cX0_openAround 32 = .ok (.ifCond .ne 7, 3) := dk_154 0 7 (dk_at dksX0_openAround_1 9 rfl rfl)
theorem dX0_openAround_35 : decode cX0_openAround 35 = .ok (.iconst 1, 1) := dk_4 (dk_at dksX0_openAround_1 12 rfl rfl)
theorem dX0_openAround_36 : decode cX0_openAround 36 = .ok (.goto 4, 3) := dk_167 0 4 (dk_at dksX0_openAround_1 13 rfl rfl)
theorem dX0_openAround_39 : decode cX0_openAround 39 = .ok (.iconst 0, 1) := dk_3 (dk_at dksX0_openAround_1 16 rfl rfl)
theorem dX0_openAround_40 : decode cX0_openAround 40 = .ok (.invokestatic 112, 3) := dk_184 0 112 (dk_at dksX0_openAround_1 17 rfl rfl)
theorem dX0_openAround_43 : decode cX0_openAround 43 = .ok (.iadd, 1) := dk_96 (dk_at dksX0_openAround_1 20 rfl rfl)
theorem dX0_openAround_44 : decode cX0_openAround 44 = .ok (.istore_n 2, 1) := dk_61 (dk_at dksX0_openAround_1 21 rfl rfl)
theorem dX0_openAround_45 : decode cX0_openAround 45 = .ok (.iinc 3 1, 3) := dk_132 3 1 (dk_at dksX0_openAround_2 0 rfl rfl)
theorem dX0_openAround_48 : decode cX0_openAround 48 = .ok (.goto (-44), 3) := dk_167 255 212 (dk_at dksX0_openAround_2 3 rfl rfl)
theorem dX0_openAround_51 : decode cX0_openAround 51 = .ok (.iload_n 2, 1) := dk_28 (dk_at dksX0_openAround_2 6 rfl rfl)
theorem dX0_openAround_52 : decode cX0_openAround 52 = .ok (.ireturn, 1) := dk_172 (dk_at dksX0_openAround_2 7 rfl rfl)
abbrev cX0_distance : ByteArray := prog_1_method_58_code
def yX0_distance : MethodName := ⟨RX0, "distance", "(II)I"⟩
def dkwX0_distance_1 : List UInt8 := [172]
abbrev dktX0_distance_1 : List UInt8 := dkwX0_distance_1 ++ []
def dkwX0_distance_0 : List UInt8 := [27, 184, 1, 57, 153, 0, 19, 28, 184, 1, 57, 153, 0, 12, 42, 27, 28, 182, 1, 121, 167, 0, 4, 2]
abbrev dktX0_distance_0 : List UInt8 := dkwX0_distance_0 ++ dktX0_distance_1
theorem dksX0_distance_0 : cX0_distance.data.toList.drop 0 = dktX0_distance_0 := by decide +kernel
theorem dksX0_distance_1 : cX0_distance.data.toList.drop 24 = dktX0_distance_1 := dk_seg dksX0_distance_0 24 rfl rfl
theorem dX0_distance_0 : decode cX0_distance 0 = .ok (.iload_n 1, 1) := dk_27 (dk_at dksX0_distance_0 0 rfl rfl)
theorem dX0_distance_1 : decode cX0_distance 1 = .ok (.invokestatic 313, 3) := dk_184 1 57 (dk_at dksX0_distance_0 1 rfl rfl)
theorem dX0_distance_4 : decode cX0_distance 4 = .ok (.ifCond .eq 19, 3) := dk_153 0 19 (dk_at dksX0_distance_0 4 rfl rfl)
theorem dX0_distance_7 : decode cX0_distance 7 = .ok (.iload_n 2, 1) := dk_28 (dk_at dksX0_distance_0 7 rfl rfl)
theorem dX0_distance_8 : decode cX0_distance 8 = .ok (.invokestatic 313, 3) := dk_184 1 57 (dk_at dksX0_distance_0 8 rfl rfl)
theorem dX0_distance_11 : decode cX0_distance 11 = .ok (.ifCond .eq 12, 3) := dk_153 0 12 (dk_at dksX0_distance_0 11 rfl rfl)
theorem dX0_distance_14 : decode cX0_distance 14 = .ok (.aload_n 0, 1) := dk_42 (dk_at dksX0_distance_0 14 rfl rfl)
theorem dX0_distance_15 : decode cX0_distance 15 = .ok (.iload_n 1, 1) := dk_27 (dk_at dksX0_distance_0 15 rfl rfl)
theorem dX0_distance_16 : decode cX0_distance 16 = .ok (.iload_n 2, 1) := dk_28 (dk_at dksX0_distance_0 16 rfl rfl)
theorem dX0_distance_17 : decode cX0_distance 17 = .ok (.invokevirtual 377, 3) := dk_182 1 121 (dk_at dksX0_distance_0 17 rfl rfl)
theorem dX0_distance_20 : decode cX0_distance 20 = .ok (.goto 4, 3) := dk_167 0 4 (dk_at dksX0_distance_0 20 rfl rfl)
theorem dX0_distance_23 : decode cX0_distance 23 = .ok (.iconst (-1), 1) := dk_2 (dk_at dksX0_distance_0 23 rfl rfl)
theorem dX0_distance_24 : decode cX0_distance 24 = .ok (.ireturn, 1) := dk_172 (dk_at dksX0_distance_1 0 rfl rfl)
abbrev cX0_slot : ByteArray := prog_1_method_60_code
def yX0_slot : MethodName := ⟨RX0, "slot", "(II)I"⟩
def dkwX0_slot_1 : List UInt8 := [16, 156, 172]
abbrev dktX0_slot_1 : List UInt8 := dkwX0_slot_1 ++ []
def dkwX0_slot_0 : List UInt8 := [42, 27, 182, 1, 127, 153, 0, 19, 42, 180, 0, 19, 180, 0, 59, 27, 50, 28, 182, 1, 130, 167, 0, 5]
abbrev dktX0_slot_0 : List UInt8 := dkwX0_slot_0 ++ dktX0_slot_1
theorem dksX0_slot_0 : cX0_slot.data.toList.drop 0 = dktX0_slot_0 := by decide +kernel
theorem dksX0_slot_1 : cX0_slot.data.toList.drop 24 = dktX0_slot_1 := dk_seg dksX0_slot_0 24 rfl rfl
theorem dX0_slot_0 : decode cX0_slot 0 = .ok (.aload_n 0, 1) := dk_42 (dk_at dksX0_slot_0 0 rfl rfl)
theorem dX0_slot_1 : decode cX0_slot 1 = .ok (.iload_n 1, 1) := dk_27 (dk_at dksX0_slot_0 1 rfl rfl)
theorem dX0_slot_2 : decode cX0_slot 2 = .ok (.invokevirtual 383, 3) := dk_182 1 127 (dk_at dksX0_slot_0 2 rfl rfl)
theorem dX0_slot_5 : decode cX0_slot 5 = .ok (.ifCond .eq 19, 3) := dk_153 0 19 (dk_at dksX0_slot_0 5 rfl rfl)
theorem dX0_slot_8 : decode cX0_slot 8 = .ok (.aload_n 0, 1) := dk_42 (dk_at dksX0_slot_0 8 rfl rfl)
theorem dX0_slot_9 : decode cX0_slot 9 = .ok (.getfield 19, 3) := dk_180 0 19 (dk_at dksX0_slot_0 9 rfl rfl)
theorem dX0_slot_12 : decode cX0_slot 12 = .ok (.getfield 59, 3) := dk_180 0 59 (dk_at dksX0_slot_0 12 rfl rfl)
theorem dX0_slot_15 : decode cX0_slot 15 = .ok (.iload_n 1, 1) := dk_27 (dk_at dksX0_slot_0 15 rfl rfl)
theorem dX0_slot_16 : decode cX0_slot 16 = .ok (.aaload, 1) := dk_50 (dk_at dksX0_slot_0 16 rfl rfl)
theorem dX0_slot_17 : decode cX0_slot 17 = .ok (.iload_n 2, 1) := dk_28 (dk_at dksX0_slot_0 17 rfl rfl)
theorem dX0_slot_18 : decode cX0_slot 18 = .ok (.invokevirtual 386, 3) := dk_182 1 130 (dk_at dksX0_slot_0 18 rfl rfl)
theorem dX0_slot_21 : decode cX0_slot 21 = .ok (.goto 5, 3) := dk_167 0 5 (dk_at dksX0_slot_0 21 rfl rfl)
theorem dX0_slot_24 : decode cX0_slot 24 = .ok (.bipush (-100), 2) := dk_16 156 (dk_at dksX0_slot_1 0 rfl rfl)
theorem dX0_slot_26 : decode cX0_slot 26 = .ok (.ireturn, 1) := dk_172 (dk_at dksX0_slot_1 2 rfl rfl)
abbrev cX0_isShape : ByteArray := prog_1_method_59_code
def yX0_isShape : MethodName := ⟨RX0, "isShape", "(I)Z"⟩
def dkwX0_isShape_1 : List UInt8 := [167, 0, 4, 3, 172]
abbrev dktX0_isShape_1 : List UInt8 := dkwX0_isShape_1 ++ []
def dkwX0_isShape_0 : List UInt8 := [27, 3, 5, 184, 0, 3, 153, 0, 19, 42, 180, 0, 19, 180, 0, 59, 27, 50, 198, 0, 7, 4]
abbrev dktX0_isShape_0 : List UInt8 := dkwX0_isShape_0 ++ dktX0_isShape_1
theorem dksX0_isShape_0 : cX0_isShape.data.toList.drop 0 = dktX0_isShape_0 := by decide +kernel
theorem dksX0_isShape_1 : cX0_isShape.data.toList.drop 22 = dktX0_isShape_1 := dk_seg dksX0_isShape_0 22 rfl rfl
theorem dX0_isShape_0 : decode cX0_isShape 0 = .ok (.iload_n 1, 1) := dk_27 (dk_at dksX0_isShape_0 0 rfl rfl)
theorem dX0_isShape_1 : decode cX0_isShape 1 = .ok (.iconst 0, 1) := dk_3 (dk_at dksX0_isShape_0 1 rfl rfl)
theorem dX0_isShape_2 : decode cX0_isShape 2 = .ok (.iconst 2, 1) := dk_5 (dk_at dksX0_isShape_0 2 rfl rfl)
theorem dX0_isShape_3 : decode cX0_isShape 3 = .ok (.invokestatic 3, 3) := dk_184 0 3 (dk_at dksX0_isShape_0 3 rfl rfl)
theorem dX0_isShape_6 : decode cX0_isShape 6 = .ok (.ifCond .eq 19, 3) := dk_153 0 19 (dk_at dksX0_isShape_0 6 rfl rfl)
theorem dX0_isShape_9 : decode cX0_isShape 9 = .ok (.aload_n 0, 1) := dk_42 (dk_at dksX0_isShape_0 9 rfl rfl)
theorem dX0_isShape_10 : decode cX0_isShape 10 = .ok (.getfield 19, 3) := dk_180 0 19 (dk_at dksX0_isShape_0 10 rfl rfl)
theorem dX0_isShape_13 : decode cX0_isShape 13 = .ok (.getfield 59, 3) := dk_180 0 59 (dk_at dksX0_isShape_0 13 rfl rfl)
theorem dX0_isShape_16 : decode cX0_isShape 16 = .ok (.iload_n 1, 1) := dk_27 (dk_at dksX0_isShape_0 16 rfl rfl)
theorem dX0_isShape_17 : decode cX0_isShape 17 = .ok (.aaload, 1) := dk_50 (dk_at dksX0_isShape_0 17 rfl rfl)
theorem dX0_isShape_18 : decode cX0_isShape 18 = .ok (.ifnull 7, 3) := dk_198 0 7 (dk_at dksX0_isShape_0 18 rfl rfl)
theorem dX0_isShape_21 : decode cX0_isShape 21 = .ok (.iconst 1, 1) := dk_4 (dk_at dksX0_isShape_0 21 rfl rfl)
theorem dX0_isShape_22 : decode cX0_isShape 22 = .ok (.goto 4, 3) := dk_167 0 4 (dk_at dksX0_isShape_1 0 rfl rfl)
theorem dX0_isShape_25 : decode cX0_isShape 25 = .ok (.iconst 0, 1) := dk_3 (dk_at dksX0_isShape_1 3 rfl rfl)
theorem dX0_isShape_26 : decode cX0_isShape 26 = .ok (.ireturn, 1) := dk_172 (dk_at dksX0_isShape_1 4 rfl rfl)
abbrev cX0_recognized : ByteArray := prog_1_method_62_code
def yX0_recognized : MethodName := ⟨RX0, "recognized", "(I)I"⟩
def dkwX0_recognized_3 : List UInt8 := [16, 251, 172]
abbrev dktX0_recognized_3 : List UInt8 := dkwX0_recognized_3 ++ []
def dkwX0_recognized_2 : List UInt8 := [62, 29, 16, 8, 162, 0, 20, 42, 44, 29, 182, 1, 137, 153, 0, 5, 29, 172, 132, 3, 1, 167, 255, 236]
abbrev dktX0_recognized_2 : List UInt8 := dkwX0_recognized_2 ++ dktX0_recognized_3
def dkwX0_recognized_1 : List UInt8 := [199, 0, 6, 16, 253, 172, 42, 180, 0, 19, 182, 1, 51, 44, 182, 0, 66, 159, 0, 6, 16, 251, 172, 3]
abbrev dktX0_recognized_1 : List UInt8 := dkwX0_recognized_1 ++ dktX0_recognized_2
def dkwX0_recognized_0 : List UInt8 := [27, 3, 5, 184, 0, 3, 154, 0, 5, 2, 172, 42, 180, 0, 19, 180, 0, 59, 27, 50, 77, 44]
abbrev dktX0_recognized_0 : List UInt8 := dkwX0_recognized_0 ++ dktX0_recognized_1
theorem dksX0_recognized_0 : cX0_recognized.data.toList.drop 0 = dktX0_recognized_0 := by decide +kernel
theorem dksX0_recognized_1 : cX0_recognized.data.toList.drop 22 = dktX0_recognized_1 := dk_seg dksX0_recognized_0 22 rfl rfl
theorem dksX0_recognized_2 : cX0_recognized.data.toList.drop 46 = dktX0_recognized_2 := dk_seg dksX0_recognized_1 24 rfl rfl
theorem dksX0_recognized_3 : cX0_recognized.data.toList.drop 70 = dktX0_recognized_3 := dk_seg dksX0_recognized_2 24 rfl rfl
theorem dX0_recognized_0 : decode cX0_recognized 0 = .ok (.iload_n 1, 1) := dk_27 (dk_at dksX0_recognized_0 0 rfl rfl)
theorem dX0_recognized_1 : decode cX0_recognized 1 = .ok (.iconst 0, 1) := dk_3 (dk_at dksX0_recognized_0 1 rfl rfl)
theorem dX0_recognized_2 : decode cX0_recognized 2 = .ok (.iconst 2, 1) := dk_5 (dk_at dksX0_recognized_0 2 rfl rfl)
theorem dX0_recognized_3 : decode cX0_recognized 3 = .ok (.invokestatic 3, 3) := dk_184 0 3 (dk_at dksX0_recognized_0 3 rfl rfl)
theorem dX0_recognized_6 : decode cX0_recognized 6 = .ok (.ifCond .ne 5, 3) := dk_154 0 5 (dk_at dksX0_recognized_0 6 rfl rfl)
theorem dX0_recognized_9 : decode cX0_recognized 9 = .ok (.iconst (-1), 1) := dk_2 (dk_at dksX0_recognized_0 9 rfl rfl)
theorem dX0_recognized_10 : decode cX0_recognized 10 = .ok (.ireturn, 1) := dk_172 (dk_at dksX0_recognized_0 10 rfl rfl)
theorem dX0_recognized_11 : decode cX0_recognized 11 = .ok (.aload_n 0, 1) := dk_42 (dk_at dksX0_recognized_0 11 rfl rfl)
theorem dX0_recognized_12 : decode cX0_recognized 12 = .ok (.getfield 19, 3) := dk_180 0 19 (dk_at dksX0_recognized_0 12 rfl rfl)
theorem dX0_recognized_15 : decode cX0_recognized 15 = .ok (.getfield 59, 3) := dk_180 0 59 (dk_at dksX0_recognized_0 15 rfl rfl)
theorem dX0_recognized_18 : decode cX0_recognized 18 = .ok (.iload_n 1, 1) := dk_27 (dk_at dksX0_recognized_0 18 rfl rfl)
theorem dX0_recognized_19 : decode cX0_recognized 19 = .ok (.aaload, 1) := dk_50 (dk_at dksX0_recognized_0 19 rfl rfl)
theorem dX0_recognized_20 : decode cX0_recognized 20 = .ok (.astore_n 2, 1) := dk_77 (dk_at dksX0_recognized_0 20 rfl rfl)
theorem dX0_recognized_21 : decode cX0_recognized 21 = .ok (.aload_n 2, 1) := dk_44 (dk_at dksX0_recognized_0 21 rfl rfl)
theorem dX0_recognized_22 : decode cX0_recognized 22 = .ok (.ifnonnull 6, 3) := dk_199 0 6 (dk_at dksX0_recognized_1 0 rfl rfl)
theorem dX0_recognized_25 : decode cX0_recognized 25 = .ok (.bipush (-3), 2) := dk_16 253 (dk_at dksX0_recognized_1 3 rfl rfl)
theorem dX0_recognized_27 : decode cX0_recognized 27 = .ok (.ireturn, 1) := dk_172 (dk_at dksX0_recognized_1 5 rfl rfl)
theorem dX0_recognized_28 : decode cX0_recognized 28 = .ok (.aload_n 0, 1) := dk_42 (dk_at dksX0_recognized_1 6 rfl rfl)
theorem dX0_recognized_29 : decode cX0_recognized 29 = .ok (.getfield 19, 3) := dk_180 0 19 (dk_at dksX0_recognized_1 7 rfl rfl)
theorem dX0_recognized_32 : decode cX0_recognized 32 = .ok (.invokevirtual 307, 3) := dk_182 1 51 (dk_at dksX0_recognized_1 10 rfl rfl)
theorem dX0_recognized_35 : decode cX0_recognized 35 = .ok (.aload_n 2, 1) := dk_44 (dk_at dksX0_recognized_1 13 rfl rfl)
theorem dX0_recognized_36 : decode cX0_recognized 36 = .ok (.invokevirtual 66, 3) := dk_182 0 66 (dk_at dksX0_recognized_1 14 rfl rfl)
theorem dX0_recognized_39 : decode cX0_recognized 39 = .ok (.if_icmp .eq 6, 3) := dk_159 0 6 (dk_at dksX0_recognized_1 17 rfl rfl)
theorem dX0_recognized_42 : decode cX0_recognized 42 = .ok (.bipush (-5), 2) := dk_16 251 (dk_at dksX0_recognized_1 20 rfl rfl)
theorem dX0_recognized_44 : decode cX0_recognized 44 = .ok (.ireturn, 1) := dk_172 (dk_at dksX0_recognized_1 22 rfl rfl)
theorem dX0_recognized_45 : decode cX0_recognized 45 = .ok (.iconst 0, 1) := dk_3 (dk_at dksX0_recognized_1 23 rfl rfl)
theorem dX0_recognized_46 : decode cX0_recognized 46 = .ok (.istore_n 3, 1) := dk_62 (dk_at dksX0_recognized_2 0 rfl rfl)
theorem dX0_recognized_47 : decode cX0_recognized 47 = .ok (.iload_n 3, 1) := dk_29 (dk_at dksX0_recognized_2 1 rfl rfl)
theorem dX0_recognized_48 : decode cX0_recognized 48 = .ok (.bipush 8, 2) := dk_16 8 (dk_at dksX0_recognized_2 2 rfl rfl)
theorem dX0_recognized_50 : decode cX0_recognized 50 = .ok (.if_icmp .ge 20, 3) := dk_162 0 20 (dk_at dksX0_recognized_2 4 rfl rfl)
theorem dX0_recognized_53 : decode cX0_recognized 53 = .ok (.aload_n 0, 1) := dk_42 (dk_at dksX0_recognized_2 7 rfl rfl)
theorem dX0_recognized_54 : decode cX0_recognized 54 = .ok (.aload_n 2, 1) := dk_44 (dk_at dksX0_recognized_2 8 rfl rfl)
theorem dX0_recognized_55 : decode cX0_recognized 55 = .ok (.iload_n 3, 1) := dk_29 (dk_at dksX0_recognized_2 9 rfl rfl)
theorem dX0_recognized_56 : decode cX0_recognized 56 = .ok (.invokevirtual 393, 3) := dk_182 1 137 (dk_at dksX0_recognized_2 10 rfl rfl)
theorem dX0_recognized_59 : decode cX0_recognized 59 = .ok (.ifCond .eq 5, 3) := dk_153 0 5 (dk_at dksX0_recognized_2 13 rfl rfl)
theorem dX0_recognized_62 : decode cX0_recognized 62 = .ok (.iload_n 3, 1) := dk_29 (dk_at dksX0_recognized_2 16 rfl rfl)
theorem dX0_recognized_63 : decode cX0_recognized 63 = .ok (.ireturn, 1) := dk_172 (dk_at dksX0_recognized_2 17 rfl rfl)
theorem dX0_recognized_64 : decode cX0_recognized 64 = .ok (.iinc 3 1, 3) := dk_132 3 1 (dk_at dksX0_recognized_2 18 rfl rfl)
theorem dX0_recognized_67 : decode cX0_recognized 67 = .ok (.goto (-20), 3) := dk_167 255 236 (dk_at dksX0_recognized_2 21 rfl rfl)
theorem dX0_recognized_70 : decode cX0_recognized 70 = .ok (.bipush (-5), 2) := dk_16 251 (dk_at dksX0_recognized_3 0 rfl rfl)
theorem dX0_recognized_72 : decode cX0_recognized 72 = .ok (.ireturn, 1) := dk_172 (dk_at dksX0_recognized_3 2 rfl rfl)
abbrev cX0_isSeen : ByteArray := prog_1_method_61_code
def yX0_isSeen : MethodName := ⟨RX0, "isSeen", "(LSwarmPlanner$Shape;I)Z"⟩
def dkwX0_isSeen_3 : List UInt8 := [3, 172]
abbrev dktX0_isSeen_3 : List UInt8 := dkwX0_isSeen_3 ++ []
def dkwX0_isSeen_2 : List UInt8 := [180, 0, 49, 42, 180, 0, 19, 180, 0, 150, 182, 1, 133, 153, 0, 5, 4, 172, 132, 4, 1, 167, 255, 213]
abbrev dktX0_isSeen_2 : List UInt8 := dkwX0_isSeen_2 ++ dktX0_isSeen_3
def dkwX0_isSeen_1 : List UInt8 := [21, 4, 43, 182, 0, 66, 162, 0, 40, 43, 28, 21, 4, 42, 180, 0, 19, 180, 0, 80, 29, 50]
abbrev dktX0_isSeen_1 : List UInt8 := dkwX0_isSeen_1 ++ dktX0_isSeen_2
def dkwX0_isSeen_0 : List UInt8 := [3, 62, 42, 180, 0, 19, 180, 0, 80, 29, 50, 199, 0, 9, 132, 3, 1, 167, 255, 241, 3, 54, 4]
abbrev dktX0_isSeen_0 : List UInt8 := dkwX0_isSeen_0 ++ dktX0_isSeen_1
theorem dksX0_isSeen_0 : cX0_isSeen.data.toList.drop 0 = dktX0_isSeen_0 := by decide +kernel
theorem dksX0_isSeen_1 : cX0_isSeen.data.toList.drop 23 = dktX0_isSeen_1 := dk_seg dksX0_isSeen_0 23 rfl rfl
theorem dksX0_isSeen_2 : cX0_isSeen.data.toList.drop 45 = dktX0_isSeen_2 := dk_seg dksX0_isSeen_1 22 rfl rfl
theorem dksX0_isSeen_3 : cX0_isSeen.data.toList.drop 69 = dktX0_isSeen_3 := dk_seg dksX0_isSeen_2 24 rfl rfl
theorem dX0_isSeen_0 : decode cX0_isSeen 0 = .ok (.iconst 0, 1) := dk_3 (dk_at dksX0_isSeen_0 0 rfl rfl)
theorem dX0_isSeen_1 : decode cX0_isSeen 1 = .ok (.istore_n 3, 1) := dk_62 (dk_at dksX0_isSeen_0 1 rfl rfl)
theorem dX0_isSeen_2 : decode cX0_isSeen 2 = .ok (.aload_n 0, 1) := dk_42 (dk_at dksX0_isSeen_0 2 rfl rfl)
theorem dX0_isSeen_3 : decode cX0_isSeen 3 = .ok (.getfield 19, 3) := dk_180 0 19 (dk_at dksX0_isSeen_0 3 rfl rfl)
theorem dX0_isSeen_6 : decode cX0_isSeen 6 = .ok (.getfield 80, 3) := dk_180 0 80 (dk_at dksX0_isSeen_0 6 rfl rfl)
theorem dX0_isSeen_9 : decode cX0_isSeen 9 = .ok (.iload_n 3, 1) := dk_29 (dk_at dksX0_isSeen_0 9 rfl rfl)
theorem dX0_isSeen_10 : decode cX0_isSeen 10 = .ok (.aaload, 1) := dk_50 (dk_at dksX0_isSeen_0 10 rfl rfl)
theorem dX0_isSeen_11 : decode cX0_isSeen 11 = .ok (.ifnonnull 9, 3) := dk_199 0 9 (dk_at dksX0_isSeen_0 11 rfl rfl)
theorem dX0_isSeen_14 : decode cX0_isSeen 14 = .ok (.iinc 3 1, 3) := dk_132 3 1 (dk_at dksX0_isSeen_0 14 rfl rfl)
theorem dX0_isSeen_17 : decode cX0_isSeen 17 = .ok (.goto (-15), 3) := dk_167 255 241 (dk_at dksX0_isSeen_0 17 rfl rfl)
theorem dX0_isSeen_20 : decode cX0_isSeen 20 = .ok (.iconst 0, 1) := dk_3 (dk_at dksX0_isSeen_0 20 rfl rfl)
theorem dX0_isSeen_21 : decode cX0_isSeen 21 = .ok (.istore 4, 2) := dk_54 4 (dk_at dksX0_isSeen_0 21 rfl rfl)
theorem dX0_isSeen_23 : decode cX0_isSeen 23 = .ok (.iload 4, 2) := dk_21 4 (dk_at dksX0_isSeen_1 0 rfl rfl)
theorem dX0_isSeen_25 : decode cX0_isSeen 25 = .ok (.aload_n 1, 1) := dk_43 (dk_at dksX0_isSeen_1 2 rfl rfl)
theorem dX0_isSeen_26 : decode cX0_isSeen 26 = .ok (.invokevirtual 66, 3) := dk_182 0 66 (dk_at dksX0_isSeen_1 3 rfl rfl)
theorem dX0_isSeen_29 : decode cX0_isSeen 29 = .ok (.if_icmp .ge 40, 3) := dk_162 0 40 (dk_at dksX0_isSeen_1 6 rfl rfl)
theorem dX0_isSeen_32 : decode cX0_isSeen 32 = .ok (.aload_n 1, 1) := dk_43 (dk_at dksX0_isSeen_1 9 rfl rfl)
theorem dX0_isSeen_33 : decode cX0_isSeen 33 = .ok (.iload_n 2, 1) := dk_28 (dk_at dksX0_isSeen_1 10 rfl rfl)
theorem dX0_isSeen_34 : decode cX0_isSeen 34 = .ok (.iload 4, 2) := dk_21 4 (dk_at dksX0_isSeen_1 11 rfl rfl)
theorem dX0_isSeen_36 : decode cX0_isSeen 36 = .ok (.aload_n 0, 1) := dk_42 (dk_at dksX0_isSeen_1 13 rfl rfl)
theorem dX0_isSeen_37 : decode cX0_isSeen 37 = .ok (.getfield 19, 3) := dk_180 0 19 (dk_at dksX0_isSeen_1 14 rfl rfl)
theorem dX0_isSeen_40 : decode cX0_isSeen 40 = .ok (.getfield 80, 3) := dk_180 0 80 (dk_at dksX0_isSeen_1 17 rfl rfl)
theorem dX0_isSeen_43 : decode cX0_isSeen 43 = .ok (.iload_n 3, 1) := dk_29 (dk_at dksX0_isSeen_1 20 rfl rfl)
theorem dX0_isSeen_44 : decode cX0_isSeen 44 = .ok (.aaload, 1) := dk_50 (dk_at dksX0_isSeen_1 21 rfl rfl)
theorem dX0_isSeen_45 : decode cX0_isSeen 45 = .ok (.getfield 49, 3) := dk_180 0 49 (dk_at dksX0_isSeen_2 0 rfl rfl)
theorem dX0_isSeen_48 : decode cX0_isSeen 48 = .ok (.aload_n 0, 1) := dk_42 (dk_at dksX0_isSeen_2 3 rfl rfl)
theorem dX0_isSeen_49 : decode cX0_isSeen 49 = .ok (.getfield 19, 3) := dk_180 0 19 (dk_at dksX0_isSeen_2 4 rfl rfl)
theorem dX0_isSeen_52 : decode cX0_isSeen 52 = .ok (.getfield 150, 3) := dk_180 0 150 (dk_at dksX0_isSeen_2 7 rfl rfl)
theorem dX0_isSeen_55 : decode cX0_isSeen 55 = .ok (.invokevirtual 389, 3) := dk_182 1 133 (dk_at dksX0_isSeen_2 10 rfl rfl)
theorem dX0_isSeen_58 : decode cX0_isSeen 58 = .ok (.ifCond .eq 5, 3) := dk_153 0 5 (dk_at dksX0_isSeen_2 13 rfl rfl)
theorem dX0_isSeen_61 : decode cX0_isSeen 61 = .ok (.iconst 1, 1) := dk_4 (dk_at dksX0_isSeen_2 16 rfl rfl)
theorem dX0_isSeen_62 : decode cX0_isSeen 62 = .ok (.ireturn, 1) := dk_172 (dk_at dksX0_isSeen_2 17 rfl rfl)
theorem dX0_isSeen_63 : decode cX0_isSeen 63 = .ok (.iinc 4 1, 3) := dk_132 4 1 (dk_at dksX0_isSeen_2 18 rfl rfl)
theorem dX0_isSeen_66 : decode cX0_isSeen 66 = .ok (.goto (-43), 3) := dk_167 255 213 (dk_at dksX0_isSeen_2 21 rfl rfl)
theorem dX0_isSeen_69 : decode cX0_isSeen 69 = .ok (.iconst 0, 1) := dk_3 (dk_at dksX0_isSeen_3 0 rfl rfl)
theorem dX0_isSeen_70 : decode cX0_isSeen 70 = .ok (.ireturn, 1) := dk_172 (dk_at dksX0_isSeen_3 1 rfl rfl)
abbrev cX0_healed : ByteArray := prog_1_method_65_code
def yX0_healed : MethodName := ⟨RX0, "healed", "(I)I"⟩
def dkwX0_healed_1 : List UInt8 := [16, 253, 167, 0, 9, 42, 2, 27, 182, 1, 144, 172]
abbrev dktX0_healed_1 : List UInt8 := dkwX0_healed_1 ++ []
def dkwX0_healed_0 : List UInt8 := [27, 3, 16, 40, 184, 0, 3, 154, 0, 6, 16, 254, 172, 42, 180, 0, 19, 182, 0, 55, 156, 0, 8]
abbrev dktX0_healed_0 : List UInt8 := dkwX0_healed_0 ++ dktX0_healed_1
theorem dksX0_healed_0 : cX0_healed.data.toList.drop 0 = dktX0_healed_0 := by decide +kernel
theorem dksX0_healed_1 : cX0_healed.data.toList.drop 23 = dktX0_healed_1 := dk_seg dksX0_healed_0 23 rfl rfl
theorem dX0_healed_0 : decode cX0_healed 0 = .ok (.iload_n 1, 1) := dk_27 (dk_at dksX0_healed_0 0 rfl rfl)
theorem dX0_healed_1 : decode cX0_healed 1 = .ok (.iconst 0, 1) := dk_3 (dk_at dksX0_healed_0 1 rfl rfl)
theorem dX0_healed_2 : decode cX0_healed 2 = .ok (.bipush 40, 2) := dk_16 40 (dk_at dksX0_healed_0 2 rfl rfl)
theorem dX0_healed_4 : decode cX0_healed 4 = .ok (.invokestatic 3, 3) := dk_184 0 3 (dk_at dksX0_healed_0 4 rfl rfl)
theorem dX0_healed_7 : decode cX0_healed 7 = .ok (.ifCond .ne 6, 3) := dk_154 0 6 (dk_at dksX0_healed_0 7 rfl rfl)
theorem dX0_healed_10 : decode cX0_healed 10 = .ok (.bipush (-2), 2) := dk_16 254 (dk_at dksX0_healed_0 10 rfl rfl)
theorem dX0_healed_12 : decode cX0_healed 12 = .ok (.ireturn, 1) := dk_172 (dk_at dksX0_healed_0 12 rfl rfl)
theorem dX0_healed_13 : decode cX0_healed 13 = .ok (.aload_n 0, 1) := dk_42 (dk_at dksX0_healed_0 13 rfl rfl)
theorem dX0_healed_14 : decode cX0_healed 14 = .ok (.getfield 19, 3) := dk_180 0 19 (dk_at dksX0_healed_0 14 rfl rfl)
theorem dX0_healed_17 : decode cX0_healed 17 = .ok (.invokevirtual 55, 3) := dk_182 0 55 (dk_at dksX0_healed_0 17 rfl rfl)
theorem dX0_healed_20 : decode cX0_healed 20 = .ok (.ifCond .ge 8, 3) := dk_156 0 8 (dk_at dksX0_healed_0 20 rfl rfl)
theorem dX0_healed_23 : decode cX0_healed 23 = .ok (.bipush (-3), 2) := dk_16 253 (dk_at dksX0_healed_1 0 rfl rfl)
theorem dX0_healed_25 : decode cX0_healed 25 = .ok (.goto 9, 3) := dk_167 0 9 (dk_at dksX0_healed_1 2 rfl rfl)
theorem dX0_healed_28 : decode cX0_healed 28 = .ok (.aload_n 0, 1) := dk_42 (dk_at dksX0_healed_1 5 rfl rfl)
theorem dX0_healed_29 : decode cX0_healed 29 = .ok (.iconst (-1), 1) := dk_2 (dk_at dksX0_healed_1 6 rfl rfl)
theorem dX0_healed_30 : decode cX0_healed 30 = .ok (.iload_n 1, 1) := dk_27 (dk_at dksX0_healed_1 7 rfl rfl)
theorem dX0_healed_31 : decode cX0_healed 31 = .ok (.invokevirtual 400, 3) := dk_182 1 144 (dk_at dksX0_healed_1 8 rfl rfl)
theorem dX0_healed_34 : decode cX0_healed 34 = .ok (.ireturn, 1) := dk_172 (dk_at dksX0_healed_1 11 rfl rfl)
abbrev cX0_thinks : ByteArray := prog_1_method_64_code
def yX0_thinks : MethodName := ⟨RX0, "thinks", "(II)I"⟩
def dkwX0_thinks_2 : List UInt8 := [181, 0, 19, 21, 4, 172, 58, 5, 42, 45, 181, 0, 19, 25, 5, 191]
abbrev dktX0_thinks_2 : List UInt8 := dkwX0_thinks_2 ++ []
def dkwX0_thinks_1 : List UInt8 := [181, 0, 144, 27, 155, 0, 11, 42, 180, 0, 19, 27, 182, 1, 48, 42, 28, 182, 1, 141, 54, 4, 42, 45]
abbrev dktX0_thinks_1 : List UInt8 := dkwX0_thinks_1 ++ dktX0_thinks_2
def dkwX0_thinks_0 : List UInt8 := [42, 180, 0, 19, 78, 42, 187, 0, 24, 89, 45, 183, 1, 25, 181, 0, 19, 42, 180, 0, 19, 16, 251]
abbrev dktX0_thinks_0 : List UInt8 := dkwX0_thinks_0 ++ dktX0_thinks_1
theorem dksX0_thinks_0 : cX0_thinks.data.toList.drop 0 = dktX0_thinks_0 := by decide +kernel
theorem dksX0_thinks_1 : cX0_thinks.data.toList.drop 23 = dktX0_thinks_1 := dk_seg dksX0_thinks_0 23 rfl rfl
theorem dksX0_thinks_2 : cX0_thinks.data.toList.drop 47 = dktX0_thinks_2 := dk_seg dksX0_thinks_1 24 rfl rfl
theorem dX0_thinks_0 : decode cX0_thinks 0 = .ok (.aload_n 0, 1) := dk_42 (dk_at dksX0_thinks_0 0 rfl rfl)
theorem dX0_thinks_1 : decode cX0_thinks 1 = .ok (.getfield 19, 3) := dk_180 0 19 (dk_at dksX0_thinks_0 1 rfl rfl)
theorem dX0_thinks_4 : decode cX0_thinks 4 = .ok (.astore_n 3, 1) := dk_78 (dk_at dksX0_thinks_0 4 rfl rfl)
theorem dX0_thinks_5 : decode cX0_thinks 5 = .ok (.aload_n 0, 1) := dk_42 (dk_at dksX0_thinks_0 5 rfl rfl)
theorem dX0_thinks_6 : decode cX0_thinks 6 = .ok (.new 24, 3) := dk_187 0 24 (dk_at dksX0_thinks_0 6 rfl rfl)
theorem dX0_thinks_9 : decode cX0_thinks 9 = .ok (.dup, 1) := dk_89 (dk_at dksX0_thinks_0 9 rfl rfl)
theorem dX0_thinks_10 : decode cX0_thinks 10 = .ok (.aload_n 3, 1) := dk_45 (dk_at dksX0_thinks_0 10 rfl rfl)
theorem dX0_thinks_11 : decode cX0_thinks 11 = .ok (.invokespecial 281, 3) := dk_183 1 25 (dk_at dksX0_thinks_0 11 rfl rfl)
theorem dX0_thinks_14 : decode cX0_thinks 14 = .ok (.putfield 19, 3) := dk_181 0 19 (dk_at dksX0_thinks_0 14 rfl rfl)
theorem dX0_thinks_17 : decode cX0_thinks 17 = .ok (.aload_n 0, 1) := dk_42 (dk_at dksX0_thinks_0 17 rfl rfl)
theorem dX0_thinks_18 : decode cX0_thinks 18 = .ok (.getfield 19, 3) := dk_180 0 19 (dk_at dksX0_thinks_0 18 rfl rfl)
theorem dX0_thinks_21 : decode cX0_thinks 21 = .ok (.bipush (-5), 2) := dk_16 251 (dk_at dksX0_thinks_0 21 rfl rfl)
theorem dX0_thinks_23 : decode cX0_thinks 23 = .ok (.putfield 144, 3) := dk_181 0 144 (dk_at dksX0_thinks_1 0 rfl rfl)
theorem dX0_thinks_26 : decode cX0_thinks 26 = .ok (.iload_n 1, 1) := dk_27 (dk_at dksX0_thinks_1 3 rfl rfl)
theorem dX0_thinks_27 : decode cX0_thinks 27 = .ok (.ifCond .lt 11, 3) := dk_155 0 11 (dk_at dksX0_thinks_1 4 rfl rfl)
theorem dX0_thinks_30 : decode cX0_thinks 30 = .ok (.aload_n 0, 1) := dk_42 (dk_at dksX0_thinks_1 7 rfl rfl)
theorem dX0_thinks_31 : decode cX0_thinks 31 = .ok (.getfield 19, 3) := dk_180 0 19 (dk_at dksX0_thinks_1 8 rfl rfl)
theorem dX0_thinks_34 : decode cX0_thinks 34 = .ok (.iload_n 1, 1) := dk_27 (dk_at dksX0_thinks_1 11 rfl rfl)
theorem dX0_thinks_35 : decode cX0_thinks 35 = .ok (.invokevirtual 304, 3) := dk_182 1 48 (dk_at dksX0_thinks_1 12 rfl rfl)
theorem dX0_thinks_38 : decode cX0_thinks 38 = .ok (.aload_n 0, 1) := dk_42 (dk_at dksX0_thinks_1 15 rfl rfl)
theorem dX0_thinks_39 : decode cX0_thinks 39 = .ok (.iload_n 2, 1) := dk_28 (dk_at dksX0_thinks_1 16 rfl rfl)
theorem dX0_thinks_40 : decode cX0_thinks 40 = .ok (.invokevirtual 397, 3) := dk_182 1 141 (dk_at dksX0_thinks_1 17 rfl rfl)
theorem dX0_thinks_43 : decode cX0_thinks 43 = .ok (.istore 4, 2) := dk_54 4 (dk_at dksX0_thinks_1 20 rfl rfl)
theorem dX0_thinks_45 : decode cX0_thinks 45 = .ok (.aload_n 0, 1) := dk_42 (dk_at dksX0_thinks_1 22 rfl rfl)
theorem dX0_thinks_46 : decode cX0_thinks 46 = .ok (.aload_n 3, 1) := dk_45 (dk_at dksX0_thinks_1 23 rfl rfl)
theorem dX0_thinks_47 : decode cX0_thinks 47 = .ok (.putfield 19, 3) := dk_181 0 19 (dk_at dksX0_thinks_2 0 rfl rfl)
theorem dX0_thinks_50 : decode cX0_thinks 50 = .ok (.iload 4, 2) := dk_21 4 (dk_at dksX0_thinks_2 3 rfl rfl)
theorem dX0_thinks_52 : decode cX0_thinks 52 = .ok (.ireturn, 1) := dk_172 (dk_at dksX0_thinks_2 5 rfl rfl)
theorem dX0_thinks_53 : decode cX0_thinks 53 = .ok (.astore 5, 2) := dk_58 5 (dk_at dksX0_thinks_2 6 rfl rfl)
theorem dX0_thinks_55 : decode cX0_thinks 55 = .ok (.aload_n 0, 1) := dk_42 (dk_at dksX0_thinks_2 8 rfl rfl)
theorem dX0_thinks_56 : decode cX0_thinks 56 = .ok (.aload_n 3, 1) := dk_45 (dk_at dksX0_thinks_2 9 rfl rfl)
theorem dX0_thinks_57 : decode cX0_thinks 57 = .ok (.putfield 19, 3) := dk_181 0 19 (dk_at dksX0_thinks_2 10 rfl rfl)
theorem dX0_thinks_60 : decode cX0_thinks 60 = .ok (.aload 5, 2) := dk_25 5 (dk_at dksX0_thinks_2 13 rfl rfl)
theorem dX0_thinks_62 : decode cX0_thinks 62 = .ok (.athrow, 1) := dk_191 (dk_at dksX0_thinks_2 15 rfl rfl)
abbrev cX0_formsWithin : ByteArray := prog_1_method_63_code
def yX0_formsWithin : MethodName := ⟨RX0, "formsWithin", "(I)I"⟩
def dkwX0_formsWithin_1 : List UInt8 := [182, 1, 84, 132, 2, 1, 167, 255, 230, 16, 251, 172]
abbrev dktX0_formsWithin_1 : List UInt8 := dkwX0_formsWithin_1 ++ []
def dkwX0_formsWithin_0 : List UInt8 := [3, 61, 28, 27, 163, 0, 27, 42, 182, 1, 115, 153, 0, 5, 28, 172, 28, 27, 162, 0, 7, 42]
abbrev dktX0_formsWithin_0 : List UInt8 := dkwX0_formsWithin_0 ++ dktX0_formsWithin_1
theorem dksX0_formsWithin_0 : cX0_formsWithin.data.toList.drop 0 = dktX0_formsWithin_0 := by decide +kernel
theorem dksX0_formsWithin_1 : cX0_formsWithin.data.toList.drop 22 = dktX0_formsWithin_1 := dk_seg dksX0_formsWithin_0 22 rfl rfl
theorem dX0_formsWithin_0 : decode cX0_formsWithin 0 = .ok (.iconst 0, 1) := dk_3 (dk_at dksX0_formsWithin_0 0 rfl rfl)
theorem dX0_formsWithin_1 : decode cX0_formsWithin 1 = .ok (.istore_n 2, 1) := dk_61 (dk_at dksX0_formsWithin_0 1 rfl rfl)
theorem dX0_formsWithin_2 : decode cX0_formsWithin 2 = .ok (.iload_n 2, 1) := dk_28 (dk_at dksX0_formsWithin_0 2 rfl rfl)
theorem dX0_formsWithin_3 : decode cX0_formsWithin 3 = .ok (.iload_n 1, 1) := dk_27 (dk_at dksX0_formsWithin_0 3 rfl rfl)
theorem dX0_formsWithin_4 : decode cX0_formsWithin 4 = .ok (.if_icmp .gt 27, 3) := dk_163 0 27 (dk_at dksX0_formsWithin_0 4 rfl rfl)
theorem dX0_formsWithin_7 : decode cX0_formsWithin 7 = .ok (.aload_n 0, 1) := dk_42 (dk_at dksX0_formsWithin_0 7 rfl rfl)
theorem dX0_formsWithin_8 : decode cX0_formsWithin 8 = .ok (.invokevirtual 371, 3) := dk_182 1 115 (dk_at dksX0_formsWithin_0 8 rfl rfl)
theorem dX0_formsWithin_11 : decode cX0_formsWithin 11 = .ok (.ifCond .eq 5, 3) := dk_153 0 5 (dk_at dksX0_formsWithin_0 11 rfl rfl)
theorem dX0_formsWithin_14 : decode cX0_formsWithin 14 = .ok (.iload_n 2, 1) := dk_28 (dk_at dksX0_formsWithin_0 14 rfl rfl)
theorem dX0_formsWithin_15 : decode cX0_formsWithin 15 = .ok (.ireturn, 1) := dk_172 (dk_at dksX0_formsWithin_0 15 rfl rfl)
theorem dX0_formsWithin_16 : decode cX0_formsWithin 16 = .ok (.iload_n 2, 1) := dk_28 (dk_at dksX0_formsWithin_0 16 rfl rfl)
theorem dX0_formsWithin_17 : decode cX0_formsWithin 17 = .ok (.iload_n 1, 1) := dk_27 (dk_at dksX0_formsWithin_0 17 rfl rfl)
theorem dX0_formsWithin_18 : decode cX0_formsWithin 18 = .ok (.if_icmp .ge 7, 3) := dk_162 0 7 (dk_at dksX0_formsWithin_0 18 rfl rfl)
theorem dX0_formsWithin_21 : decode cX0_formsWithin 21 = .ok (.aload_n 0, 1) := dk_42 (dk_at dksX0_formsWithin_0 21 rfl rfl)
theorem dX0_formsWithin_22 : decode cX0_formsWithin 22 = .ok (.invokevirtual 340, 3) := dk_182 1 84 (dk_at dksX0_formsWithin_1 0 rfl rfl)
theorem dX0_formsWithin_25 : decode cX0_formsWithin 25 = .ok (.iinc 2 1, 3) := dk_132 2 1 (dk_at dksX0_formsWithin_1 3 rfl rfl)
theorem dX0_formsWithin_28 : decode cX0_formsWithin 28 = .ok (.goto (-26), 3) := dk_167 255 230 (dk_at dksX0_formsWithin_1 6 rfl rfl)
theorem dX0_formsWithin_31 : decode cX0_formsWithin 31 = .ok (.bipush (-5), 2) := dk_16 251 (dk_at dksX0_formsWithin_1 9 rfl rfl)
theorem dX0_formsWithin_33 : decode cX0_formsWithin 33 = .ok (.ireturn, 1) := dk_172 (dk_at dksX0_formsWithin_1 11 rfl rfl)
abbrev cX0_healedWithout : ByteArray := prog_1_method_66_code
def yX0_healedWithout : MethodName := ⟨RX0, "healedWithout", "(II)I"⟩
def dkwX0_healedWithout_2 : List UInt8 := [182, 1, 144, 172]
abbrev dktX0_healedWithout_2 : List UInt8 := dkwX0_healedWithout_2 ++ []
def dkwX0_healedWithout_1 : List UInt8 := [16, 254, 172, 42, 180, 0, 19, 182, 1, 51, 4, 160, 0, 8, 16, 253, 167, 0, 9, 42, 27, 28]
abbrev dktX0_healedWithout_1 : List UInt8 := dkwX0_healedWithout_1 ++ dktX0_healedWithout_2
def dkwX0_healedWithout_0 : List UInt8 := [42, 180, 0, 19, 27, 182, 1, 45, 154, 0, 5, 2, 172, 28, 3, 16, 40, 184, 0, 3, 154, 0, 6]
abbrev dktX0_healedWithout_0 : List UInt8 := dkwX0_healedWithout_0 ++ dktX0_healedWithout_1
theorem dksX0_healedWithout_0 : cX0_healedWithout.data.toList.drop 0 = dktX0_healedWithout_0 := by decide +kernel
theorem dksX0_healedWithout_1 : cX0_healedWithout.data.toList.drop 23 = dktX0_healedWithout_1 := dk_seg dksX0_healedWithout_0 23 rfl rfl
theorem dksX0_healedWithout_2 : cX0_healedWithout.data.toList.drop 45 = dktX0_healedWithout_2 := dk_seg dksX0_healedWithout_1 22 rfl rfl
theorem dX0_healedWithout_0 : decode cX0_healedWithout 0 = .ok (.aload_n 0, 1) := dk_42 (dk_at dksX0_healedWithout_0 0 rfl rfl)
theorem dX0_healedWithout_1 : decode cX0_healedWithout 1 = .ok (.getfield 19, 3) := dk_180 0 19 (dk_at dksX0_healedWithout_0 1 rfl rfl)
theorem dX0_healedWithout_4 : decode cX0_healedWithout 4 = .ok (.iload_n 1, 1) := dk_27 (dk_at dksX0_healedWithout_0 4 rfl rfl)
theorem dX0_healedWithout_5 : decode cX0_healedWithout 5 = .ok (.invokevirtual 301, 3) := dk_182 1 45 (dk_at dksX0_healedWithout_0 5 rfl rfl)
theorem dX0_healedWithout_8 : decode cX0_healedWithout 8 = .ok (.ifCond .ne 5, 3) := dk_154 0 5 (dk_at dksX0_healedWithout_0 8 rfl rfl)
theorem dX0_healedWithout_11 : decode cX0_healedWithout 11 = .ok (.iconst (-1), 1) := dk_2 (dk_at dksX0_healedWithout_0 11 rfl rfl)
theorem dX0_healedWithout_12 : decode cX0_healedWithout 12 = .ok (.ireturn, 1) := dk_172 (dk_at dksX0_healedWithout_0 12 rfl rfl)
theorem dX0_healedWithout_13 : decode cX0_healedWithout 13 = .ok (.iload_n 2, 1) := dk_28 (dk_at dksX0_healedWithout_0 13 rfl rfl)
theorem dX0_healedWithout_14 : decode cX0_healedWithout 14 = .ok (.iconst 0, 1) := dk_3 (dk_at dksX0_healedWithout_0 14 rfl rfl)
theorem dX0_healedWithout_15 : decode cX0_healedWithout 15 = .ok (.bipush 40, 2) := dk_16 40 (dk_at dksX0_healedWithout_0 15 rfl rfl)
theorem dX0_healedWithout_17 : decode cX0_healedWithout 17 = .ok (.invokestatic 3, 3) := dk_184 0 3 (dk_at dksX0_healedWithout_0 17 rfl rfl)
theorem dX0_healedWithout_20 : decode cX0_healedWithout 20 = .ok (.ifCond .ne 6, 3) := dk_154 0 6 (dk_at dksX0_healedWithout_0 20 rfl rfl)
theorem dX0_healedWithout_23 : decode cX0_healedWithout 23 = .ok (.bipush (-2), 2) := dk_16 254 (dk_at dksX0_healedWithout_1 0 rfl rfl)
theorem dX0_healedWithout_25 : decode cX0_healedWithout 25 = .ok (.ireturn, 1) := dk_172 (dk_at dksX0_healedWithout_1 2 rfl rfl)
theorem dX0_healedWithout_26 : decode cX0_healedWithout 26 = .ok (.aload_n 0, 1) := dk_42 (dk_at dksX0_healedWithout_1 3 rfl rfl)
theorem dX0_healedWithout_27 : decode cX0_healedWithout 27 = .ok (.getfield 19, 3) := dk_180 0 19 (dk_at dksX0_healedWithout_1 4 rfl rfl)
theorem dX0_healedWithout_30 : decode cX0_healedWithout 30 = .ok (.invokevirtual 307, 3) := dk_182 1 51 (dk_at dksX0_healedWithout_1 7 rfl rfl)
theorem dX0_healedWithout_33 : decode cX0_healedWithout 33 = .ok (.iconst 1, 1) := dk_4 (dk_at dksX0_healedWithout_1 10 rfl rfl)
theorem dX0_healedWithout_34 : decode cX0_healedWithout 34 = .ok (.if_icmp .ne 8, 3) := dk_160 0 8 (dk_at dksX0_healedWithout_1 11 rfl rfl)
theorem dX0_healedWithout_37 : decode cX0_healedWithout 37 = .ok (.bipush (-3), 2) := dk_16 253 (dk_at dksX0_healedWithout_1 14 rfl rfl)
theorem dX0_healedWithout_39 : decode cX0_healedWithout 39 = .ok (.goto 9, 3) := dk_167 0 9 (dk_at dksX0_healedWithout_1 16 rfl rfl)
theorem dX0_healedWithout_42 : decode cX0_healedWithout 42 = .ok (.aload_n 0, 1) := dk_42 (dk_at dksX0_healedWithout_1 19 rfl rfl)
theorem dX0_healedWithout_43 : decode cX0_healedWithout 43 = .ok (.iload_n 1, 1) := dk_27 (dk_at dksX0_healedWithout_1 20 rfl rfl)
theorem dX0_healedWithout_44 : decode cX0_healedWithout 44 = .ok (.iload_n 2, 1) := dk_28 (dk_at dksX0_healedWithout_1 21 rfl rfl)
theorem dX0_healedWithout_45 : decode cX0_healedWithout 45 = .ok (.invokevirtual 400, 3) := dk_182 1 144 (dk_at dksX0_healedWithout_2 0 rfl rfl)
theorem dX0_healedWithout_48 : decode cX0_healedWithout 48 = .ok (.ireturn, 1) := dk_172 (dk_at dksX0_healedWithout_2 3 rfl rfl)
abbrev cX0_again : ByteArray := prog_1_method_69_code
def yX0_again : MethodName := ⟨RX0, "again", "()I"⟩
def dkwX0_again_4 : List UInt8 := [21, 5, 184, 1, 147, 60, 132, 4, 1, 167, 255, 234, 27, 17, 39, 16, 112, 172]
abbrev dktX0_again_4 : List UInt8 := dkwX0_again_4 ++ []
def dkwX0_again_3 : List UInt8 := [180, 1, 19, 77, 44, 190, 62, 3, 54, 4, 21, 4, 29, 162, 0, 22, 44, 21, 4, 46, 54, 5, 27]
abbrev dktX0_again_3 : List UInt8 := dkwX0_again_3 ++ dktX0_again_4
def dkwX0_again_2 : List UInt8 := [180, 0, 42, 27, 46, 155, 0, 8, 42, 27, 182, 1, 161, 132, 1, 1, 167, 255, 231, 18, 18, 60, 42]
abbrev dktX0_again_2 : List UInt8 := dkwX0_again_2 ++ dktX0_again_3
def dkwX0_again_1 : List UInt8 := [3, 167, 0, 5, 18, 18, 79, 132, 1, 1, 167, 255, 228, 3, 60, 27, 42, 180, 0, 71, 162, 0, 23, 42]
abbrev dktX0_again_1 : List UInt8 := dkwX0_again_1 ++ dktX0_again_2
def dkwX0_again_0 : List UInt8 := [42, 182, 0, 94, 3, 60, 27, 42, 180, 1, 19, 190, 162, 0, 25, 42, 180, 1, 19, 27, 27, 154, 0, 7]
abbrev dktX0_again_0 : List UInt8 := dkwX0_again_0 ++ dktX0_again_1
theorem dksX0_again_0 : cX0_again.data.toList.drop 0 = dktX0_again_0 := by decide +kernel
theorem dksX0_again_1 : cX0_again.data.toList.drop 24 = dktX0_again_1 := dk_seg dksX0_again_0 24 rfl rfl
theorem dksX0_again_2 : cX0_again.data.toList.drop 48 = dktX0_again_2 := dk_seg dksX0_again_1 24 rfl rfl
theorem dksX0_again_3 : cX0_again.data.toList.drop 71 = dktX0_again_3 := dk_seg dksX0_again_2 23 rfl rfl
theorem dksX0_again_4 : cX0_again.data.toList.drop 94 = dktX0_again_4 := dk_seg dksX0_again_3 23 rfl rfl
theorem dX0_again_0 : decode cX0_again 0 = .ok (.aload_n 0, 1) := dk_42 (dk_at dksX0_again_0 0 rfl rfl)
theorem dX0_again_1 : decode cX0_again 1 = .ok (.invokevirtual 94, 3) := dk_182 0 94 (dk_at dksX0_again_0 1 rfl rfl)
theorem dX0_again_4 : decode cX0_again 4 = .ok (.iconst 0, 1) := dk_3 (dk_at dksX0_again_0 4 rfl rfl)
theorem dX0_again_5 : decode cX0_again 5 = .ok (.istore_n 1, 1) := dk_60 (dk_at dksX0_again_0 5 rfl rfl)
theorem dX0_again_6 : decode cX0_again 6 = .ok (.iload_n 1, 1) := dk_27 (dk_at dksX0_again_0 6 rfl rfl)
theorem dX0_again_7 : decode cX0_again 7 = .ok (.aload_n 0, 1) := dk_42 (dk_at dksX0_again_0 7 rfl rfl)
theorem dX0_again_8 : decode cX0_again 8 = .ok (.getfield 275, 3) := dk_180 1 19 (dk_at dksX0_again_0 8 rfl rfl)
theorem dX0_again_11 : decode cX0_again 11 = .ok (.arraylength, 1) := dk_190 (dk_at dksX0_again_0 11 rfl rfl)
theorem dX0_again_12 : decode cX0_again 12 = .ok (.if_icmp .ge 25, 3) := dk_162 0 25 (dk_at dksX0_again_0 12 rfl rfl)
theorem dX0_again_15 : decode cX0_again 15 = .ok (.aload_n 0, 1) := dk_42 (dk_at dksX0_again_0 15 rfl rfl)
theorem dX0_again_16 : decode cX0_again 16 = .ok (.getfield 275, 3) := dk_180 1 19 (dk_at dksX0_again_0 16 rfl rfl)
theorem dX0_again_19 : decode cX0_again 19 = .ok (.iload_n 1, 1) := dk_27 (dk_at dksX0_again_0 19 rfl rfl)
theorem dX0_again_20 : decode cX0_again 20 = .ok (.iload_n 1, 1) := dk_27 (dk_at dksX0_again_0 20 rfl rfl)
theorem dX0_again_21 : decode cX0_again 21 = .ok (.ifCond .ne 7, 3) := dk_154 0 7 (dk_at dksX0_again_0 21 rfl rfl)
theorem dX0_again_24 : decode cX0_again 24 = .ok (.iconst 0, 1) := dk_3 (dk_at dksX0_again_1 0 rfl rfl)
theorem dX0_again_25 : decode cX0_again 25 = .ok (.goto 5, 3) := dk_167 0 5 (dk_at dksX0_again_1 1 rfl rfl)
theorem dX0_again_28 : decode cX0_again 28 = .ok (.ldc 18, 2) := dk_18 18 (dk_at dksX0_again_1 4 rfl rfl)
theorem dX0_again_30 : decode cX0_again 30 = .ok (.iastore, 1) := dk_79 (dk_at dksX0_again_1 6 rfl rfl)
theorem dX0_again_31 : decode cX0_again 31 = .ok (.iinc 1 1, 3) := dk_132 1 1 (dk_at dksX0_again_1 7 rfl rfl)
theorem dX0_again_34 : decode cX0_again 34 = .ok (.goto (-28), 3) := dk_167 255 228 (dk_at dksX0_again_1 10 rfl rfl)
theorem dX0_again_37 : decode cX0_again 37 = .ok (.iconst 0, 1) := dk_3 (dk_at dksX0_again_1 13 rfl rfl)
theorem dX0_again_38 : decode cX0_again 38 = .ok (.istore_n 1, 1) := dk_60 (dk_at dksX0_again_1 14 rfl rfl)
theorem dX0_again_39 : decode cX0_again 39 = .ok (.iload_n 1, 1) := dk_27 (dk_at dksX0_again_1 15 rfl rfl)
theorem dX0_again_40 : decode cX0_again 40 = .ok (.aload_n 0, 1) := dk_42 (dk_at dksX0_again_1 16 rfl rfl)
theorem dX0_again_41 : decode cX0_again 41 = .ok (.getfield 71, 3) := dk_180 0 71 (dk_at dksX0_again_1 17 rfl rfl)
theorem dX0_again_44 : decode cX0_again 44 = .ok (.if_icmp .ge 23, 3) := dk_162 0 23 (dk_at dksX0_again_1 20 rfl rfl)
theorem dX0_again_47 : decode cX0_again 47 = .ok (.aload_n 0, 1) := dk_42 (dk_at dksX0_again_1 23 rfl rfl)
theorem dX0_again_48 : decode cX0_again 48 = .ok (.getfield 42, 3) := dk_180 0 42 (dk_at dksX0_again_2 0 rfl rfl)
theorem dX0_again_51 : decode cX0_again 51 = .ok (.iload_n 1, 1) := dk_27 (dk_at dksX0_again_2 3 rfl rfl)
theorem dX0_again_52 : decode cX0_again 52 = .ok (.iaload, 1) := dk_46 (dk_at dksX0_again_2 4 rfl rfl)
theorem dX0_again_53 : decode cX0_again 53 = .ok (.ifCond .lt 8, 3) := dk_155 0 8 (dk_at dksX0_again_2 5 rfl rfl)
theorem dX0_again_56 : decode cX0_again 56 = .ok (.aload_n 0, 1) := dk_42 (dk_at dksX0_again_2 8 rfl rfl)
theorem dX0_again_57 : decode cX0_again 57 = .ok (.iload_n 1, 1) := dk_27 (dk_at dksX0_again_2 9 rfl rfl)
theorem dX0_again_58 : decode cX0_again 58 = .ok (.invokevirtual 417, 3) := dk_182 1 161 (dk_at dksX0_again_2 10 rfl rfl)
theorem dX0_again_61 : decode cX0_again 61 = .ok (.iinc 1 1, 3) := dk_132 1 1 (dk_at dksX0_again_2 13 rfl rfl)
theorem dX0_again_64 : decode cX0_again 64 = .ok (.goto (-25), 3) := dk_167 255 231 (dk_at dksX0_again_2 16 rfl rfl)
theorem dX0_again_67 : decode cX0_again 67 = .ok (.ldc 18, 2) := dk_18 18 (dk_at dksX0_again_2 19 rfl rfl)
theorem dX0_again_69 : decode cX0_again 69 = .ok (.istore_n 1, 1) := dk_60 (dk_at dksX0_again_2 21 rfl rfl)
theorem dX0_again_70 : decode cX0_again 70 = .ok (.aload_n 0, 1) := dk_42 (dk_at dksX0_again_2 22 rfl rfl)
theorem dX0_again_71 : decode cX0_again 71 = .ok (.getfield 275, 3) := dk_180 1 19 (dk_at dksX0_again_3 0 rfl rfl)
theorem dX0_again_74 : decode cX0_again 74 = .ok (.astore_n 2, 1) := dk_77 (dk_at dksX0_again_3 3 rfl rfl)
theorem dX0_again_75 : decode cX0_again 75 = .ok (.aload_n 2, 1) := dk_44 (dk_at dksX0_again_3 4 rfl rfl)
theorem dX0_again_76 : decode cX0_again 76 = .ok (.arraylength, 1) := dk_190 (dk_at dksX0_again_3 5 rfl rfl)
theorem dX0_again_77 : decode cX0_again 77 = .ok (.istore_n 3, 1) := dk_62 (dk_at dksX0_again_3 6 rfl rfl)
theorem dX0_again_78 : decode cX0_again 78 = .ok (.iconst 0, 1) := dk_3 (dk_at dksX0_again_3 7 rfl rfl)
theorem dX0_again_79 : decode cX0_again 79 = .ok (.istore 4, 2) := dk_54 4 (dk_at dksX0_again_3 8 rfl rfl)
theorem dX0_again_81 : decode cX0_again 81 = .ok (.iload 4, 2) := dk_21 4 (dk_at dksX0_again_3 10 rfl rfl)
theorem dX0_again_83 : decode cX0_again 83 = .ok (.iload_n 3, 1) := dk_29 (dk_at dksX0_again_3 12 rfl rfl)
theorem dX0_again_84 : decode cX0_again 84 = .ok (.if_icmp .ge 22, 3) := dk_162 0 22 (dk_at dksX0_again_3 13 rfl rfl)
theorem dX0_again_87 : decode cX0_again 87 = .ok (.aload_n 2, 1) := dk_44 (dk_at dksX0_again_3 16 rfl rfl)
theorem dX0_again_88 : decode cX0_again 88 = .ok (.iload 4, 2) := dk_21 4 (dk_at dksX0_again_3 17 rfl rfl)
theorem dX0_again_90 : decode cX0_again 90 = .ok (.iaload, 1) := dk_46 (dk_at dksX0_again_3 19 rfl rfl)
theorem dX0_again_91 : decode cX0_again 91 = .ok (.istore 5, 2) := dk_54 5 (dk_at dksX0_again_3 20 rfl rfl)
theorem dX0_again_93 : decode cX0_again 93 = .ok (.iload_n 1, 1) := dk_27 (dk_at dksX0_again_3 22 rfl rfl)
theorem dX0_again_94 : decode cX0_again 94 = .ok (.iload 5, 2) := dk_21 5 (dk_at dksX0_again_4 0 rfl rfl)
theorem dX0_again_96 : decode cX0_again 96 = .ok (.invokestatic 403, 3) := dk_184 1 147 (dk_at dksX0_again_4 2 rfl rfl)
theorem dX0_again_99 : decode cX0_again 99 = .ok (.istore_n 1, 1) := dk_60 (dk_at dksX0_again_4 5 rfl rfl)
theorem dX0_again_100 : decode cX0_again 100 = .ok (.iinc 4 1, 3) := dk_132 4 1 (dk_at dksX0_again_4 6 rfl rfl)
theorem dX0_again_103 : decode cX0_again 103 = .ok (.goto (-22), 3) := dk_167 255 234 (dk_at dksX0_again_4 9 rfl rfl)
theorem dX0_again_106 : decode cX0_again 106 = .ok (.iload_n 1, 1) := dk_27 (dk_at dksX0_again_4 12 rfl rfl)
theorem dX0_again_107 : decode cX0_again 107 = .ok (.sipush 10000, 3) := dk_17 39 16 (dk_at dksX0_again_4 13 rfl rfl)
theorem dX0_again_110 : decode cX0_again 110 = .ok (.irem, 1) := dk_112 (dk_at dksX0_again_4 16 rfl rfl)
theorem dX0_again_111 : decode cX0_again 111 = .ok (.ireturn, 1) := dk_172 (dk_at dksX0_again_4 17 rfl rfl)
abbrev cX0_goesOn : ByteArray := prog_1_method_68_code
def yX0_goesOn : MethodName := ⟨RX0, "goesOn", "(I)V"⟩
def dkwX0_goesOn_3 : List UInt8 := [3, 42, 180, 1, 19, 190, 184, 1, 155, 177]
abbrev dktX0_goesOn_3 : List UInt8 := dkwX0_goesOn_3 ++ []
def dkwX0_goesOn_2 : List UInt8 := [162, 0, 9, 42, 27, 28, 182, 1, 152, 132, 2, 1, 167, 255, 227, 42, 180, 1, 22, 3, 42, 180, 1, 19]
abbrev dktX0_goesOn_2 : List UInt8 := dkwX0_goesOn_2 ++ dktX0_goesOn_3
def dkwX0_goesOn_1 : List UInt8 := [167, 255, 236, 3, 61, 28, 42, 180, 1, 19, 190, 162, 0, 26, 42, 180, 1, 19, 28, 46, 18, 18]
abbrev dktX0_goesOn_1 : List UInt8 := dkwX0_goesOn_1 ++ dktX0_goesOn_2
def dkwX0_goesOn_0 : List UInt8 := [3, 61, 28, 42, 180, 1, 19, 190, 162, 0, 17, 42, 180, 1, 22, 28, 18, 18, 79, 132, 2, 1]
abbrev dktX0_goesOn_0 : List UInt8 := dkwX0_goesOn_0 ++ dktX0_goesOn_1
theorem dksX0_goesOn_0 : cX0_goesOn.data.toList.drop 0 = dktX0_goesOn_0 := by decide +kernel
theorem dksX0_goesOn_1 : cX0_goesOn.data.toList.drop 22 = dktX0_goesOn_1 := dk_seg dksX0_goesOn_0 22 rfl rfl
theorem dksX0_goesOn_2 : cX0_goesOn.data.toList.drop 44 = dktX0_goesOn_2 := dk_seg dksX0_goesOn_1 22 rfl rfl
theorem dksX0_goesOn_3 : cX0_goesOn.data.toList.drop 68 = dktX0_goesOn_3 := dk_seg dksX0_goesOn_2 24 rfl rfl
theorem dX0_goesOn_0 : decode cX0_goesOn 0 = .ok (.iconst 0, 1) := dk_3 (dk_at dksX0_goesOn_0 0 rfl rfl)
theorem dX0_goesOn_1 : decode cX0_goesOn 1 = .ok (.istore_n 2, 1) := dk_61 (dk_at dksX0_goesOn_0 1 rfl rfl)
theorem dX0_goesOn_2 : decode cX0_goesOn 2 = .ok (.iload_n 2, 1) := dk_28 (dk_at dksX0_goesOn_0 2 rfl rfl)
theorem dX0_goesOn_3 : decode cX0_goesOn 3 = .ok (.aload_n 0, 1) := dk_42 (dk_at dksX0_goesOn_0 3 rfl rfl)
theorem dX0_goesOn_4 : decode cX0_goesOn 4 = .ok (.getfield 275, 3) := dk_180 1 19 (dk_at dksX0_goesOn_0 4 rfl rfl)
theorem dX0_goesOn_7 : decode cX0_goesOn 7 = .ok (.arraylength, 1) := dk_190 (dk_at dksX0_goesOn_0 7 rfl rfl)
theorem dX0_goesOn_8 : decode cX0_goesOn 8 = .ok (.if_icmp .ge 17, 3) := dk_162 0 17 (dk_at dksX0_goesOn_0 8 rfl rfl)
theorem dX0_goesOn_11 : decode cX0_goesOn 11 = .ok (.aload_n 0, 1) := dk_42 (dk_at dksX0_goesOn_0 11 rfl rfl)
theorem dX0_goesOn_12 : decode cX0_goesOn 12 = .ok (.getfield 278, 3) := dk_180 1 22 (dk_at dksX0_goesOn_0 12 rfl rfl)
theorem dX0_goesOn_15 : decode cX0_goesOn 15 = .ok (.iload_n 2, 1) := dk_28 (dk_at dksX0_goesOn_0 15 rfl rfl)
theorem dX0_goesOn_16 : decode cX0_goesOn 16 = .ok (.ldc 18, 2) := dk_18 18 (dk_at dksX0_goesOn_0 16 rfl rfl)
theorem dX0_goesOn_18 : decode cX0_goesOn 18 = .ok (.iastore, 1) := dk_79 (dk_at dksX0_goesOn_0 18 rfl rfl)
theorem dX0_goesOn_19 : decode cX0_goesOn 19 = .ok (.iinc 2 1, 3) := dk_132 2 1 (dk_at dksX0_goesOn_0 19 rfl rfl)
theorem dX0_goesOn_22 : decode cX0_goesOn 22 = .ok (.goto (-20), 3) := dk_167 255 236 (dk_at dksX0_goesOn_1 0 rfl rfl)
theorem dX0_goesOn_25 : decode cX0_goesOn 25 = .ok (.iconst 0, 1) := dk_3 (dk_at dksX0_goesOn_1 3 rfl rfl)
theorem dX0_goesOn_26 : decode cX0_goesOn 26 = .ok (.istore_n 2, 1) := dk_61 (dk_at dksX0_goesOn_1 4 rfl rfl)
theorem dX0_goesOn_27 : decode cX0_goesOn 27 = .ok (.iload_n 2, 1) := dk_28 (dk_at dksX0_goesOn_1 5 rfl rfl)
theorem dX0_goesOn_28 : decode cX0_goesOn 28 = .ok (.aload_n 0, 1) := dk_42 (dk_at dksX0_goesOn_1 6 rfl rfl)
theorem dX0_goesOn_29 : decode cX0_goesOn 29 = .ok (.getfield 275, 3) := dk_180 1 19 (dk_at dksX0_goesOn_1 7 rfl rfl)
theorem dX0_goesOn_32 : decode cX0_goesOn 32 = .ok (.arraylength, 1) := dk_190 (dk_at dksX0_goesOn_1 10 rfl rfl)
theorem dX0_goesOn_33 : decode cX0_goesOn 33 = .ok (.if_icmp .ge 26, 3) := dk_162 0 26 (dk_at dksX0_goesOn_1 11 rfl rfl)
theorem dX0_goesOn_36 : decode cX0_goesOn 36 = .ok (.aload_n 0, 1) := dk_42 (dk_at dksX0_goesOn_1 14 rfl rfl)
theorem dX0_goesOn_37 : decode cX0_goesOn 37 = .ok (.getfield 275, 3) := dk_180 1 19 (dk_at dksX0_goesOn_1 15 rfl rfl)
theorem dX0_goesOn_40 : decode cX0_goesOn 40 = .ok (.iload_n 2, 1) := dk_28 (dk_at dksX0_goesOn_1 18 rfl rfl)
theorem dX0_goesOn_41 : decode cX0_goesOn 41 = .ok (.iaload, 1) := dk_46 (dk_at dksX0_goesOn_1 19 rfl rfl)
theorem dX0_goesOn_42 : decode cX0_goesOn 42 = .ok (.ldc 18, 2) := dk_18 18 (dk_at dksX0_goesOn_1 20 rfl rfl)
theorem dX0_goesOn_44 : decode cX0_goesOn 44 = .ok (.if_icmp .ge 9, 3) := dk_162 0 9 (dk_at dksX0_goesOn_2 0 rfl rfl)
theorem dX0_goesOn_47 : decode cX0_goesOn 47 = .ok (.aload_n 0, 1) := dk_42 (dk_at dksX0_goesOn_2 3 rfl rfl)
theorem dX0_goesOn_48 : decode cX0_goesOn 48 = .ok (.iload_n 1, 1) := dk_27 (dk_at dksX0_goesOn_2 4 rfl rfl)
theorem dX0_goesOn_49 : decode cX0_goesOn 49 = .ok (.iload_n 2, 1) := dk_28 (dk_at dksX0_goesOn_2 5 rfl rfl)
theorem dX0_goesOn_50 : decode cX0_goesOn 50 = .ok (.invokevirtual 408, 3) := dk_182 1 152 (dk_at dksX0_goesOn_2 6 rfl rfl)
theorem dX0_goesOn_53 : decode cX0_goesOn 53 = .ok (.iinc 2 1, 3) := dk_132 2 1 (dk_at dksX0_goesOn_2 9 rfl rfl)
theorem dX0_goesOn_56 : decode cX0_goesOn 56 = .ok (.goto (-29), 3) := dk_167 255 227 (dk_at dksX0_goesOn_2 12 rfl rfl)
theorem dX0_goesOn_59 : decode cX0_goesOn 59 = .ok (.aload_n 0, 1) := dk_42 (dk_at dksX0_goesOn_2 15 rfl rfl)
theorem dX0_goesOn_60 : decode cX0_goesOn 60 = .ok (.getfield 278, 3) := dk_180 1 22 (dk_at dksX0_goesOn_2 16 rfl rfl)
theorem dX0_goesOn_63 : decode cX0_goesOn 63 = .ok (.iconst 0, 1) := dk_3 (dk_at dksX0_goesOn_2 19 rfl rfl)
theorem dX0_goesOn_64 : decode cX0_goesOn 64 = .ok (.aload_n 0, 1) := dk_42 (dk_at dksX0_goesOn_2 20 rfl rfl)
theorem dX0_goesOn_65 : decode cX0_goesOn 65 = .ok (.getfield 275, 3) := dk_180 1 19 (dk_at dksX0_goesOn_2 21 rfl rfl)
theorem dX0_goesOn_68 : decode cX0_goesOn 68 = .ok (.iconst 0, 1) := dk_3 (dk_at dksX0_goesOn_3 0 rfl rfl)
theorem dX0_goesOn_69 : decode cX0_goesOn 69 = .ok (.aload_n 0, 1) := dk_42 (dk_at dksX0_goesOn_3 1 rfl rfl)
theorem dX0_goesOn_70 : decode cX0_goesOn 70 = .ok (.getfield 275, 3) := dk_180 1 19 (dk_at dksX0_goesOn_3 2 rfl rfl)
theorem dX0_goesOn_73 : decode cX0_goesOn 73 = .ok (.arraylength, 1) := dk_190 (dk_at dksX0_goesOn_3 5 rfl rfl)
theorem dX0_goesOn_74 : decode cX0_goesOn 74 = .ok (.invokestatic 411, 3) := dk_184 1 155 (dk_at dksX0_goesOn_3 6 rfl rfl)
theorem dX0_goesOn_77 : decode cX0_goesOn 77 = .ok (.return_, 1) := dk_177 (dk_at dksX0_goesOn_3 9 rfl rfl)
abbrev cX0_givesTo : ByteArray := prog_1_method_67_code
def yX0_givesTo : MethodName := ⟨RX0, "givesTo", "(II)V"⟩
def dkwX0_givesTo_6 : List UInt8 := [132, 3, 1, 167, 255, 138, 177]
abbrev dktX0_givesTo_6 : List UInt8 := dkwX0_givesTo_6 ++ []
def dkwX0_givesTo_5 : List UInt8 := [42, 180, 0, 45, 27, 50, 42, 180, 0, 19, 180, 0, 80, 29, 50, 180, 0, 49, 46, 96, 184, 1, 147, 79]
abbrev dktX0_givesTo_5 : List UInt8 := dkwX0_givesTo_5 ++ dktX0_givesTo_6
def dkwX0_givesTo_4 : List UInt8 := [29, 120, 128, 54, 4, 42, 180, 1, 22, 21, 4, 42, 180, 1, 22, 21, 4, 46, 42, 180, 1, 19, 28, 46]
abbrev dktX0_givesTo_4 : List UInt8 := dkwX0_givesTo_4 ++ dktX0_givesTo_5
def dkwX0_givesTo_3 : List UInt8 := [50, 42, 180, 0, 19, 180, 0, 80, 29, 50, 180, 0, 49, 46, 18, 18, 160, 0, 6, 167, 0, 53, 28, 4]
abbrev dktX0_givesTo_3 : List UInt8 := dkwX0_givesTo_3 ++ dktX0_givesTo_4
def dkwX0_givesTo_2 : List UInt8 := [180, 0, 80, 29, 50, 198, 0, 91, 29, 42, 180, 0, 19, 182, 0, 55, 159, 0, 80, 42, 180, 0, 45, 27]
abbrev dktX0_givesTo_2 : List UInt8 := dkwX0_givesTo_2 ++ dktX0_givesTo_3
def dkwX0_givesTo_1 : List UInt8 := [79, 3, 62, 29, 16, 10, 162, 0, 118, 28, 29, 122, 4, 126, 4, 159, 0, 103, 42, 180, 0, 19]
abbrev dktX0_givesTo_1 : List UInt8 := dkwX0_givesTo_1 ++ dktX0_givesTo_2
def dkwX0_givesTo_0 : List UInt8 := [42, 180, 1, 22, 28, 42, 180, 1, 22, 28, 46, 42, 180, 1, 19, 28, 46, 17, 39, 16, 96, 184, 1, 147]
abbrev dktX0_givesTo_0 : List UInt8 := dkwX0_givesTo_0 ++ dktX0_givesTo_1
theorem dksX0_givesTo_0 : cX0_givesTo.data.toList.drop 0 = dktX0_givesTo_0 := by decide +kernel
theorem dksX0_givesTo_1 : cX0_givesTo.data.toList.drop 24 = dktX0_givesTo_1 := dk_seg dksX0_givesTo_0 24 rfl rfl
theorem dksX0_givesTo_2 : cX0_givesTo.data.toList.drop 46 = dktX0_givesTo_2 := dk_seg dksX0_givesTo_1 22 rfl rfl
theorem dksX0_givesTo_3 : cX0_givesTo.data.toList.drop 70 = dktX0_givesTo_3 := dk_seg dksX0_givesTo_2 24 rfl rfl
theorem dksX0_givesTo_4 : cX0_givesTo.data.toList.drop 94 = dktX0_givesTo_4 := dk_seg dksX0_givesTo_3 24 rfl rfl
theorem dksX0_givesTo_5 : cX0_givesTo.data.toList.drop 118 = dktX0_givesTo_5 := dk_seg dksX0_givesTo_4 24 rfl rfl
theorem dksX0_givesTo_6 : cX0_givesTo.data.toList.drop 142 = dktX0_givesTo_6 := dk_seg dksX0_givesTo_5 24 rfl rfl
theorem dX0_givesTo_0 : decode cX0_givesTo 0 = .ok (.aload_n 0, 1) := dk_42 (dk_at dksX0_givesTo_0 0 rfl rfl)
theorem dX0_givesTo_1 : decode cX0_givesTo 1 = .ok (.getfield 278, 3) := dk_180 1 22 (dk_at dksX0_givesTo_0 1 rfl rfl)
theorem dX0_givesTo_4 : decode cX0_givesTo 4 = .ok (.iload_n 2, 1) := dk_28 (dk_at dksX0_givesTo_0 4 rfl rfl)
theorem dX0_givesTo_5 : decode cX0_givesTo 5 = .ok (.aload_n 0, 1) := dk_42 (dk_at dksX0_givesTo_0 5 rfl rfl)
theorem dX0_givesTo_6 : decode cX0_givesTo 6 = .ok (.getfield 278, 3) := dk_180 1 22 (dk_at dksX0_givesTo_0 6 rfl rfl)
theorem dX0_givesTo_9 : decode cX0_givesTo 9 = .ok (.iload_n 2, 1) := dk_28 (dk_at dksX0_givesTo_0 9 rfl rfl)
theorem dX0_givesTo_10 : decode cX0_givesTo 10 = .ok (.iaload, 1) := dk_46 (dk_at dksX0_givesTo_0 10 rfl rfl)
theorem dX0_givesTo_11 : decode cX0_givesTo 11 = .ok (.aload_n 0, 1) := dk_42 (dk_at dksX0_givesTo_0 11 rfl rfl)
theorem dX0_givesTo_12 : decode cX0_givesTo 12 = .ok (.getfield 275, 3) := dk_180 1 19 (dk_at dksX0_givesTo_0 12 rfl rfl)
theorem dX0_givesTo_15 : decode cX0_givesTo 15 = .ok (.iload_n 2, 1) := dk_28 (dk_at dksX0_givesTo_0 15 rfl rfl)
theorem dX0_givesTo_16 : decode cX0_givesTo 16 = .ok (.iaload, 1) := dk_46 (dk_at dksX0_givesTo_0 16 rfl rfl)
theorem dX0_givesTo_17 : decode cX0_givesTo 17 = .ok (.sipush 10000, 3) := dk_17 39 16 (dk_at dksX0_givesTo_0 17 rfl rfl)
theorem dX0_givesTo_20 : decode cX0_givesTo 20 = .ok (.iadd, 1) := dk_96 (dk_at dksX0_givesTo_0 20 rfl rfl)
theorem dX0_givesTo_21 : decode cX0_givesTo 21 = .ok (.invokestatic 403, 3) := dk_184 1 147 (dk_at dksX0_givesTo_0 21 rfl rfl)
theorem dX0_givesTo_24 : decode cX0_givesTo 24 = .ok (.iastore, 1) := dk_79 (dk_at dksX0_givesTo_1 0 rfl rfl)
theorem dX0_givesTo_25 : decode cX0_givesTo 25 = .ok (.iconst 0, 1) := dk_3 (dk_at dksX0_givesTo_1 1 rfl rfl)
theorem dX0_givesTo_26 : decode cX0_givesTo 26 = .ok (.istore_n 3, 1) := dk_62 (dk_at dksX0_givesTo_1 2 rfl rfl)
theorem dX0_givesTo_27 : decode cX0_givesTo 27 = .ok (.iload_n 3, 1) := dk_29 (dk_at dksX0_givesTo_1 3 rfl rfl)
theorem dX0_givesTo_28 : decode cX0_givesTo 28 = .ok (.bipush 10, 2) := dk_16 10 (dk_at dksX0_givesTo_1 4 rfl rfl)
theorem dX0_givesTo_30 : decode cX0_givesTo 30 = .ok (.if_icmp .ge 118, 3) := dk_162 0 118 (dk_at dksX0_givesTo_1 6 rfl rfl)
theorem dX0_givesTo_33 : decode cX0_givesTo 33 = .ok (.iload_n 2, 1) := dk_28 (dk_at dksX0_givesTo_1 9 rfl rfl)
theorem dX0_givesTo_34 : decode cX0_givesTo 34 = .ok (.iload_n 3, 1) := dk_29 (dk_at dksX0_givesTo_1 10 rfl rfl)
theorem dX0_givesTo_35 : decode cX0_givesTo 35 = .ok (.ishr, 1) := dk_122 (dk_at dksX0_givesTo_1 11 rfl rfl)
theorem dX0_givesTo_36 : decode cX0_givesTo 36 = .ok (.iconst 1, 1) := dk_4 (dk_at dksX0_givesTo_1 12 rfl rfl)
theorem dX0_givesTo_37 : decode cX0_givesTo 37 = .ok (.iand, 1) := dk_126 (dk_at dksX0_givesTo_1 13 rfl rfl)
theorem dX0_givesTo_38 : decode cX0_givesTo 38 = .ok (.iconst 1, 1) := dk_4 (dk_at dksX0_givesTo_1 14 rfl rfl)
theorem dX0_givesTo_39 : decode cX0_givesTo 39 = .ok (.if_icmp .eq 103, 3) := dk_159 0 103 (dk_at dksX0_givesTo_1 15 rfl rfl)
theorem dX0_givesTo_42 : decode cX0_givesTo 42 = .ok (.aload_n 0, 1) := dk_42 (dk_at dksX0_givesTo_1 18 rfl rfl)
theorem dX0_givesTo_43 : decode cX0_givesTo 43 = .ok (.getfield 19, 3) := dk_180 0 19 (dk_at dksX0_givesTo_1 19 rfl rfl)
theorem dX0_givesTo_46 : decode cX0_givesTo 46 = .ok (.getfield 80, 3) := dk_180 0 80 (dk_at dksX0_givesTo_2 0 rfl rfl)
theorem dX0_givesTo_49 : decode cX0_givesTo 49 = .ok (.iload_n 3, 1) := dk_29 (dk_at dksX0_givesTo_2 3 rfl rfl)
theorem dX0_givesTo_50 : decode cX0_givesTo 50 = .ok (.aaload, 1) := dk_50 (dk_at dksX0_givesTo_2 4 rfl rfl)
theorem dX0_givesTo_51 : decode cX0_givesTo 51 = .ok (.ifnull 91, 3) := dk_198 0 91 (dk_at dksX0_givesTo_2 5 rfl rfl)
theorem dX0_givesTo_54 : decode cX0_givesTo 54 = .ok (.iload_n 3, 1) := dk_29 (dk_at dksX0_givesTo_2 8 rfl rfl)
theorem dX0_givesTo_55 : decode cX0_givesTo 55 = .ok (.aload_n 0, 1) := dk_42 (dk_at dksX0_givesTo_2 9 rfl rfl)
theorem dX0_givesTo_56 : decode cX0_givesTo 56 = .ok (.getfield 19, 3) := dk_180 0 19 (dk_at dksX0_givesTo_2 10 rfl rfl)
theorem dX0_givesTo_59 : decode cX0_givesTo 59 = .ok (.invokevirtual 55, 3) := dk_182 0 55 (dk_at dksX0_givesTo_2 13 rfl rfl)
theorem dX0_givesTo_62 : decode cX0_givesTo 62 = .ok (.if_icmp .eq 80, 3) := dk_159 0 80 (dk_at dksX0_givesTo_2 16 rfl rfl)
theorem dX0_givesTo_65 : decode cX0_givesTo 65 = .ok (.aload_n 0, 1) := dk_42 (dk_at dksX0_givesTo_2 19 rfl rfl)
theorem dX0_givesTo_66 : decode cX0_givesTo 66 = .ok (.getfield 45, 3) := dk_180 0 45 (dk_at dksX0_givesTo_2 20 rfl rfl)
theorem dX0_givesTo_69 : decode cX0_givesTo 69 = .ok (.iload_n 1, 1) := dk_27 (dk_at dksX0_givesTo_2 23 rfl rfl)
theorem dX0_givesTo_70 : decode cX0_givesTo 70 = .ok (.aaload, 1) := dk_50 (dk_at dksX0_givesTo_3 0 rfl rfl)
theorem dX0_givesTo_71 : decode cX0_givesTo 71 = .ok (.aload_n 0, 1) := dk_42 (dk_at dksX0_givesTo_3 1 rfl rfl)
theorem dX0_givesTo_72 : decode cX0_givesTo 72 = .ok (.getfield 19, 3) := dk_180 0 19 (dk_at dksX0_givesTo_3 2 rfl rfl)
theorem dX0_givesTo_75 : decode cX0_givesTo 75 = .ok (.getfield 80, 3) := dk_180 0 80 (dk_at dksX0_givesTo_3 5 rfl rfl)
theorem dX0_givesTo_78 : decode cX0_givesTo 78 = .ok (.iload_n 3, 1) := dk_29 (dk_at dksX0_givesTo_3 8 rfl rfl)
theorem dX0_givesTo_79 : decode cX0_givesTo 79 = .ok (.aaload, 1) := dk_50 (dk_at dksX0_givesTo_3 9 rfl rfl)
theorem dX0_givesTo_80 : decode cX0_givesTo 80 = .ok (.getfield 49, 3) := dk_180 0 49 (dk_at dksX0_givesTo_3 10 rfl rfl)
theorem dX0_givesTo_83 : decode cX0_givesTo 83 = .ok (.iaload, 1) := dk_46 (dk_at dksX0_givesTo_3 13 rfl rfl)
theorem dX0_givesTo_84 : decode cX0_givesTo 84 = .ok (.ldc 18, 2) := dk_18 18 (dk_at dksX0_givesTo_3 14 rfl rfl)
theorem dX0_givesTo_86 : decode cX0_givesTo 86 = .ok (.if_icmp .ne 6, 3) := dk_160 0 6 (dk_at dksX0_givesTo_3 16 rfl rfl)
theorem dX0_givesTo_89 : decode cX0_givesTo 89 = .ok (.goto 53, 3) := dk_167 0 53 (dk_at dksX0_givesTo_3 19 rfl rfl)
theorem dX0_givesTo_92 : decode cX0_givesTo 92 = .ok (.iload_n 2, 1) := dk_28 (dk_at dksX0_givesTo_3 22 rfl rfl)
theorem dX0_givesTo_93 : decode cX0_givesTo 93 = .ok (.iconst 1, 1) := dk_4 (dk_at dksX0_givesTo_3 23 rfl rfl)
theorem dX0_givesTo_94 : decode cX0_givesTo 94 = .ok (.iload_n 3, 1) := dk_29 (dk_at dksX0_givesTo_4 0 rfl rfl)
theorem dX0_givesTo_95 : decode cX0_givesTo 95 = .ok (.ishl, 1) := dk_120 (dk_at dksX0_givesTo_4 1 rfl rfl)
theorem dX0_givesTo_96 : decode cX0_givesTo 96 = .ok (.ior, 1) := dk_128 (dk_at dksX0_givesTo_4 2 rfl rfl)
theorem dX0_givesTo_97 : decode cX0_givesTo 97 = .ok (.istore 4, 2) := dk_54 4 (dk_at dksX0_givesTo_4 3 rfl rfl)
theorem dX0_givesTo_99 : decode cX0_givesTo 99 = .ok (.aload_n 0, 1) := dk_42 (dk_at dksX0_givesTo_4 5 rfl rfl)
theorem dX0_givesTo_100 : decode cX0_givesTo 100 = .ok (.getfield 278, 3) := dk_180 1 22 (dk_at dksX0_givesTo_4 6 rfl rfl)
theorem dX0_givesTo_103 : decode cX0_givesTo 103 = .ok (.iload 4, 2) := dk_21 4 (dk_at dksX0_givesTo_4 9 rfl rfl)
theorem dX0_givesTo_105 : decode cX0_givesTo 105 = .ok (.aload_n 0, 1) := dk_42 (dk_at dksX0_givesTo_4 11 rfl rfl)
theorem dX0_givesTo_106 : decode cX0_givesTo 106 = .ok (.getfield 278, 3) := dk_180 1 22 (dk_at dksX0_givesTo_4 12 rfl rfl)
theorem dX0_givesTo_109 : decode cX0_givesTo 109 = .ok (.iload 4, 2) := dk_21 4 (dk_at dksX0_givesTo_4 15 rfl rfl)
theorem dX0_givesTo_111 : decode cX0_givesTo 111 = .ok (.iaload, 1) := dk_46 (dk_at dksX0_givesTo_4 17 rfl rfl)
theorem dX0_givesTo_112 : decode cX0_givesTo 112 = .ok (.aload_n 0, 1) := dk_42 (dk_at dksX0_givesTo_4 18 rfl rfl)
theorem dX0_givesTo_113 : decode cX0_givesTo 113 = .ok (.getfield 275, 3) := dk_180 1 19 (dk_at dksX0_givesTo_4 19 rfl rfl)
theorem dX0_givesTo_116 : decode cX0_givesTo 116 = .ok (.iload_n 2, 1) := dk_28 (dk_at dksX0_givesTo_4 22 rfl rfl)
theorem dX0_givesTo_117 : decode cX0_givesTo 117 = .ok (.iaload, 1) := dk_46 (dk_at dksX0_givesTo_4 23 rfl rfl)
theorem dX0_givesTo_118 : decode cX0_givesTo 118 = .ok (.aload_n 0, 1) := dk_42 (dk_at dksX0_givesTo_5 0 rfl rfl)
theorem dX0_givesTo_119 : decode cX0_givesTo 119 = .ok (.getfield 45, 3) := dk_180 0 45 (dk_at dksX0_givesTo_5 1 rfl rfl)
theorem dX0_givesTo_122 : decode cX0_givesTo 122 = .ok (.iload_n 1, 1) := dk_27 (dk_at dksX0_givesTo_5 4 rfl rfl)
theorem dX0_givesTo_123 : decode cX0_givesTo 123 = .ok (.aaload, 1) := dk_50 (dk_at dksX0_givesTo_5 5 rfl rfl)
theorem dX0_givesTo_124 : decode cX0_givesTo 124 = .ok (.aload_n 0, 1) := dk_42 (dk_at dksX0_givesTo_5 6 rfl rfl)
theorem dX0_givesTo_125 : decode cX0_givesTo 125 = .ok (.getfield 19, 3) := dk_180 0 19 (dk_at dksX0_givesTo_5 7 rfl rfl)
theorem dX0_givesTo_128 : decode cX0_givesTo 128 = .ok (.getfield 80, 3) := dk_180 0 80 (dk_at dksX0_givesTo_5 10 rfl rfl)
theorem dX0_givesTo_131 : decode cX0_givesTo 131 = .ok (.iload_n 3, 1) := dk_29 (dk_at dksX0_givesTo_5 13 rfl rfl)
theorem dX0_givesTo_132 : decode cX0_givesTo 132 = .ok (.aaload, 1) := dk_50 (dk_at dksX0_givesTo_5 14 rfl rfl)
theorem dX0_givesTo_133 : decode cX0_givesTo 133 = .ok (.getfield 49, 3) := dk_180 0 49 (dk_at dksX0_givesTo_5 15 rfl rfl)
theorem dX0_givesTo_136 : decode cX0_givesTo 136 = .ok (.iaload, 1) := dk_46 (dk_at dksX0_givesTo_5 18 rfl rfl)
theorem dX0_givesTo_137 : decode cX0_givesTo 137 = .ok (.iadd, 1) := dk_96 (dk_at dksX0_givesTo_5 19 rfl rfl)
theorem dX0_givesTo_138 : decode cX0_givesTo 138 = .ok (.invokestatic 403, 3) := dk_184 1 147 (dk_at dksX0_givesTo_5 20 rfl rfl)
theorem dX0_givesTo_141 : decode cX0_givesTo 141 = .ok (.iastore, 1) := dk_79 (dk_at dksX0_givesTo_5 23 rfl rfl)
theorem dX0_givesTo_142 : decode cX0_givesTo 142 = .ok (.iinc 3 1, 3) := dk_132 3 1 (dk_at dksX0_givesTo_6 0 rfl rfl)
theorem dX0_givesTo_145 : decode cX0_givesTo 145 = .ok (.goto (-118), 3) := dk_167 255 138 (dk_at dksX0_givesTo_6 3 rfl rfl)
theorem dX0_givesTo_148 : decode cX0_givesTo 148 = .ok (.return_, 1) := dk_177 (dk_at dksX0_givesTo_6 6 rfl rfl)
abbrev cX0_account : ByteArray := prog_1_method_70_code
def yX0_account : MethodName := ⟨RX0, "account", "(I)I"⟩
def dkwX0_account_0 : List UInt8 := [27, 3, 16, 7, 184, 0, 3, 153, 0, 15, 42, 180, 0, 19, 180, 0, 141, 27, 46, 167, 0, 4, 2, 172]
abbrev dktX0_account_0 : List UInt8 := dkwX0_account_0 ++ []
theorem dksX0_account_0 : cX0_account.data.toList.drop 0 = dktX0_account_0 := by decide +kernel
theorem dX0_account_0 : decode cX0_account 0 = .ok (.iload_n 1, 1) := dk_27 (dk_at dksX0_account_0 0 rfl rfl)
theorem dX0_account_1 : decode cX0_account 1 = .ok (.iconst 0, 1) := dk_3 (dk_at dksX0_account_0 1 rfl rfl)
theorem dX0_account_2 : decode cX0_account 2 = .ok (.bipush 7, 2) := dk_16 7 (dk_at dksX0_account_0 2 rfl rfl)
theorem dX0_account_4 : decode cX0_account 4 = .ok (.invokestatic 3, 3) := dk_184 0 3 (dk_at dksX0_account_0 4 rfl rfl)
theorem dX0_account_7 : decode cX0_account 7 = .ok (.ifCond .eq 15, 3) := dk_153 0 15 (dk_at dksX0_account_0 7 rfl rfl)
theorem dX0_account_10 : decode cX0_account 10 = .ok (.aload_n 0, 1) := dk_42 (dk_at dksX0_account_0 10 rfl rfl)
theorem dX0_account_11 : decode cX0_account 11 = .ok (.getfield 19, 3) := dk_180 0 19 (dk_at dksX0_account_0 11 rfl rfl)
theorem dX0_account_14 : decode cX0_account 14 = .ok (.getfield 141, 3) := dk_180 0 141 (dk_at dksX0_account_0 14 rfl rfl)
theorem dX0_account_17 : decode cX0_account 17 = .ok (.iload_n 1, 1) := dk_27 (dk_at dksX0_account_0 17 rfl rfl)
theorem dX0_account_18 : decode cX0_account 18 = .ok (.iaload, 1) := dk_46 (dk_at dksX0_account_0 18 rfl rfl)
theorem dX0_account_19 : decode cX0_account 19 = .ok (.goto 4, 3) := dk_167 0 4 (dk_at dksX0_account_0 19 rfl rfl)
theorem dX0_account_22 : decode cX0_account 22 = .ok (.iconst (-1), 1) := dk_2 (dk_at dksX0_account_0 22 rfl rfl)
theorem dX0_account_23 : decode cX0_account 23 = .ok (.ireturn, 1) := dk_172 (dk_at dksX0_account_0 23 rfl rfl)
abbrev cX0_back : ByteArray := prog_1_method_71_code
def yX0_back : MethodName := ⟨RX0, "back", "()I"⟩
def dkwX0_back_1 : List UInt8 := [182, 0, 233, 4, 100, 182, 1, 28, 192, 0, 24, 181, 0, 19, 42, 180, 1, 3, 182, 0, 233, 172]
abbrev dktX0_back_1 : List UInt8 := dkwX0_back_1 ++ []
def dkwX0_back_0 : List UInt8 := [42, 180, 1, 3, 182, 1, 164, 153, 0, 6, 16, 253, 172, 42, 42, 180, 1, 3, 42, 180, 1, 3]
abbrev dktX0_back_0 : List UInt8 := dkwX0_back_0 ++ dktX0_back_1
theorem dksX0_back_0 : cX0_back.data.toList.drop 0 = dktX0_back_0 := by decide +kernel
theorem dksX0_back_1 : cX0_back.data.toList.drop 22 = dktX0_back_1 := dk_seg dksX0_back_0 22 rfl rfl
theorem dX0_back_0 : decode cX0_back 0 = .ok (.aload_n 0, 1) := dk_42 (dk_at dksX0_back_0 0 rfl rfl)
theorem dX0_back_1 : decode cX0_back 1 = .ok (.getfield 259, 3) := dk_180 1 3 (dk_at dksX0_back_0 1 rfl rfl)
theorem dX0_back_4 : decode cX0_back 4 = .ok (.invokevirtual 420, 3) := dk_182 1 164 (dk_at dksX0_back_0 4 rfl rfl)
theorem dX0_back_7 : decode cX0_back 7 = .ok (.ifCond .eq 6, 3) := dk_153 0 6 (dk_at dksX0_back_0 7 rfl rfl)
theorem dX0_back_10 : decode cX0_back 10 = .ok (.bipush (-3), 2) := dk_16 253 (dk_at dksX0_back_0 10 rfl rfl)
theorem dX0_back_12 : decode cX0_back 12 = .ok (.ireturn, 1) := dk_172 (dk_at dksX0_back_0 12 rfl rfl)
theorem dX0_back_13 : decode cX0_back 13 = .ok (.aload_n 0, 1) := dk_42 (dk_at dksX0_back_0 13 rfl rfl)
theorem dX0_back_14 : decode cX0_back 14 = .ok (.aload_n 0, 1) := dk_42 (dk_at dksX0_back_0 14 rfl rfl)
theorem dX0_back_15 : decode cX0_back 15 = .ok (.getfield 259, 3) := dk_180 1 3 (dk_at dksX0_back_0 15 rfl rfl)
theorem dX0_back_18 : decode cX0_back 18 = .ok (.aload_n 0, 1) := dk_42 (dk_at dksX0_back_0 18 rfl rfl)
theorem dX0_back_19 : decode cX0_back 19 = .ok (.getfield 259, 3) := dk_180 1 3 (dk_at dksX0_back_0 19 rfl rfl)
theorem dX0_back_22 : decode cX0_back 22 = .ok (.invokevirtual 233, 3) := dk_182 0 233 (dk_at dksX0_back_1 0 rfl rfl)
theorem dX0_back_25 : decode cX0_back 25 = .ok (.iconst 1, 1) := dk_4 (dk_at dksX0_back_1 3 rfl rfl)
theorem dX0_back_26 : decode cX0_back 26 = .ok (.isub, 1) := dk_100 (dk_at dksX0_back_1 4 rfl rfl)
theorem dX0_back_27 : decode cX0_back 27 = .ok (.invokevirtual 284, 3) := dk_182 1 28 (dk_at dksX0_back_1 5 rfl rfl)
theorem dX0_back_30 : decode cX0_back 30 = .ok (.checkcast 24, 3) := dk_192 0 24 (dk_at dksX0_back_1 8 rfl rfl)
theorem dX0_back_33 : decode cX0_back 33 = .ok (.putfield 19, 3) := dk_181 0 19 (dk_at dksX0_back_1 11 rfl rfl)
theorem dX0_back_36 : decode cX0_back 36 = .ok (.aload_n 0, 1) := dk_42 (dk_at dksX0_back_1 14 rfl rfl)
theorem dX0_back_37 : decode cX0_back 37 = .ok (.getfield 259, 3) := dk_180 1 3 (dk_at dksX0_back_1 15 rfl rfl)
theorem dX0_back_40 : decode cX0_back 40 = .ok (.invokevirtual 233, 3) := dk_182 0 233 (dk_at dksX0_back_1 18 rfl rfl)
theorem dX0_back_43 : decode cX0_back 43 = .ok (.ireturn, 1) := dk_172 (dk_at dksX0_back_1 21 rfl rfl)
abbrev cX0_image : ByteArray := prog_1_method_72_code
def yX0_image : MethodName := ⟨RX0, "image", "()I"⟩
def dkwX0_image_0 : List UInt8 := [42, 187, 0, 24, 89, 42, 180, 0, 19, 183, 1, 25, 181, 1, 165, 42, 180, 0, 19, 182, 1, 51, 172]
abbrev dktX0_image_0 : List UInt8 := dkwX0_image_0 ++ []
theorem dksX0_image_0 : cX0_image.data.toList.drop 0 = dktX0_image_0 := by decide +kernel
theorem dX0_image_0 : decode cX0_image 0 = .ok (.aload_n 0, 1) := dk_42 (dk_at dksX0_image_0 0 rfl rfl)
theorem dX0_image_1 : decode cX0_image 1 = .ok (.new 24, 3) := dk_187 0 24 (dk_at dksX0_image_0 1 rfl rfl)
theorem dX0_image_4 : decode cX0_image 4 = .ok (.dup, 1) := dk_89 (dk_at dksX0_image_0 4 rfl rfl)
theorem dX0_image_5 : decode cX0_image 5 = .ok (.aload_n 0, 1) := dk_42 (dk_at dksX0_image_0 5 rfl rfl)
theorem dX0_image_6 : decode cX0_image 6 = .ok (.getfield 19, 3) := dk_180 0 19 (dk_at dksX0_image_0 6 rfl rfl)
theorem dX0_image_9 : decode cX0_image 9 = .ok (.invokespecial 281, 3) := dk_183 1 25 (dk_at dksX0_image_0 9 rfl rfl)
theorem dX0_image_12 : decode cX0_image 12 = .ok (.putfield 421, 3) := dk_181 1 165 (dk_at dksX0_image_0 12 rfl rfl)
theorem dX0_image_15 : decode cX0_image 15 = .ok (.aload_n 0, 1) := dk_42 (dk_at dksX0_image_0 15 rfl rfl)
theorem dX0_image_16 : decode cX0_image 16 = .ok (.getfield 19, 3) := dk_180 0 19 (dk_at dksX0_image_0 16 rfl rfl)
theorem dX0_image_19 : decode cX0_image 19 = .ok (.invokevirtual 307, 3) := dk_182 1 51 (dk_at dksX0_image_0 19 rfl rfl)
theorem dX0_image_22 : decode cX0_image 22 = .ok (.ireturn, 1) := dk_172 (dk_at dksX0_image_0 22 rfl rfl)
abbrev cX0_undo : ByteArray := prog_1_method_73_code
def yX0_undo : MethodName := ⟨RX0, "undo", "()I"⟩
def dkwX0_undo_1 : List UInt8 := [181, 0, 19, 42, 180, 1, 3, 182, 0, 219, 42, 180, 0, 19, 182, 1, 51, 172]
abbrev dktX0_undo_1 : List UInt8 := dkwX0_undo_1 ++ []
def dkwX0_undo_0 : List UInt8 := [42, 180, 1, 165, 199, 0, 6, 16, 253, 172, 42, 187, 0, 24, 89, 42, 180, 1, 165, 183, 1, 25]
abbrev dktX0_undo_0 : List UInt8 := dkwX0_undo_0 ++ dktX0_undo_1
theorem dksX0_undo_0 : cX0_undo.data.toList.drop 0 = dktX0_undo_0 := by decide +kernel
theorem dksX0_undo_1 : cX0_undo.data.toList.drop 22 = dktX0_undo_1 := dk_seg dksX0_undo_0 22 rfl rfl
theorem dX0_undo_0 : decode cX0_undo 0 = .ok (.aload_n 0, 1) := dk_42 (dk_at dksX0_undo_0 0 rfl rfl)
theorem dX0_undo_1 : decode cX0_undo 1 = .ok (.getfield 421, 3) := dk_180 1 165 (dk_at dksX0_undo_0 1 rfl rfl)
theorem dX0_undo_4 : decode cX0_undo 4 = .ok (.ifnonnull 6, 3) := dk_199 0 6 (dk_at dksX0_undo_0 4 rfl rfl)
theorem dX0_undo_7 : decode cX0_undo 7 = .ok (.bipush (-3), 2) := dk_16 253 (dk_at dksX0_undo_0 7 rfl rfl)
theorem dX0_undo_9 : decode cX0_undo 9 = .ok (.ireturn, 1) := dk_172 (dk_at dksX0_undo_0 9 rfl rfl)
theorem dX0_undo_10 : decode cX0_undo 10 = .ok (.aload_n 0, 1) := dk_42 (dk_at dksX0_undo_0 10 rfl rfl)
theorem dX0_undo_11 : decode cX0_undo 11 = .ok (.new 24, 3) := dk_187 0 24 (dk_at dksX0_undo_0 11 rfl rfl)
theorem dX0_undo_14 : decode cX0_undo 14 = .ok (.dup, 1) := dk_89 (dk_at dksX0_undo_0 14 rfl rfl)
theorem dX0_undo_15 : decode cX0_undo 15 = .ok (.aload_n 0, 1) := dk_42 (dk_at dksX0_undo_0 15 rfl rfl)
theorem dX0_undo_16 : decode cX0_undo 16 = .ok (.getfield 421, 3) := dk_180 1 165 (dk_at dksX0_undo_0 16 rfl rfl)
theorem dX0_undo_19 : decode cX0_undo 19 = .ok (.invokespecial 281, 3) := dk_183 1 25 (dk_at dksX0_undo_0 19 rfl rfl)
theorem dX0_undo_22 : decode cX0_undo 22 = .ok (.putfield 19, 3) := dk_181 0 19 (dk_at dksX0_undo_1 0 rfl rfl)
theorem dX0_undo_25 : decode cX0_undo 25 = .ok (.aload_n 0, 1) := dk_42 (dk_at dksX0_undo_1 3 rfl rfl)
theorem dX0_undo_26 : decode cX0_undo 26 = .ok (.getfield 259, 3) := dk_180 1 3 (dk_at dksX0_undo_1 4 rfl rfl)
theorem dX0_undo_29 : decode cX0_undo 29 = .ok (.invokevirtual 219, 3) := dk_182 0 219 (dk_at dksX0_undo_1 7 rfl rfl)
theorem dX0_undo_32 : decode cX0_undo 32 = .ok (.aload_n 0, 1) := dk_42 (dk_at dksX0_undo_1 10 rfl rfl)
theorem dX0_undo_33 : decode cX0_undo 33 = .ok (.getfield 19, 3) := dk_180 0 19 (dk_at dksX0_undo_1 11 rfl rfl)
theorem dX0_undo_36 : decode cX0_undo 36 = .ok (.invokevirtual 307, 3) := dk_182 1 51 (dk_at dksX0_undo_1 14 rfl rfl)
theorem dX0_undo_39 : decode cX0_undo 39 = .ok (.ireturn, 1) := dk_172 (dk_at dksX0_undo_1 17 rfl rfl)
abbrev cX0_count : ByteArray := prog_1_method_75_code
def yX0_count : MethodName := ⟨RX0, "count", "(I)I"⟩
def dkwX0_count_1 : List UInt8 := [167, 0, 16, 27, 5, 160, 0, 10, 42, 182, 1, 168, 167, 0, 4, 2, 172]
abbrev dktX0_count_1 : List UInt8 := dkwX0_count_1 ++ []
def dkwX0_count_0 : List UInt8 := [27, 154, 0, 10, 42, 180, 1, 66, 167, 0, 31, 27, 4, 160, 0, 13, 42, 180, 1, 3, 182, 0, 233]
abbrev dktX0_count_0 : List UInt8 := dkwX0_count_0 ++ dktX0_count_1
theorem dksX0_count_0 : cX0_count.data.toList.drop 0 = dktX0_count_0 := by decide +kernel
theorem dksX0_count_1 : cX0_count.data.toList.drop 23 = dktX0_count_1 := dk_seg dksX0_count_0 23 rfl rfl
theorem dX0_count_0 : decode cX0_count 0 = .ok (.iload_n 1, 1) := dk_27 (dk_at dksX0_count_0 0 rfl rfl)
theorem dX0_count_1 : decode cX0_count 1 = .ok (.ifCond .ne 10, 3) := dk_154 0 10 (dk_at dksX0_count_0 1 rfl rfl)
theorem dX0_count_4 : decode cX0_count 4 = .ok (.aload_n 0, 1) := dk_42 (dk_at dksX0_count_0 4 rfl rfl)
theorem dX0_count_5 : decode cX0_count 5 = .ok (.getfield 322, 3) := dk_180 1 66 (dk_at dksX0_count_0 5 rfl rfl)
theorem dX0_count_8 : decode cX0_count 8 = .ok (.goto 31, 3) := dk_167 0 31 (dk_at dksX0_count_0 8 rfl rfl)
theorem dX0_count_11 : decode cX0_count 11 = .ok (.iload_n 1, 1) := dk_27 (dk_at dksX0_count_0 11 rfl rfl)
theorem dX0_count_12 : decode cX0_count 12 = .ok (.iconst 1, 1) := dk_4 (dk_at dksX0_count_0 12 rfl rfl)
theorem dX0_count_13 : decode cX0_count 13 = .ok (.if_icmp .ne 13, 3) := dk_160 0 13 (dk_at dksX0_count_0 13 rfl rfl)
theorem dX0_count_16 : decode cX0_count 16 = .ok (.aload_n 0, 1) := dk_42 (dk_at dksX0_count_0 16 rfl rfl)
theorem dX0_count_17 : decode cX0_count 17 = .ok (.getfield 259, 3) := dk_180 1 3 (dk_at dksX0_count_0 17 rfl rfl)
theorem dX0_count_20 : decode cX0_count 20 = .ok (.invokevirtual 233, 3) := dk_182 0 233 (dk_at dksX0_count_0 20 rfl rfl)
theorem dX0_count_23 : decode cX0_count 23 = .ok (.goto 16, 3) := dk_167 0 16 (dk_at dksX0_count_1 0 rfl rfl)
theorem dX0_count_26 : decode cX0_count 26 = .ok (.iload_n 1, 1) := dk_27 (dk_at dksX0_count_1 3 rfl rfl)
theorem dX0_count_27 : decode cX0_count 27 = .ok (.iconst 2, 1) := dk_5 (dk_at dksX0_count_1 4 rfl rfl)
theorem dX0_count_28 : decode cX0_count 28 = .ok (.if_icmp .ne 10, 3) := dk_160 0 10 (dk_at dksX0_count_1 5 rfl rfl)
theorem dX0_count_31 : decode cX0_count 31 = .ok (.aload_n 0, 1) := dk_42 (dk_at dksX0_count_1 8 rfl rfl)
theorem dX0_count_32 : decode cX0_count 32 = .ok (.invokevirtual 424, 3) := dk_182 1 168 (dk_at dksX0_count_1 9 rfl rfl)
theorem dX0_count_35 : decode cX0_count 35 = .ok (.goto 4, 3) := dk_167 0 4 (dk_at dksX0_count_1 12 rfl rfl)
theorem dX0_count_38 : decode cX0_count 38 = .ok (.iconst (-1), 1) := dk_2 (dk_at dksX0_count_1 15 rfl rfl)
theorem dX0_count_39 : decode cX0_count 39 = .ok (.ireturn, 1) := dk_172 (dk_at dksX0_count_1 16 rfl rfl)
abbrev cX0_shapes : ByteArray := prog_1_method_74_code
def yX0_shapes : MethodName := ⟨RX0, "shapes", "()I"⟩
def dkwX0_shapes_1 : List UInt8 := [167, 0, 4, 3, 184, 0, 112, 28, 120, 128, 60, 132, 2, 1, 167, 255, 223, 27, 172]
abbrev dktX0_shapes_1 : List UInt8 := dkwX0_shapes_1 ++ []
def dkwX0_shapes_0 : List UInt8 := [3, 60, 3, 61, 28, 6, 162, 0, 34, 27, 42, 180, 0, 19, 180, 0, 59, 28, 50, 198, 0, 7, 4]
abbrev dktX0_shapes_0 : List UInt8 := dkwX0_shapes_0 ++ dktX0_shapes_1
theorem dksX0_shapes_0 : cX0_shapes.data.toList.drop 0 = dktX0_shapes_0 := by decide +kernel
theorem dksX0_shapes_1 : cX0_shapes.data.toList.drop 23 = dktX0_shapes_1 := dk_seg dksX0_shapes_0 23 rfl rfl
theorem dX0_shapes_0 : decode cX0_shapes 0 = .ok (.iconst 0, 1) := dk_3 (dk_at dksX0_shapes_0 0 rfl rfl)
theorem dX0_shapes_1 : decode cX0_shapes 1 = .ok (.istore_n 1, 1) := dk_60 (dk_at dksX0_shapes_0 1 rfl rfl)
theorem dX0_shapes_2 : decode cX0_shapes 2 = .ok (.iconst 0, 1) := dk_3 (dk_at dksX0_shapes_0 2 rfl rfl)
theorem dX0_shapes_3 : decode cX0_shapes 3 = .ok (.istore_n 2, 1) := dk_61 (dk_at dksX0_shapes_0 3 rfl rfl)
theorem dX0_shapes_4 : decode cX0_shapes 4 = .ok (.iload_n 2, 1) := dk_28 (dk_at dksX0_shapes_0 4 rfl rfl)
theorem dX0_shapes_5 : decode cX0_shapes 5 = .ok (.iconst 3, 1) := dk_6 (dk_at dksX0_shapes_0 5 rfl rfl)
theorem dX0_shapes_6 : decode cX0_shapes 6 = .ok (.if_icmp .ge 34, 3) := dk_162 0 34 (dk_at dksX0_shapes_0 6 rfl rfl)
theorem dX0_shapes_9 : decode cX0_shapes 9 = .ok (.iload_n 1, 1) := dk_27 (dk_at dksX0_shapes_0 9 rfl rfl)
theorem dX0_shapes_10 : decode cX0_shapes 10 = .ok (.aload_n 0, 1) := dk_42 (dk_at dksX0_shapes_0 10 rfl rfl)
theorem dX0_shapes_11 : decode cX0_shapes 11 = .ok (.getfield 19, 3) := dk_180 0 19 (dk_at dksX0_shapes_0 11 rfl rfl)
theorem dX0_shapes_14 : decode cX0_shapes 14 = .ok (.getfield 59, 3) := dk_180 0 59 (dk_at dksX0_shapes_0 14 rfl rfl)
theorem dX0_shapes_17 : decode cX0_shapes 17 = .ok (.iload_n 2, 1) := dk_28 (dk_at dksX0_shapes_0 17 rfl rfl)
theorem dX0_shapes_18 : decode cX0_shapes 18 = .ok (.aaload, 1) := dk_50 (dk_at dksX0_shapes_0 18 rfl rfl)
theorem dX0_shapes_19 : decode cX0_shapes 19 = .ok (.ifnull 7, 3) := dk_198 0 7 (dk_at dksX0_shapes_0 19 rfl rfl)
theorem dX0_shapes_22 : decode cX0_shapes 22 = .ok (.iconst 1, 1) := dk_4 (dk_at dksX0_shapes_0 22 rfl rfl)
theorem dX0_shapes_23 : decode cX0_shapes 23 = .ok (.goto 4, 3) := dk_167 0 4 (dk_at dksX0_shapes_1 0 rfl rfl)
theorem dX0_shapes_26 : decode cX0_shapes 26 = .ok (.iconst 0, 1) := dk_3 (dk_at dksX0_shapes_1 3 rfl rfl)
theorem dX0_shapes_27 : decode cX0_shapes 27 = .ok (.invokestatic 112, 3) := dk_184 0 112 (dk_at dksX0_shapes_1 4 rfl rfl)
theorem dX0_shapes_30 : decode cX0_shapes 30 = .ok (.iload_n 2, 1) := dk_28 (dk_at dksX0_shapes_1 7 rfl rfl)
theorem dX0_shapes_31 : decode cX0_shapes 31 = .ok (.ishl, 1) := dk_120 (dk_at dksX0_shapes_1 8 rfl rfl)
theorem dX0_shapes_32 : decode cX0_shapes 32 = .ok (.ior, 1) := dk_128 (dk_at dksX0_shapes_1 9 rfl rfl)
theorem dX0_shapes_33 : decode cX0_shapes 33 = .ok (.istore_n 1, 1) := dk_60 (dk_at dksX0_shapes_1 10 rfl rfl)
theorem dX0_shapes_34 : decode cX0_shapes 34 = .ok (.iinc 2 1, 3) := dk_132 2 1 (dk_at dksX0_shapes_1 11 rfl rfl)
theorem dX0_shapes_37 : decode cX0_shapes 37 = .ok (.goto (-33), 3) := dk_167 255 223 (dk_at dksX0_shapes_1 14 rfl rfl)
theorem dX0_shapes_40 : decode cX0_shapes 40 = .ok (.iload_n 1, 1) := dk_27 (dk_at dksX0_shapes_1 17 rfl rfl)
theorem dX0_shapes_41 : decode cX0_shapes 41 = .ok (.ireturn, 1) := dk_172 (dk_at dksX0_shapes_1 18 rfl rfl)
theorem q104 : (Jvm.Cond.initialized "SwarmPlanner") ∈ lw_all := lw_g (lw_at lw_m1 1 rfl) rfl
theorem q128 : (Jvm.Cond.instantiable "SwarmPlanner" (21 : Nat)) ∈ lw_all := lw_g (lw_at lw_m1 25 rfl) rfl
theorem q130 : (Jvm.Cond.instanceMethod ({ cls := "SwarmPlanner", name := "<init>", desc := "()V" } : Jvm.MethodName)) ∈ lw_all := lw_g (lw_at lw_m1 27 rfl) rfl
theorem q131 : (Jvm.Cond.code ({ cls := "SwarmPlanner", name := "<init>", desc := "()V" } : Jvm.MethodName) prog_1_method_30_code (1 : Nat) (Option.none : Option Jvm.ClassFile.FieldType)) ∈ lw_all := lw_g (lw_at lw_m1 28 rfl) rfl
theorem q132 : (Jvm.Cond.methodLink "SwarmPlanner" (241 : Nat) ({ cls := "java/lang/Object", name := "<init>", desc := "()V" } : Jvm.MethodName)) ∈ lw_all := lw_g (lw_at lw_m1 29 rfl) rfl
theorem q135 : (Jvm.Cond.classLink "SwarmPlanner" (24 : Nat) "SwarmPlanner$World") ∈ lw_all := lw_g (lw_at lw_m1 32 rfl) rfl
theorem q137 : (Jvm.Cond.methodLink "SwarmPlanner" (245 : Nat) ({ cls := "SwarmPlanner$World", name := "<init>", desc := "()V" } : Jvm.MethodName)) ∈ lw_all := lw_g (lw_at lw_m1 34 rfl) rfl
theorem q146 : (Jvm.Cond.fieldLinkNest "SwarmPlanner" (23 : Nat) "SwarmPlanner$World" "isObstacle" "[Z" "SwarmPlanner") ∈ lw_tbl := lw_at lw_m1 43 rfl
theorem q149 : (Jvm.Cond.fieldLinkNest "SwarmPlanner" (150 : Nat) "SwarmPlanner$World" "memberAt" "[I" "SwarmPlanner") ∈ lw_tbl := lw_at lw_m1 46 rfl
theorem q151 : (Jvm.Cond.fieldLinkNest "SwarmPlanner" (80 : Nat) "SwarmPlanner$World" "members" "[LSwarmPlanner$Member;" "SwarmPlanner") ∈ lw_tbl := lw_at lw_m1 48 rfl
theorem q153 : (Jvm.Cond.fieldLinkNest "SwarmPlanner" (59 : Nat) "SwarmPlanner$World" "shapes" "[LSwarmPlanner$Shape;" "SwarmPlanner") ∈ lw_tbl := lw_at lw_m1 50 rfl
theorem q155 : (Jvm.Cond.fieldLinkNest "SwarmPlanner" (141 : Nat) "SwarmPlanner$World" "accounts" "[I" "SwarmPlanner") ∈ lw_tbl := lw_at lw_m1 52 rfl
theorem q158 : (Jvm.Cond.fieldLinkNest "SwarmPlanner" (310 : Nat) "SwarmPlanner$World" "leader" "I" "SwarmPlanner") ∈ lw_tbl := lw_at lw_m1 55 rfl
theorem q161 : (Jvm.Cond.fieldLinkNest "SwarmPlanner" (144 : Nat) "SwarmPlanner$World" "target" "I" "SwarmPlanner") ∈ lw_tbl := lw_at lw_m1 58 rfl
theorem q163 : (Jvm.Cond.fieldLinkNest "SwarmPlanner" (63 : Nat) "SwarmPlanner$World" "shape" "I" "SwarmPlanner") ∈ lw_tbl := lw_at lw_m1 60 rfl
theorem q183 : (Jvm.Cond.classLink "SwarmPlanner" (246 : Nat) "[[I") ∈ lw_all := lw_g (lw_at lw_m1 80 rfl) rfl
theorem q185 : (Jvm.Cond.classLink "SwarmPlanner" (220 : Nat) "java/util/ArrayList") ∈ lw_all := lw_g (lw_at lw_m1 82 rfl) rfl
theorem q187 : (Jvm.Cond.methodLink "SwarmPlanner" (253 : Nat) ({ cls := "java/util/ArrayList", name := "<init>", desc := "()V" } : Jvm.MethodName)) ∈ lw_all := lw_g (lw_at lw_m1 84 rfl) rfl
theorem q211 : (Jvm.Cond.classLink "SwarmPlanner" (254 : Nat) "SwarmPlanner$ByDistance") ∈ lw_all := lw_g (lw_at lw_m1 108 rfl) rfl
theorem q213 : (Jvm.Cond.methodLinkNest "SwarmPlanner" (256 : Nat) ({ cls := "SwarmPlanner$ByDistance", name := "<init>", desc := "(LSwarmPlanner;)V" } : Jvm.MethodName) "SwarmPlanner") ∈ lw_tbl := lw_at lw_m1 110 rfl
theorem q221 : (Jvm.Cond.fieldLink "SwarmPlanner" (29 : Nat) "SwarmPlanner" "queue" "[I") ∈ lw_all := lw_g (lw_at lw_m1 118 rfl) rfl
theorem q223 : (Jvm.Cond.fieldLink "SwarmPlanner" (19 : Nat) "SwarmPlanner" "now" "LSwarmPlanner$World;") ∈ lw_all := lw_g (lw_at lw_m1 120 rfl) rfl
theorem q225 : (Jvm.Cond.fieldLink "SwarmPlanner" (247 : Nat) "SwarmPlanner" "sums" "[[I") ∈ lw_all := lw_g (lw_at lw_m1 122 rfl) rfl
theorem q226 : (Jvm.Cond.fieldLink "SwarmPlanner" (42 : Nat) "SwarmPlanner" "places" "[I") ∈ lw_all := lw_g (lw_at lw_m1 123 rfl) rfl
theorem q228 : (Jvm.Cond.fieldLink "SwarmPlanner" (45 : Nat) "SwarmPlanner" "fromPlace" "[[I") ∈ lw_all := lw_g (lw_at lw_m1 125 rfl) rfl
theorem q230 : (Jvm.Cond.fieldLink "SwarmPlanner" (98 : Nat) "SwarmPlanner" "slotOf" "[I") ∈ lw_all := lw_g (lw_at lw_m1 127 rfl) rfl
theorem q232 : (Jvm.Cond.fieldLink "SwarmPlanner" (71 : Nat) "SwarmPlanner" "slotMany" "I") ∈ lw_all := lw_g (lw_at lw_m1 129 rfl) rfl
theorem q233 : (Jvm.Cond.fieldLink "SwarmPlanner" (74 : Nat) "SwarmPlanner" "open" "I") ∈ lw_all := lw_g (lw_at lw_m1 130 rfl) rfl
theorem q234 : (Jvm.Cond.fieldLink "SwarmPlanner" (147 : Nat) "SwarmPlanner" "fromTarget" "[I") ∈ lw_all := lw_g (lw_at lw_m1 131 rfl) rfl
theorem q235 : (Jvm.Cond.fieldLink "SwarmPlanner" (250 : Nat) "SwarmPlanner" "hasActed" "[Z") ∈ lw_all := lw_g (lw_at lw_m1 132 rfl) rfl
theorem q236 : (Jvm.Cond.fieldLink "SwarmPlanner" (215 : Nat) "SwarmPlanner" "turns" "Ljava/util/ArrayList;") ∈ lw_all := lw_g (lw_at lw_m1 133 rfl) rfl
theorem q237 : (Jvm.Cond.fieldLink "SwarmPlanner" (201 : Nat) "SwarmPlanner" "byDistance" "Ljava/util/Comparator;") ∈ lw_all := lw_g (lw_at lw_m1 134 rfl) rfl
theorem q238 : (Jvm.Cond.fieldLink "SwarmPlanner" (259 : Nat) "SwarmPlanner" "kept" "Ljava/util/ArrayList;") ∈ lw_all := lw_g (lw_at lw_m1 135 rfl) rfl
theorem q240 : (Jvm.Cond.fieldLink "SwarmPlanner" (262 : Nat) "SwarmPlanner" "tape" "[B") ∈ lw_all := lw_g (lw_at lw_m1 137 rfl) rfl
theorem q242 : (Jvm.Cond.fieldLink "SwarmPlanner" (322 : Nat) "SwarmPlanner" "taped" "I") ∈ lw_all := lw_g (lw_at lw_m1 139 rfl) rfl
theorem q243 : (Jvm.Cond.fieldLink "SwarmPlanner" (266 : Nat) "SwarmPlanner" "cellsWere" "[I") ∈ lw_all := lw_g (lw_at lw_m1 140 rfl) rfl
theorem q244 : (Jvm.Cond.fieldLink "SwarmPlanner" (269 : Nat) "SwarmPlanner" "refusedReason" "I") ∈ lw_all := lw_g (lw_at lw_m1 141 rfl) rfl
theorem q245 : (Jvm.Cond.fieldLink "SwarmPlanner" (272 : Nat) "SwarmPlanner" "refusedCommand" "I") ∈ lw_all := lw_g (lw_at lw_m1 142 rfl) rfl
theorem q246 : (Jvm.Cond.fieldLink "SwarmPlanner" (275 : Nat) "SwarmPlanner" "bySlots" "[I") ∈ lw_all := lw_g (lw_at lw_m1 143 rfl) rfl
theorem q247 : (Jvm.Cond.fieldLink "SwarmPlanner" (278 : Nat) "SwarmPlanner" "bySlotsThen" "[I") ∈ lw_all := lw_g (lw_at lw_m1 144 rfl) rfl
theorem q248 : (Jvm.Cond.fieldLink "SwarmPlanner" (421 : Nat) "SwarmPlanner" "image" "LSwarmPlanner$World;") ∈ lw_all := lw_g (lw_at lw_m1 145 rfl) rfl
theorem q249 : (Jvm.Cond.laysFinal "SwarmPlanner" "SwarmPlanner" "queue" "[I") ∈ lw_all := lw_g (lw_at lw_m1 146 rfl) rfl
theorem q250 : (Jvm.Cond.soleField "SwarmPlanner" "queue") ∈ lw_all := lw_g (lw_at lw_m1 147 rfl) rfl
theorem q251 : (Jvm.Cond.lays "SwarmPlanner" "SwarmPlanner" "now" "LSwarmPlanner$World;") ∈ lw_all := lw_g (lw_at lw_m1 148 rfl) rfl
theorem q252 : (Jvm.Cond.soleField "SwarmPlanner" "now") ∈ lw_all := lw_g (lw_at lw_m1 149 rfl) rfl
theorem q253 : (Jvm.Cond.laysFinal "SwarmPlanner" "SwarmPlanner" "sums" "[[I") ∈ lw_all := lw_g (lw_at lw_m1 150 rfl) rfl
theorem q254 : (Jvm.Cond.soleField "SwarmPlanner" "sums") ∈ lw_all := lw_g (lw_at lw_m1 151 rfl) rfl
theorem q255 : (Jvm.Cond.laysFinal "SwarmPlanner" "SwarmPlanner" "places" "[I") ∈ lw_all := lw_g (lw_at lw_m1 152 rfl) rfl
theorem q256 : (Jvm.Cond.soleField "SwarmPlanner" "places") ∈ lw_all := lw_g (lw_at lw_m1 153 rfl) rfl
theorem q257 : (Jvm.Cond.laysFinal "SwarmPlanner" "SwarmPlanner" "fromPlace" "[[I") ∈ lw_all := lw_g (lw_at lw_m1 154 rfl) rfl
theorem q258 : (Jvm.Cond.soleField "SwarmPlanner" "fromPlace") ∈ lw_all := lw_g (lw_at lw_m1 155 rfl) rfl
theorem q259 : (Jvm.Cond.laysFinal "SwarmPlanner" "SwarmPlanner" "slotOf" "[I") ∈ lw_all := lw_g (lw_at lw_m1 156 rfl) rfl
theorem q260 : (Jvm.Cond.soleField "SwarmPlanner" "slotOf") ∈ lw_all := lw_g (lw_at lw_m1 157 rfl) rfl
theorem q261 : (Jvm.Cond.lays "SwarmPlanner" "SwarmPlanner" "slotMany" "I") ∈ lw_all := lw_g (lw_at lw_m1 158 rfl) rfl
theorem q262 : (Jvm.Cond.soleField "SwarmPlanner" "slotMany") ∈ lw_all := lw_g (lw_at lw_m1 159 rfl) rfl
theorem q263 : (Jvm.Cond.lays "SwarmPlanner" "SwarmPlanner" "open" "I") ∈ lw_all := lw_g (lw_at lw_m1 160 rfl) rfl
theorem q264 : (Jvm.Cond.soleField "SwarmPlanner" "open") ∈ lw_all := lw_g (lw_at lw_m1 161 rfl) rfl
theorem q265 : (Jvm.Cond.laysFinal "SwarmPlanner" "SwarmPlanner" "fromTarget" "[I") ∈ lw_all := lw_g (lw_at lw_m1 162 rfl) rfl
theorem q266 : (Jvm.Cond.soleField "SwarmPlanner" "fromTarget") ∈ lw_all := lw_g (lw_at lw_m1 163 rfl) rfl
theorem q267 : (Jvm.Cond.laysFinal "SwarmPlanner" "SwarmPlanner" "hasActed" "[Z") ∈ lw_all := lw_g (lw_at lw_m1 164 rfl) rfl
theorem q268 : (Jvm.Cond.soleField "SwarmPlanner" "hasActed") ∈ lw_all := lw_g (lw_at lw_m1 165 rfl) rfl
theorem q269 : (Jvm.Cond.laysFinal "SwarmPlanner" "SwarmPlanner" "turns" "Ljava/util/ArrayList;") ∈ lw_all := lw_g (lw_at lw_m1 166 rfl) rfl
theorem q270 : (Jvm.Cond.soleField "SwarmPlanner" "turns") ∈ lw_all := lw_g (lw_at lw_m1 167 rfl) rfl
theorem q271 : (Jvm.Cond.laysFinal "SwarmPlanner" "SwarmPlanner" "byDistance" "Ljava/util/Comparator;") ∈ lw_all := lw_g (lw_at lw_m1 168 rfl) rfl
theorem q272 : (Jvm.Cond.soleField "SwarmPlanner" "byDistance") ∈ lw_all := lw_g (lw_at lw_m1 169 rfl) rfl
theorem q273 : (Jvm.Cond.laysFinal "SwarmPlanner" "SwarmPlanner" "kept" "Ljava/util/ArrayList;") ∈ lw_all := lw_g (lw_at lw_m1 170 rfl) rfl
theorem q274 : (Jvm.Cond.soleField "SwarmPlanner" "kept") ∈ lw_all := lw_g (lw_at lw_m1 171 rfl) rfl
theorem q275 : (Jvm.Cond.laysFinal "SwarmPlanner" "SwarmPlanner" "tape" "[B") ∈ lw_all := lw_g (lw_at lw_m1 172 rfl) rfl
theorem q276 : (Jvm.Cond.soleField "SwarmPlanner" "tape") ∈ lw_all := lw_g (lw_at lw_m1 173 rfl) rfl
theorem q277 : (Jvm.Cond.lays "SwarmPlanner" "SwarmPlanner" "taped" "I") ∈ lw_all := lw_g (lw_at lw_m1 174 rfl) rfl
theorem q278 : (Jvm.Cond.soleField "SwarmPlanner" "taped") ∈ lw_all := lw_g (lw_at lw_m1 175 rfl) rfl
theorem q279 : (Jvm.Cond.laysFinal "SwarmPlanner" "SwarmPlanner" "cellsWere" "[I") ∈ lw_all := lw_g (lw_at lw_m1 176 rfl) rfl
theorem q280 : (Jvm.Cond.soleField "SwarmPlanner" "cellsWere") ∈ lw_all := lw_g (lw_at lw_m1 177 rfl) rfl
theorem q281 : (Jvm.Cond.lays "SwarmPlanner" "SwarmPlanner" "refusedReason" "I") ∈ lw_all := lw_g (lw_at lw_m1 178 rfl) rfl
theorem q282 : (Jvm.Cond.soleField "SwarmPlanner" "refusedReason") ∈ lw_all := lw_g (lw_at lw_m1 179 rfl) rfl
theorem q283 : (Jvm.Cond.lays "SwarmPlanner" "SwarmPlanner" "refusedCommand" "I") ∈ lw_all := lw_g (lw_at lw_m1 180 rfl) rfl
theorem q284 : (Jvm.Cond.soleField "SwarmPlanner" "refusedCommand") ∈ lw_all := lw_g (lw_at lw_m1 181 rfl) rfl
theorem q285 : (Jvm.Cond.laysFinal "SwarmPlanner" "SwarmPlanner" "bySlots" "[I") ∈ lw_all := lw_g (lw_at lw_m1 182 rfl) rfl
theorem q286 : (Jvm.Cond.soleField "SwarmPlanner" "bySlots") ∈ lw_all := lw_g (lw_at lw_m1 183 rfl) rfl
theorem q287 : (Jvm.Cond.laysFinal "SwarmPlanner" "SwarmPlanner" "bySlotsThen" "[I") ∈ lw_all := lw_g (lw_at lw_m1 184 rfl) rfl
theorem q288 : (Jvm.Cond.soleField "SwarmPlanner" "bySlotsThen") ∈ lw_all := lw_g (lw_at lw_m1 185 rfl) rfl
theorem q289 : (Jvm.Cond.lays "SwarmPlanner" "SwarmPlanner" "image" "LSwarmPlanner$World;") ∈ lw_all := lw_g (lw_at lw_m1 186 rfl) rfl
theorem q290 : (Jvm.Cond.soleField "SwarmPlanner" "image") ∈ lw_all := lw_g (lw_at lw_m1 187 rfl) rfl
theorem q291 : (Jvm.Cond.superclass "SwarmPlanner" "java/lang/Object") ∈ lw_all := lw_g (lw_at lw_m1 188 rfl) rfl
theorem q294 : (Jvm.Cond.instanceMethod ({ cls := "SwarmPlanner", name := "add", desc := "(II)I" } : Jvm.MethodName)) ∈ lw_all := lw_g (lw_at lw_m1 191 rfl) rfl
theorem q295 : (Jvm.Cond.selects "SwarmPlanner" ({ cls := "SwarmPlanner", name := "add", desc := "(II)I" } : Jvm.MethodName) ({ cls := "SwarmPlanner", name := "add", desc := "(II)I" } : Jvm.MethodName)) ∈ lw_all := lw_g (lw_at lw_m1 192 rfl) rfl
theorem q296 : (Jvm.Cond.code ({ cls := "SwarmPlanner", name := "add", desc := "(II)I" } : Jvm.MethodName) prog_1_method_35_code (4 : Nat) (Option.some Jvm.ClassFile.FieldType.int)) ∈ lw_all := lw_g (lw_at lw_m1 193 rfl) rfl
theorem q297 : (Jvm.Cond.methodLink "SwarmPlanner" (292 : Nat) ({ cls := "SwarmPlanner", name := "againstAdding", desc := "(II)I" } : Jvm.MethodName)) ∈ lw_all := lw_g (lw_at lw_m1 194 rfl) rfl
theorem q298 : (Jvm.Cond.privateMethod ({ cls := "SwarmPlanner", name := "againstAdding", desc := "(II)I" } : Jvm.MethodName)) ∈ lw_tbl := lw_at lw_m1 195 rfl
theorem q299 : (Jvm.Cond.instanceMethod ({ cls := "SwarmPlanner", name := "againstAdding", desc := "(II)I" } : Jvm.MethodName)) ∈ lw_all := lw_g (lw_at lw_m1 196 rfl) rfl
theorem q300 : (Jvm.Cond.code ({ cls := "SwarmPlanner", name := "againstAdding", desc := "(II)I" } : Jvm.MethodName) prog_1_method_33_code (4 : Nat) (Option.some Jvm.ClassFile.FieldType.int)) ∈ lw_all := lw_g (lw_at lw_m1 197 rfl) rfl
theorem q301 : (Jvm.Cond.methodLink "SwarmPlanner" (3 : Nat) ({ cls := "SwarmPlanner", name := "in", desc := "(III)Z" } : Jvm.MethodName)) ∈ lw_all := lw_g (lw_at lw_m1 198 rfl) rfl
theorem q302 : (Jvm.Cond.static ({ cls := "SwarmPlanner", name := "in", desc := "(III)Z" } : Jvm.MethodName)) ∈ lw_all := lw_g (lw_at lw_m1 199 rfl) rfl
theorem q303 : (Jvm.Cond.code ({ cls := "SwarmPlanner", name := "in", desc := "(III)Z" } : Jvm.MethodName) prog_1_method_2_code (3 : Nat) (Option.some Jvm.ClassFile.FieldType.boolean)) ∈ lw_all := lw_g (lw_at lw_m1 200 rfl) rfl
theorem q304 : (Jvm.Cond.methodLink "SwarmPlanner" (286 : Nat) ({ cls := "SwarmPlanner", name := "added", desc := "()I" } : Jvm.MethodName)) ∈ lw_all := lw_g (lw_at lw_m1 201 rfl) rfl
theorem q305 : (Jvm.Cond.privateMethod ({ cls := "SwarmPlanner", name := "added", desc := "()I" } : Jvm.MethodName)) ∈ lw_tbl := lw_at lw_m1 202 rfl
theorem q306 : (Jvm.Cond.instanceMethod ({ cls := "SwarmPlanner", name := "added", desc := "()I" } : Jvm.MethodName)) ∈ lw_all := lw_g (lw_at lw_m1 203 rfl) rfl
theorem q307 : (Jvm.Cond.code ({ cls := "SwarmPlanner", name := "added", desc := "()I" } : Jvm.MethodName) prog_1_method_32_code (1 : Nat) (Option.some Jvm.ClassFile.FieldType.int)) ∈ lw_all := lw_g (lw_at lw_m1 204 rfl) rfl
theorem q308 : (Jvm.Cond.methodLink "SwarmPlanner" (295 : Nat) ({ cls := "SwarmPlanner", name := "changes", desc := "()V" } : Jvm.MethodName)) ∈ lw_all := lw_g (lw_at lw_m1 205 rfl) rfl
theorem q309 : (Jvm.Cond.privateMethod ({ cls := "SwarmPlanner", name := "changes", desc := "()V" } : Jvm.MethodName)) ∈ lw_tbl := lw_at lw_m1 206 rfl
theorem q310 : (Jvm.Cond.instanceMethod ({ cls := "SwarmPlanner", name := "changes", desc := "()V" } : Jvm.MethodName)) ∈ lw_all := lw_g (lw_at lw_m1 207 rfl) rfl
theorem q311 : (Jvm.Cond.code ({ cls := "SwarmPlanner", name := "changes", desc := "()V" } : Jvm.MethodName) prog_1_method_31_code (2 : Nat) (Option.none : Option Jvm.ClassFile.FieldType)) ∈ lw_all := lw_g (lw_at lw_m1 208 rfl) rfl
theorem q312 : (Jvm.Cond.methodLink "SwarmPlanner" (281 : Nat) ({ cls := "SwarmPlanner$World", name := "<init>", desc := "(LSwarmPlanner$World;)V" } : Jvm.MethodName)) ∈ lw_all := lw_g (lw_at lw_m1 209 rfl) rfl
theorem q335 : (Jvm.Cond.fieldLinkNest "SwarmPlanner" (109 : Nat) "SwarmPlanner$Member" "number" "I" "SwarmPlanner") ∈ lw_tbl := lw_at lw_m1 232 rfl
theorem q339 : (Jvm.Cond.fieldLinkNest "SwarmPlanner" (49 : Nat) "SwarmPlanner$Member" "cell" "I" "SwarmPlanner") ∈ lw_tbl := lw_at lw_m1 236 rfl
theorem q341 : (Jvm.Cond.fieldLinkNest "SwarmPlanner" (170 : Nat) "SwarmPlanner$Member" "reason" "I" "SwarmPlanner") ∈ lw_tbl := lw_at lw_m1 238 rfl
theorem q343 : (Jvm.Cond.fieldLinkNest "SwarmPlanner" (135 : Nat) "SwarmPlanner$Member" "waiting" "I" "SwarmPlanner") ∈ lw_tbl := lw_at lw_m2 0 rfl
theorem q345 : (Jvm.Cond.fieldLinkNest "SwarmPlanner" (132 : Nat) "SwarmPlanner$Member" "steps" "I" "SwarmPlanner") ∈ lw_tbl := lw_at lw_m2 2 rfl
theorem q347 : (Jvm.Cond.fieldLinkNest "SwarmPlanner" (138 : Nat) "SwarmPlanner$Member" "waits" "I" "SwarmPlanner") ∈ lw_tbl := lw_at lw_m2 4 rfl
theorem q349 : (Jvm.Cond.fieldLinkNest "SwarmPlanner" (193 : Nat) "SwarmPlanner$Member" "rounds" "I" "SwarmPlanner") ∈ lw_tbl := lw_at lw_m2 6 rfl
theorem q365 : (Jvm.Cond.methodLink "SwarmPlanner" (232 : Nat) ({ cls := "java/util/ArrayList", name := "add", desc := "(Ljava/lang/Object;)Z" } : Jvm.MethodName)) ∈ lw_all := lw_g (lw_at lw_m2 22 rfl) rfl
theorem q397 : (Jvm.Cond.selects "SwarmPlanner" ({ cls := "java/lang/Object", name := "getClass", desc := "()Ljava/lang/Class;" } : Jvm.MethodName) ({ cls := "java/lang/Object", name := "getClass", desc := "()Ljava/lang/Class;" } : Jvm.MethodName)) ∈ lw_all := lw_g (lw_at lw_m2 54 rfl) rfl
theorem q422 : (Jvm.Cond.methodLink "SwarmPlanner" (233 : Nat) ({ cls := "java/util/ArrayList", name := "size", desc := "()I" } : Jvm.MethodName)) ∈ lw_all := lw_g (lw_at lw_m2 79 rfl) rfl
theorem q426 : (Jvm.Cond.methodLink "SwarmPlanner" (284 : Nat) ({ cls := "java/util/ArrayList", name := "remove", desc := "(I)Ljava/lang/Object;" } : Jvm.MethodName)) ∈ lw_all := lw_g (lw_at lw_m2 83 rfl) rfl
theorem q441 : (Jvm.Cond.methodLink "SwarmPlanner" (298 : Nat) ({ cls := "SwarmPlanner", name := "adds", desc := "(II)I" } : Jvm.MethodName)) ∈ lw_all := lw_g (lw_at lw_m2 98 rfl) rfl
theorem q442 : (Jvm.Cond.privateMethod ({ cls := "SwarmPlanner", name := "adds", desc := "(II)I" } : Jvm.MethodName)) ∈ lw_tbl := lw_at lw_m2 99 rfl
theorem q443 : (Jvm.Cond.instanceMethod ({ cls := "SwarmPlanner", name := "adds", desc := "(II)I" } : Jvm.MethodName)) ∈ lw_all := lw_g (lw_at lw_m2 100 rfl) rfl
theorem q444 : (Jvm.Cond.code ({ cls := "SwarmPlanner", name := "adds", desc := "(II)I" } : Jvm.MethodName) prog_1_method_34_code (4 : Nat) (Option.some Jvm.ClassFile.FieldType.int)) ∈ lw_all := lw_g (lw_at lw_m2 101 rfl) rfl
theorem q445 : (Jvm.Cond.classLink "SwarmPlanner" (50 : Nat) "SwarmPlanner$Member") ∈ lw_all := lw_g (lw_at lw_m2 102 rfl) rfl
theorem q446 : (Jvm.Cond.methodLink "SwarmPlanner" (289 : Nat) ({ cls := "SwarmPlanner$Member", name := "<init>", desc := "(II)V" } : Jvm.MethodName)) ∈ lw_all := lw_g (lw_at lw_m2 103 rfl) rfl
theorem q448 : (Jvm.Cond.instanceMethod ({ cls := "SwarmPlanner", name := "lose", desc := "(I)I" } : Jvm.MethodName)) ∈ lw_all := lw_g (lw_at lw_m2 105 rfl) rfl
theorem q449 : (Jvm.Cond.selects "SwarmPlanner" ({ cls := "SwarmPlanner", name := "lose", desc := "(I)I" } : Jvm.MethodName) ({ cls := "SwarmPlanner", name := "lose", desc := "(I)I" } : Jvm.MethodName)) ∈ lw_all := lw_g (lw_at lw_m2 106 rfl) rfl
theorem q450 : (Jvm.Cond.code ({ cls := "SwarmPlanner", name := "lose", desc := "(I)I" } : Jvm.MethodName) prog_1_method_36_code (2 : Nat) (Option.some Jvm.ClassFile.FieldType.int)) ∈ lw_all := lw_g (lw_at lw_m2 107 rfl) rfl
theorem q451 : (Jvm.Cond.methodLink "SwarmPlanner" (301 : Nat) ({ cls := "SwarmPlanner$World", name := "isMember", desc := "(I)Z" } : Jvm.MethodName)) ∈ lw_all := lw_g (lw_at lw_m2 108 rfl) rfl
theorem q456 : (Jvm.Cond.methodLink "SwarmPlanner" (304 : Nat) ({ cls := "SwarmPlanner$World", name := "loses", desc := "(I)V" } : Jvm.MethodName)) ∈ lw_all := lw_g (lw_at lw_m2 113 rfl) rfl
theorem q460 : (Jvm.Cond.methodLink "SwarmPlanner" (307 : Nat) ({ cls := "SwarmPlanner$World", name := "many", desc := "()I" } : Jvm.MethodName)) ∈ lw_all := lw_g (lw_at lw_m2 117 rfl) rfl
theorem q465 : (Jvm.Cond.static ({ cls := "SwarmPlanner", name := "bit", desc := "(Z)I" } : Jvm.MethodName)) ∈ lw_all := lw_g (lw_at lw_m2 122 rfl) rfl
theorem q466 : (Jvm.Cond.code ({ cls := "SwarmPlanner", name := "bit", desc := "(Z)I" } : Jvm.MethodName) prog_1_method_3_code (1 : Nat) (Option.some Jvm.ClassFile.FieldType.int)) ∈ lw_all := lw_g (lw_at lw_m2 123 rfl) rfl
theorem q468 : (Jvm.Cond.instanceMethod ({ cls := "SwarmPlanner", name := "lead", desc := "(I)I" } : Jvm.MethodName)) ∈ lw_all := lw_g (lw_at lw_m2 125 rfl) rfl
theorem q469 : (Jvm.Cond.selects "SwarmPlanner" ({ cls := "SwarmPlanner", name := "lead", desc := "(I)I" } : Jvm.MethodName) ({ cls := "SwarmPlanner", name := "lead", desc := "(I)I" } : Jvm.MethodName)) ∈ lw_all := lw_g (lw_at lw_m2 126 rfl) rfl
theorem q470 : (Jvm.Cond.code ({ cls := "SwarmPlanner", name := "lead", desc := "(I)I" } : Jvm.MethodName) prog_1_method_37_code (3 : Nat) (Option.some Jvm.ClassFile.FieldType.int)) ∈ lw_all := lw_g (lw_at lw_m2 127 rfl) rfl
theorem q471 : (Jvm.Cond.methodLink "SwarmPlanner" (55 : Nat) ({ cls := "SwarmPlanner$World", name := "leads", desc := "()I" } : Jvm.MethodName)) ∈ lw_all := lw_g (lw_at lw_m2 128 rfl) rfl
theorem q477 : (Jvm.Cond.instanceMethod ({ cls := "SwarmPlanner", name := "target", desc := "(I)I" } : Jvm.MethodName)) ∈ lw_all := lw_g (lw_at lw_m2 134 rfl) rfl
theorem q478 : (Jvm.Cond.selects "SwarmPlanner" ({ cls := "SwarmPlanner", name := "target", desc := "(I)I" } : Jvm.MethodName) ({ cls := "SwarmPlanner", name := "target", desc := "(I)I" } : Jvm.MethodName)) ∈ lw_all := lw_g (lw_at lw_m2 135 rfl) rfl
theorem q479 : (Jvm.Cond.code ({ cls := "SwarmPlanner", name := "target", desc := "(I)I" } : Jvm.MethodName) prog_1_method_38_code (3 : Nat) (Option.some Jvm.ClassFile.FieldType.int)) ∈ lw_all := lw_g (lw_at lw_m2 136 rfl) rfl
theorem q480 : (Jvm.Cond.methodLink "SwarmPlanner" (313 : Nat) ({ cls := "SwarmPlanner", name := "isCell", desc := "(I)Z" } : Jvm.MethodName)) ∈ lw_all := lw_g (lw_at lw_m2 137 rfl) rfl
theorem q481 : (Jvm.Cond.static ({ cls := "SwarmPlanner", name := "isCell", desc := "(I)Z" } : Jvm.MethodName)) ∈ lw_all := lw_g (lw_at lw_m2 138 rfl) rfl
theorem q482 : (Jvm.Cond.code ({ cls := "SwarmPlanner", name := "isCell", desc := "(I)Z" } : Jvm.MethodName) prog_1_method_4_code (1 : Nat) (Option.some Jvm.ClassFile.FieldType.boolean)) ∈ lw_all := lw_g (lw_at lw_m2 139 rfl) rfl
theorem q484 : (Jvm.Cond.instanceMethod ({ cls := "SwarmPlanner", name := "obstacle", desc := "(I)I" } : Jvm.MethodName)) ∈ lw_all := lw_g (lw_at lw_m2 141 rfl) rfl
theorem q485 : (Jvm.Cond.selects "SwarmPlanner" ({ cls := "SwarmPlanner", name := "obstacle", desc := "(I)I" } : Jvm.MethodName) ({ cls := "SwarmPlanner", name := "obstacle", desc := "(I)I" } : Jvm.MethodName)) ∈ lw_all := lw_g (lw_at lw_m2 142 rfl) rfl
theorem q486 : (Jvm.Cond.code ({ cls := "SwarmPlanner", name := "obstacle", desc := "(I)I" } : Jvm.MethodName) prog_1_method_40_code (2 : Nat) (Option.some Jvm.ClassFile.FieldType.int)) ∈ lw_all := lw_g (lw_at lw_m2 143 rfl) rfl
theorem q487 : (Jvm.Cond.methodLink "SwarmPlanner" (316 : Nat) ({ cls := "SwarmPlanner", name := "turns", desc := "(I)I" } : Jvm.MethodName)) ∈ lw_all := lw_g (lw_at lw_m2 144 rfl) rfl
theorem q488 : (Jvm.Cond.privateMethod ({ cls := "SwarmPlanner", name := "turns", desc := "(I)I" } : Jvm.MethodName)) ∈ lw_tbl := lw_at lw_m2 145 rfl
theorem q489 : (Jvm.Cond.instanceMethod ({ cls := "SwarmPlanner", name := "turns", desc := "(I)I" } : Jvm.MethodName)) ∈ lw_all := lw_g (lw_at lw_m2 146 rfl) rfl
theorem q490 : (Jvm.Cond.code ({ cls := "SwarmPlanner", name := "turns", desc := "(I)I" } : Jvm.MethodName) prog_1_method_39_code (2 : Nat) (Option.some Jvm.ClassFile.FieldType.int)) ∈ lw_all := lw_g (lw_at lw_m2 147 rfl) rfl
theorem q491 : (Jvm.Cond.methodLink "SwarmPlanner" (112 : Nat) ({ cls := "SwarmPlanner", name := "bit", desc := "(Z)I" } : Jvm.MethodName)) ∈ lw_all := lw_g (lw_at lw_m2 148 rfl) rfl
theorem q493 : (Jvm.Cond.instanceMethod ({ cls := "SwarmPlanner", name := "feed", desc := "(IIIIII)I" } : Jvm.MethodName)) ∈ lw_all := lw_g (lw_at lw_m2 150 rfl) rfl
theorem q494 : (Jvm.Cond.selects "SwarmPlanner" ({ cls := "SwarmPlanner", name := "feed", desc := "(IIIIII)I" } : Jvm.MethodName) ({ cls := "SwarmPlanner", name := "feed", desc := "(IIIIII)I" } : Jvm.MethodName)) ∈ lw_all := lw_g (lw_at lw_m2 151 rfl) rfl
theorem q495 : (Jvm.Cond.code ({ cls := "SwarmPlanner", name := "feed", desc := "(IIIIII)I" } : Jvm.MethodName) prog_1_method_42_code (9 : Nat) (Option.some Jvm.ClassFile.FieldType.int)) ∈ lw_all := lw_g (lw_at lw_m2 152 rfl) rfl
theorem q496 : (Jvm.Cond.methodLink "SwarmPlanner" (318 : Nat) ({ cls := "SwarmPlanner", name := "areSigns", desc := "([I)Z" } : Jvm.MethodName)) ∈ lw_all := lw_g (lw_at lw_m2 153 rfl) rfl
theorem q497 : (Jvm.Cond.static ({ cls := "SwarmPlanner", name := "areSigns", desc := "([I)Z" } : Jvm.MethodName)) ∈ lw_all := lw_g (lw_at lw_m2 154 rfl) rfl
theorem q498 : (Jvm.Cond.code ({ cls := "SwarmPlanner", name := "areSigns", desc := "([I)Z" } : Jvm.MethodName) prog_1_method_41_code (5 : Nat) (Option.some Jvm.ClassFile.FieldType.boolean)) ∈ lw_all := lw_g (lw_at lw_m2 155 rfl) rfl
theorem q499 : (Jvm.Cond.methodLink "SwarmPlanner" (325 : Nat) ({ cls := "SwarmPlanner", name := "row", desc := "([I)[I" } : Jvm.MethodName)) ∈ lw_all := lw_g (lw_at lw_m2 156 rfl) rfl
theorem q500 : (Jvm.Cond.static ({ cls := "SwarmPlanner", name := "row", desc := "([I)[I" } : Jvm.MethodName)) ∈ lw_all := lw_g (lw_at lw_m2 157 rfl) rfl
theorem q501 : (Jvm.Cond.code ({ cls := "SwarmPlanner", name := "row", desc := "([I)[I" } : Jvm.MethodName) prog_1_method_1_code (1 : Nat) (Option.some (Jvm.ClassFile.FieldType.array Jvm.ClassFile.FieldType.int))) ∈ lw_all := lw_g (lw_at lw_m2 158 rfl) rfl
theorem q503 : (Jvm.Cond.instanceMethod ({ cls := "SwarmPlanner", name := "shape", desc := "(I)I" } : Jvm.MethodName)) ∈ lw_all := lw_g (lw_at lw_m2 160 rfl) rfl
theorem q504 : (Jvm.Cond.selects "SwarmPlanner" ({ cls := "SwarmPlanner", name := "shape", desc := "(I)I" } : Jvm.MethodName) ({ cls := "SwarmPlanner", name := "shape", desc := "(I)I" } : Jvm.MethodName)) ∈ lw_all := lw_g (lw_at lw_m2 161 rfl) rfl
theorem q505 : (Jvm.Cond.codeWith ({ cls := "SwarmPlanner", name := "shape", desc := "(I)I" } : Jvm.MethodName) prog_1_method_43_code (5 : Nat) (Option.some Jvm.ClassFile.FieldType.int) [((11 : Nat), (42 : Nat), (49 : Nat), (335 : Nat)), ((11 : Nat), (42 : Nat), (65 : Nat), (0 : Nat)), ((49 : Nat), (58 : Nat), (65 : Nat), (0 : Nat)), ((65 : Nat), (67 : Nat), (65 : Nat), (0 : Nat))]) ∈ lw_all := lw_g (lw_at lw_m2 162 rfl) rfl
theorem q506 : (Jvm.Cond.classLink "SwarmPlanner" (335 : Nat) "SwarmPlanner$Wrong") ∈ lw_all := lw_g (lw_at lw_m2 163 rfl) rfl
theorem q507 : (Jvm.Cond.classLink "SwarmPlanner" (329 : Nat) "SwarmPlanner$Reader") ∈ lw_all := lw_g (lw_at lw_m2 164 rfl) rfl
theorem q509 : (Jvm.Cond.methodLinkNest "SwarmPlanner" (331 : Nat) ({ cls := "SwarmPlanner$Reader", name := "<init>", desc := "(LSwarmPlanner;)V" } : Jvm.MethodName) "SwarmPlanner") ∈ lw_tbl := lw_at lw_m2 166 rfl
theorem q532 : (Jvm.Cond.methodLink "SwarmPlanner" (332 : Nat) ({ cls := "SwarmPlanner$Reader", name := "shape", desc := "()LSwarmPlanner$Shape;" } : Jvm.MethodName)) ∈ lw_all := lw_g (lw_at lw_m2 189 rfl) rfl
theorem q599 : (Jvm.Cond.fieldLinkNest "SwarmPlanner" (337 : Nat) "SwarmPlanner$Wrong" "place" "I" "SwarmPlanner") ∈ lw_tbl := lw_at lw_m3 16 rfl
theorem q625 : (Jvm.Cond.fieldLinkNest "SwarmPlanner" (84 : Nat) "SwarmPlanner$Shape" "columns" "[I" "SwarmPlanner") ∈ lw_tbl := lw_at lw_m3 42 rfl
theorem q627 : (Jvm.Cond.fieldLinkNest "SwarmPlanner" (87 : Nat) "SwarmPlanner$Shape" "rows" "[I" "SwarmPlanner") ∈ lw_tbl := lw_at lw_m3 44 rfl
theorem q629 : (Jvm.Cond.fieldLinkNest "SwarmPlanner" (77 : Nat) "SwarmPlanner$Shape" "anchor" "I" "SwarmPlanner") ∈ lw_tbl := lw_at lw_m3 46 rfl
theorem q637 : (Jvm.Cond.methodLink "SwarmPlanner" (66 : Nat) ({ cls := "SwarmPlanner$Shape", name := "size", desc := "()I" } : Jvm.MethodName)) ∈ lw_all := lw_g (lw_at lw_m3 54 rfl) rfl
theorem q642 : (Jvm.Cond.instanceMethod ({ cls := "SwarmPlanner", name := "choose", desc := "(I)I" } : Jvm.MethodName)) ∈ lw_all := lw_g (lw_at lw_m3 59 rfl) rfl
theorem q643 : (Jvm.Cond.selects "SwarmPlanner" ({ cls := "SwarmPlanner", name := "choose", desc := "(I)I" } : Jvm.MethodName) ({ cls := "SwarmPlanner", name := "choose", desc := "(I)I" } : Jvm.MethodName)) ∈ lw_all := lw_g (lw_at lw_m3 60 rfl) rfl
theorem q644 : (Jvm.Cond.code ({ cls := "SwarmPlanner", name := "choose", desc := "(I)I" } : Jvm.MethodName) prog_1_method_44_code (3 : Nat) (Option.some Jvm.ClassFile.FieldType.int)) ∈ lw_all := lw_g (lw_at lw_m3 61 rfl) rfl
theorem q646 : (Jvm.Cond.instanceMethod ({ cls := "SwarmPlanner", name := "rounds", desc := "(I)I" } : Jvm.MethodName)) ∈ lw_all := lw_g (lw_at lw_m3 63 rfl) rfl
theorem q647 : (Jvm.Cond.selects "SwarmPlanner" ({ cls := "SwarmPlanner", name := "rounds", desc := "(I)I" } : Jvm.MethodName) ({ cls := "SwarmPlanner", name := "rounds", desc := "(I)I" } : Jvm.MethodName)) ∈ lw_all := lw_g (lw_at lw_m3 64 rfl) rfl
theorem q648 : (Jvm.Cond.code ({ cls := "SwarmPlanner", name := "rounds", desc := "(I)I" } : Jvm.MethodName) prog_1_method_48_code (2 : Nat) (Option.some Jvm.ClassFile.FieldType.int)) ∈ lw_all := lw_g (lw_at lw_m3 65 rfl) rfl
theorem q649 : (Jvm.Cond.methodLink "SwarmPlanner" (343 : Nat) ({ cls := "SwarmPlanner", name := "notesCells", desc := "()V" } : Jvm.MethodName)) ∈ lw_all := lw_g (lw_at lw_m3 66 rfl) rfl
theorem q650 : (Jvm.Cond.privateMethod ({ cls := "SwarmPlanner", name := "notesCells", desc := "()V" } : Jvm.MethodName)) ∈ lw_tbl := lw_at lw_m3 67 rfl
theorem q651 : (Jvm.Cond.instanceMethod ({ cls := "SwarmPlanner", name := "notesCells", desc := "()V" } : Jvm.MethodName)) ∈ lw_all := lw_g (lw_at lw_m3 68 rfl) rfl
theorem q652 : (Jvm.Cond.code ({ cls := "SwarmPlanner", name := "notesCells", desc := "()V" } : Jvm.MethodName) prog_1_method_45_code (2 : Nat) (Option.none : Option Jvm.ClassFile.FieldType)) ∈ lw_all := lw_g (lw_at lw_m3 69 rfl) rfl
theorem q653 : (Jvm.Cond.methodLink "SwarmPlanner" (346 : Nat) ({ cls := "SwarmPlanner", name := "makes", desc := "(I)V" } : Jvm.MethodName)) ∈ lw_all := lw_g (lw_at lw_m3 70 rfl) rfl
theorem q654 : (Jvm.Cond.privateMethod ({ cls := "SwarmPlanner", name := "makes", desc := "(I)V" } : Jvm.MethodName)) ∈ lw_tbl := lw_at lw_m3 71 rfl
theorem q655 : (Jvm.Cond.instanceMethod ({ cls := "SwarmPlanner", name := "makes", desc := "(I)V" } : Jvm.MethodName)) ∈ lw_all := lw_g (lw_at lw_m3 72 rfl) rfl
theorem q656 : (Jvm.Cond.code ({ cls := "SwarmPlanner", name := "makes", desc := "(I)V" } : Jvm.MethodName) prog_1_method_47_code (3 : Nat) (Option.none : Option Jvm.ClassFile.FieldType)) ∈ lw_all := lw_g (lw_at lw_m3 73 rfl) rfl
theorem q657 : (Jvm.Cond.methodLink "SwarmPlanner" (340 : Nat) ({ cls := "SwarmPlanner", name := "round", desc := "()V" } : Jvm.MethodName)) ∈ lw_all := lw_g (lw_at lw_m3 74 rfl) rfl
theorem q658 : (Jvm.Cond.privateMethod ({ cls := "SwarmPlanner", name := "round", desc := "()V" } : Jvm.MethodName)) ∈ lw_tbl := lw_at lw_m3 75 rfl
theorem q659 : (Jvm.Cond.instanceMethod ({ cls := "SwarmPlanner", name := "round", desc := "()V" } : Jvm.MethodName)) ∈ lw_all := lw_g (lw_at lw_m3 76 rfl) rfl
theorem q660 : (Jvm.Cond.code ({ cls := "SwarmPlanner", name := "round", desc := "()V" } : Jvm.MethodName) prog_1_method_29_code (8 : Nat) (Option.none : Option Jvm.ClassFile.FieldType)) ∈ lw_all := lw_g (lw_at lw_m3 77 rfl) rfl
theorem q661 : (Jvm.Cond.methodLink "SwarmPlanner" (196 : Nat) ({ cls := "SwarmPlanner", name := "leaderActs", desc := "(LSwarmPlanner$Member;)I" } : Jvm.MethodName)) ∈ lw_all := lw_g (lw_at lw_m3 78 rfl) rfl
theorem q662 : (Jvm.Cond.privateMethod ({ cls := "SwarmPlanner", name := "leaderActs", desc := "(LSwarmPlanner$Member;)I" } : Jvm.MethodName)) ∈ lw_tbl := lw_at lw_m3 79 rfl
theorem q663 : (Jvm.Cond.instanceMethod ({ cls := "SwarmPlanner", name := "leaderActs", desc := "(LSwarmPlanner$Member;)I" } : Jvm.MethodName)) ∈ lw_all := lw_g (lw_at lw_m3 80 rfl) rfl
theorem q664 : (Jvm.Cond.code ({ cls := "SwarmPlanner", name := "leaderActs", desc := "(LSwarmPlanner$Member;)I" } : Jvm.MethodName) prog_1_method_19_code (4 : Nat) (Option.some Jvm.ClassFile.FieldType.int)) ∈ lw_all := lw_g (lw_at lw_m3 81 rfl) rfl
theorem q665 : (Jvm.Cond.methodLink "SwarmPlanner" (90 : Nat) ({ cls := "SwarmPlanner", name := "lays", desc := "(I[I)V" } : Jvm.MethodName)) ∈ lw_all := lw_g (lw_at lw_m3 82 rfl) rfl
theorem q666 : (Jvm.Cond.privateMethod ({ cls := "SwarmPlanner", name := "lays", desc := "(I[I)V" } : Jvm.MethodName)) ∈ lw_tbl := lw_at lw_m3 83 rfl
theorem q667 : (Jvm.Cond.instanceMethod ({ cls := "SwarmPlanner", name := "lays", desc := "(I[I)V" } : Jvm.MethodName)) ∈ lw_all := lw_g (lw_at lw_m3 84 rfl) rfl
theorem q668 : (Jvm.Cond.code ({ cls := "SwarmPlanner", name := "lays", desc := "(I[I)V" } : Jvm.MethodName) prog_1_method_7_code (7 : Nat) (Option.none : Option Jvm.ClassFile.FieldType)) ∈ lw_all := lw_g (lw_at lw_m3 85 rfl) rfl
theorem q669 : (Jvm.Cond.constant "SwarmPlanner" (18 : Nat) (16777216 : Int32)) ∈ lw_all := lw_g (lw_at lw_m3 86 rfl) rfl
theorem q670 : (Jvm.Cond.methodLink "SwarmPlanner" (32 : Nat) ({ cls := "SwarmPlanner", name := "neighbor", desc := "(II)I" } : Jvm.MethodName)) ∈ lw_all := lw_g (lw_at lw_m3 87 rfl) rfl
theorem q671 : (Jvm.Cond.static ({ cls := "SwarmPlanner", name := "neighbor", desc := "(II)I" } : Jvm.MethodName)) ∈ lw_all := lw_g (lw_at lw_m3 88 rfl) rfl
theorem q672 : (Jvm.Cond.code ({ cls := "SwarmPlanner", name := "neighbor", desc := "(II)I" } : Jvm.MethodName) prog_1_method_6_code (2 : Nat) (Option.some Jvm.ClassFile.FieldType.int)) ∈ lw_all := lw_g (lw_at lw_m3 89 rfl) rfl
theorem q673 : (Jvm.Cond.fieldLink "SwarmPlanner" (7 : Nat) "SwarmPlanner" "EAST" "[I") ∈ lw_all := lw_g (lw_at lw_m3 90 rfl) rfl
theorem q674 : (Jvm.Cond.laysStatic "SwarmPlanner" "EAST" "[I") ∈ lw_tbl := lw_at lw_m3 91 rfl
theorem q675 : (Jvm.Cond.fieldLink "SwarmPlanner" (11 : Nat) "SwarmPlanner" "SOUTH" "[I") ∈ lw_all := lw_g (lw_at lw_m3 92 rfl) rfl
theorem q676 : (Jvm.Cond.laysStatic "SwarmPlanner" "SOUTH" "[I") ∈ lw_tbl := lw_at lw_m3 93 rfl
theorem q677 : (Jvm.Cond.methodLink "SwarmPlanner" (14 : Nat) ({ cls := "SwarmPlanner", name := "shifted", desc := "(III)I" } : Jvm.MethodName)) ∈ lw_all := lw_g (lw_at lw_m3 94 rfl) rfl
theorem q678 : (Jvm.Cond.static ({ cls := "SwarmPlanner", name := "shifted", desc := "(III)I" } : Jvm.MethodName)) ∈ lw_all := lw_g (lw_at lw_m3 95 rfl) rfl
theorem q679 : (Jvm.Cond.code ({ cls := "SwarmPlanner", name := "shifted", desc := "(III)I" } : Jvm.MethodName) prog_1_method_5_code (5 : Nat) (Option.some Jvm.ClassFile.FieldType.int)) ∈ lw_all := lw_g (lw_at lw_m3 96 rfl) rfl
theorem q680 : (Jvm.Cond.methodLink "SwarmPlanner" (153 : Nat) ({ cls := "SwarmPlanner", name := "steps", desc := "(LSwarmPlanner$Member;I)V" } : Jvm.MethodName)) ∈ lw_all := lw_g (lw_at lw_m3 97 rfl) rfl
theorem q681 : (Jvm.Cond.privateMethod ({ cls := "SwarmPlanner", name := "steps", desc := "(LSwarmPlanner$Member;I)V" } : Jvm.MethodName)) ∈ lw_tbl := lw_at lw_m3 98 rfl
theorem q682 : (Jvm.Cond.instanceMethod ({ cls := "SwarmPlanner", name := "steps", desc := "(LSwarmPlanner$Member;I)V" } : Jvm.MethodName)) ∈ lw_all := lw_g (lw_at lw_m3 99 rfl) rfl
theorem q683 : (Jvm.Cond.code ({ cls := "SwarmPlanner", name := "steps", desc := "(LSwarmPlanner$Member;I)V" } : Jvm.MethodName) prog_1_method_17_code (3 : Nat) (Option.none : Option Jvm.ClassFile.FieldType)) ∈ lw_all := lw_g (lw_at lw_m3 100 rfl) rfl
theorem q684 : (Jvm.Cond.methodLink "SwarmPlanner" (128 : Nat) ({ cls := "SwarmPlanner$World", name := "moves", desc := "(LSwarmPlanner$Member;I)V" } : Jvm.MethodName)) ∈ lw_all := lw_g (lw_at lw_m3 101 rfl) rfl
theorem q688 : (Jvm.Cond.methodLink "SwarmPlanner" (155 : Nat) ({ cls := "SwarmPlanner", name := "waits", desc := "(LSwarmPlanner$Member;)V" } : Jvm.MethodName)) ∈ lw_all := lw_g (lw_at lw_m3 105 rfl) rfl
theorem q689 : (Jvm.Cond.privateMethod ({ cls := "SwarmPlanner", name := "waits", desc := "(LSwarmPlanner$Member;)V" } : Jvm.MethodName)) ∈ lw_tbl := lw_at lw_m3 106 rfl
theorem q690 : (Jvm.Cond.instanceMethod ({ cls := "SwarmPlanner", name := "waits", desc := "(LSwarmPlanner$Member;)V" } : Jvm.MethodName)) ∈ lw_all := lw_g (lw_at lw_m3 107 rfl) rfl
theorem q691 : (Jvm.Cond.code ({ cls := "SwarmPlanner", name := "waits", desc := "(LSwarmPlanner$Member;)V" } : Jvm.MethodName) prog_1_method_18_code (2 : Nat) (Option.none : Option Jvm.ClassFile.FieldType)) ∈ lw_all := lw_g (lw_at lw_m3 108 rfl) rfl
theorem q692 : (Jvm.Cond.methodLink "SwarmPlanner" (120 : Nat) ({ cls := "SwarmPlanner", name := "gives", desc := "()V" } : Jvm.MethodName)) ∈ lw_all := lw_g (lw_at lw_m3 109 rfl) rfl
theorem q693 : (Jvm.Cond.privateMethod ({ cls := "SwarmPlanner", name := "gives", desc := "()V" } : Jvm.MethodName)) ∈ lw_tbl := lw_at lw_m3 110 rfl
theorem q694 : (Jvm.Cond.instanceMethod ({ cls := "SwarmPlanner", name := "gives", desc := "()V" } : Jvm.MethodName)) ∈ lw_all := lw_g (lw_at lw_m3 111 rfl) rfl
theorem q695 : (Jvm.Cond.code ({ cls := "SwarmPlanner", name := "gives", desc := "()V" } : Jvm.MethodName) prog_1_method_11_code (4 : Nat) (Option.none : Option Jvm.ClassFile.FieldType)) ∈ lw_all := lw_g (lw_at lw_m3 112 rfl) rfl
theorem q696 : (Jvm.Cond.methodLink "SwarmPlanner" (94 : Nat) ({ cls := "SwarmPlanner", name := "laysPlaces", desc := "()V" } : Jvm.MethodName)) ∈ lw_all := lw_g (lw_at lw_m3 113 rfl) rfl
theorem q697 : (Jvm.Cond.privateMethod ({ cls := "SwarmPlanner", name := "laysPlaces", desc := "()V" } : Jvm.MethodName)) ∈ lw_tbl := lw_at lw_m3 114 rfl
theorem q698 : (Jvm.Cond.instanceMethod ({ cls := "SwarmPlanner", name := "laysPlaces", desc := "()V" } : Jvm.MethodName)) ∈ lw_all := lw_g (lw_at lw_m3 115 rfl) rfl
theorem q699 : (Jvm.Cond.code ({ cls := "SwarmPlanner", name := "laysPlaces", desc := "()V" } : Jvm.MethodName) prog_1_method_10_code (5 : Nat) (Option.none : Option Jvm.ClassFile.FieldType)) ∈ lw_all := lw_g (lw_at lw_m3 116 rfl) rfl
theorem q700 : (Jvm.Cond.classLink "SwarmPlanner" (37 : Nat) "SwarmPlanner$Chain") ∈ lw_all := lw_g (lw_at lw_m3 117 rfl) rfl
theorem q702 : (Jvm.Cond.methodLink "SwarmPlanner" (101 : Nat) ({ cls := "SwarmPlanner$Chain", name := "<init>", desc := "(LSwarmPlanner;LSwarmPlanner$Member;LSwarmPlanner$Chain;)V" } : Jvm.MethodName)) ∈ lw_all := lw_g (lw_at lw_m3 119 rfl) rfl
theorem q722 : (Jvm.Cond.methodLink "SwarmPlanner" (105 : Nat) ({ cls := "SwarmPlanner$Chain", name := "gives", desc := "(I)V" } : Jvm.MethodName)) ∈ lw_all := lw_g (lw_at lw_m3 139 rfl) rfl
theorem q731 : (Jvm.Cond.static ({ cls := "SwarmPlanner", name := "best", desc := "(LSwarmPlanner$Chain;I)I" } : Jvm.MethodName)) ∈ lw_all := lw_g (lw_at lw_m3 148 rfl) rfl
theorem q732 : (Jvm.Cond.code ({ cls := "SwarmPlanner", name := "best", desc := "(LSwarmPlanner$Chain;I)I" } : Jvm.MethodName) prog_1_method_8_code (2 : Nat) (Option.some Jvm.ClassFile.FieldType.int)) ∈ lw_all := lw_g (lw_at lw_m3 149 rfl) rfl
theorem q733 : (Jvm.Cond.methodLinkNest "SwarmPlanner" (36 : Nat) ({ cls := "SwarmPlanner$Chain", name := "sum", desc := "(I)I" } : Jvm.MethodName) "SwarmPlanner") ∈ lw_tbl := lw_at lw_m3 150 rfl
theorem q735 : (Jvm.Cond.privateMethod ({ cls := "SwarmPlanner", name := "isGiveable", desc := "(IILSwarmPlanner$Member;)Z" } : Jvm.MethodName)) ∈ lw_tbl := lw_at lw_m3 152 rfl
theorem q736 : (Jvm.Cond.instanceMethod ({ cls := "SwarmPlanner", name := "isGiveable", desc := "(IILSwarmPlanner$Member;)Z" } : Jvm.MethodName)) ∈ lw_all := lw_g (lw_at lw_m3 153 rfl) rfl
theorem q737 : (Jvm.Cond.code ({ cls := "SwarmPlanner", name := "isGiveable", desc := "(IILSwarmPlanner$Member;)Z" } : Jvm.MethodName) prog_1_method_9_code (4 : Nat) (Option.some Jvm.ClassFile.FieldType.boolean)) ∈ lw_all := lw_g (lw_at lw_m3 154 rfl) rfl
theorem q744 : (Jvm.Cond.classLink "SwarmPlanner" (199 : Nat) "java/util/PriorityQueue") ∈ lw_all := lw_g (lw_at lw_m3 161 rfl) rfl
theorem q746 : (Jvm.Cond.methodLink "SwarmPlanner" (205 : Nat) ({ cls := "java/util/PriorityQueue", name := "<init>", desc := "(ILjava/util/Comparator;)V" } : Jvm.MethodName)) ∈ lw_all := lw_g (lw_at lw_m3 163 rfl) rfl
theorem q767 : (Jvm.Cond.methodLink "SwarmPlanner" (208 : Nat) ({ cls := "SwarmPlanner", name := "begins", desc := "(LSwarmPlanner$Member;I)V" } : Jvm.MethodName)) ∈ lw_all := lw_g (lw_at lw_m3 184 rfl) rfl
theorem q768 : (Jvm.Cond.privateMethod ({ cls := "SwarmPlanner", name := "begins", desc := "(LSwarmPlanner$Member;I)V" } : Jvm.MethodName)) ∈ lw_tbl := lw_at lw_m3 185 rfl
theorem q769 : (Jvm.Cond.instanceMethod ({ cls := "SwarmPlanner", name := "begins", desc := "(LSwarmPlanner$Member;I)V" } : Jvm.MethodName)) ∈ lw_all := lw_g (lw_at lw_m3 186 rfl) rfl
theorem q770 : (Jvm.Cond.code ({ cls := "SwarmPlanner", name := "begins", desc := "(LSwarmPlanner$Member;I)V" } : Jvm.MethodName) prog_1_method_28_code (3 : Nat) (Option.none : Option Jvm.ClassFile.FieldType)) ∈ lw_all := lw_g (lw_at lw_m3 187 rfl) rfl
theorem q771 : (Jvm.Cond.methodLink "SwarmPlanner" (116 : Nat) ({ cls := "SwarmPlanner", name := "distanceOf", desc := "(LSwarmPlanner$Member;)I" } : Jvm.MethodName)) ∈ lw_all := lw_g (lw_at lw_m3 188 rfl) rfl
theorem q772 : (Jvm.Cond.privateMethod ({ cls := "SwarmPlanner", name := "distanceOf", desc := "(LSwarmPlanner$Member;)I" } : Jvm.MethodName)) ∈ lw_tbl := lw_at lw_m3 189 rfl
theorem q773 : (Jvm.Cond.instanceMethod ({ cls := "SwarmPlanner", name := "distanceOf", desc := "(LSwarmPlanner$Member;)I" } : Jvm.MethodName)) ∈ lw_all := lw_g (lw_at lw_m3 190 rfl) rfl
theorem q774 : (Jvm.Cond.code ({ cls := "SwarmPlanner", name := "distanceOf", desc := "(LSwarmPlanner$Member;)I" } : Jvm.MethodName) prog_1_method_13_code (2 : Nat) (Option.some Jvm.ClassFile.FieldType.int)) ∈ lw_all := lw_g (lw_at lw_m3 191 rfl) rfl
theorem q775 : (Jvm.Cond.methodLink "SwarmPlanner" (211 : Nat) ({ cls := "java/util/PriorityQueue", name := "add", desc := "(Ljava/lang/Object;)Z" } : Jvm.MethodName)) ∈ lw_all := lw_g (lw_at lw_m3 192 rfl) rfl
theorem q820 : (Jvm.Cond.methodLink "SwarmPlanner" (219 : Nat) ({ cls := "java/util/ArrayList", name := "clear", desc := "()V" } : Jvm.MethodName)) ∈ lw_all := lw_g (lw_at lw_m3 237 rfl) rfl
theorem q824 : (Jvm.Cond.methodLink "SwarmPlanner" (224 : Nat) ({ cls := "java/util/PriorityQueue", name := "isEmpty", desc := "()Z" } : Jvm.MethodName)) ∈ lw_all := lw_g (lw_at lw_m4 1 rfl) rfl
theorem q837 : (Jvm.Cond.methodLink "SwarmPlanner" (228 : Nat) ({ cls := "java/util/PriorityQueue", name := "remove", desc := "()Ljava/lang/Object;" } : Jvm.MethodName)) ∈ lw_all := lw_g (lw_at lw_m4 14 rfl) rfl
theorem q854 : (Jvm.Cond.methodLink "SwarmPlanner" (234 : Nat) ({ cls := "java/util/ArrayList", name := "get", desc := "(I)Ljava/lang/Object;" } : Jvm.MethodName)) ∈ lw_all := lw_g (lw_at lw_m4 31 rfl) rfl
theorem q862 : (Jvm.Cond.methodLink "SwarmPlanner" (238 : Nat) ({ cls := "SwarmPlanner", name := "acts", desc := "(LSwarmPlanner$Member;)V" } : Jvm.MethodName)) ∈ lw_all := lw_g (lw_at lw_m4 39 rfl) rfl
theorem q863 : (Jvm.Cond.privateMethod ({ cls := "SwarmPlanner", name := "acts", desc := "(LSwarmPlanner$Member;)V" } : Jvm.MethodName)) ∈ lw_tbl := lw_at lw_m4 40 rfl
theorem q864 : (Jvm.Cond.instanceMethod ({ cls := "SwarmPlanner", name := "acts", desc := "(LSwarmPlanner$Member;)V" } : Jvm.MethodName)) ∈ lw_all := lw_g (lw_at lw_m4 41 rfl) rfl
theorem q865 : (Jvm.Cond.code ({ cls := "SwarmPlanner", name := "acts", desc := "(LSwarmPlanner$Member;)V" } : Jvm.MethodName) prog_1_method_27_code (4 : Nat) (Option.none : Option Jvm.ClassFile.FieldType)) ∈ lw_all := lw_g (lw_at lw_m4 42 rfl) rfl
theorem q866 : (Jvm.Cond.methodLink "SwarmPlanner" (176 : Nat) ({ cls := "SwarmPlanner", name := "freeFor", desc := "(LSwarmPlanner$Member;)I" } : Jvm.MethodName)) ∈ lw_all := lw_g (lw_at lw_m4 43 rfl) rfl
theorem q867 : (Jvm.Cond.privateMethod ({ cls := "SwarmPlanner", name := "freeFor", desc := "(LSwarmPlanner$Member;)I" } : Jvm.MethodName)) ∈ lw_tbl := lw_at lw_m4 44 rfl
theorem q868 : (Jvm.Cond.instanceMethod ({ cls := "SwarmPlanner", name := "freeFor", desc := "(LSwarmPlanner$Member;)I" } : Jvm.MethodName)) ∈ lw_all := lw_g (lw_at lw_m4 45 rfl) rfl
theorem q869 : (Jvm.Cond.code ({ cls := "SwarmPlanner", name := "freeFor", desc := "(LSwarmPlanner$Member;)I" } : Jvm.MethodName) prog_1_method_21_code (4 : Nat) (Option.some Jvm.ClassFile.FieldType.int)) ∈ lw_all := lw_g (lw_at lw_m4 46 rfl) rfl
theorem q870 : (Jvm.Cond.methodLink "SwarmPlanner" (158 : Nat) ({ cls := "SwarmPlanner", name := "isGood", desc := "(LSwarmPlanner$Member;I)Z" } : Jvm.MethodName)) ∈ lw_all := lw_g (lw_at lw_m4 47 rfl) rfl
theorem q871 : (Jvm.Cond.privateMethod ({ cls := "SwarmPlanner", name := "isGood", desc := "(LSwarmPlanner$Member;I)Z" } : Jvm.MethodName)) ∈ lw_tbl := lw_at lw_m4 48 rfl
theorem q872 : (Jvm.Cond.instanceMethod ({ cls := "SwarmPlanner", name := "isGood", desc := "(LSwarmPlanner$Member;I)Z" } : Jvm.MethodName)) ∈ lw_all := lw_g (lw_at lw_m4 49 rfl) rfl
theorem q873 : (Jvm.Cond.code ({ cls := "SwarmPlanner", name := "isGood", desc := "(LSwarmPlanner$Member;I)Z" } : Jvm.MethodName) prog_1_method_20_code (3 : Nat) (Option.some Jvm.ClassFile.FieldType.boolean)) ∈ lw_all := lw_g (lw_at lw_m4 50 rfl) rfl
theorem q874 : (Jvm.Cond.methodLink "SwarmPlanner" (162 : Nat) ({ cls := "SwarmPlanner$World", name := "isFree", desc := "(I)Z" } : Jvm.MethodName)) ∈ lw_all := lw_g (lw_at lw_m4 51 rfl) rfl
theorem q878 : (Jvm.Cond.methodLink "SwarmPlanner" (179 : Nat) ({ cls := "SwarmPlanner", name := "partnerOf", desc := "(LSwarmPlanner$Member;)LSwarmPlanner$Member;" } : Jvm.MethodName)) ∈ lw_all := lw_g (lw_at lw_m4 55 rfl) rfl
theorem q879 : (Jvm.Cond.privateMethod ({ cls := "SwarmPlanner", name := "partnerOf", desc := "(LSwarmPlanner$Member;)LSwarmPlanner$Member;" } : Jvm.MethodName)) ∈ lw_tbl := lw_at lw_m4 56 rfl
theorem q880 : (Jvm.Cond.instanceMethod ({ cls := "SwarmPlanner", name := "partnerOf", desc := "(LSwarmPlanner$Member;)LSwarmPlanner$Member;" } : Jvm.MethodName)) ∈ lw_all := lw_g (lw_at lw_m4 57 rfl) rfl
theorem q881 : (Jvm.Cond.code ({ cls := "SwarmPlanner", name := "partnerOf", desc := "(LSwarmPlanner$Member;)LSwarmPlanner$Member;" } : Jvm.MethodName) prog_1_method_23_code (4 : Nat) (Option.some (Jvm.ClassFile.FieldType.object "SwarmPlanner$Member"))) ∈ lw_all := lw_g (lw_at lw_m4 58 rfl) rfl
theorem q882 : (Jvm.Cond.methodLink "SwarmPlanner" (166 : Nat) ({ cls := "SwarmPlanner", name := "gains", desc := "(LSwarmPlanner$Member;LSwarmPlanner$Member;)Z" } : Jvm.MethodName)) ∈ lw_all := lw_g (lw_at lw_m4 59 rfl) rfl
theorem q883 : (Jvm.Cond.privateMethod ({ cls := "SwarmPlanner", name := "gains", desc := "(LSwarmPlanner$Member;LSwarmPlanner$Member;)Z" } : Jvm.MethodName)) ∈ lw_tbl := lw_at lw_m4 60 rfl
theorem q884 : (Jvm.Cond.instanceMethod ({ cls := "SwarmPlanner", name := "gains", desc := "(LSwarmPlanner$Member;LSwarmPlanner$Member;)Z" } : Jvm.MethodName)) ∈ lw_all := lw_g (lw_at lw_m4 61 rfl) rfl
theorem q885 : (Jvm.Cond.code ({ cls := "SwarmPlanner", name := "gains", desc := "(LSwarmPlanner$Member;LSwarmPlanner$Member;)Z" } : Jvm.MethodName) prog_1_method_22_code (3 : Nat) (Option.some Jvm.ClassFile.FieldType.boolean)) ∈ lw_all := lw_g (lw_at lw_m4 62 rfl) rfl
theorem q886 : (Jvm.Cond.methodLink "SwarmPlanner" (183 : Nat) ({ cls := "SwarmPlanner", name := "waitsOrGoes", desc := "(LSwarmPlanner$Member;)I" } : Jvm.MethodName)) ∈ lw_all := lw_g (lw_at lw_m4 63 rfl) rfl
theorem q887 : (Jvm.Cond.privateMethod ({ cls := "SwarmPlanner", name := "waitsOrGoes", desc := "(LSwarmPlanner$Member;)I" } : Jvm.MethodName)) ∈ lw_tbl := lw_at lw_m4 64 rfl
theorem q888 : (Jvm.Cond.instanceMethod ({ cls := "SwarmPlanner", name := "waitsOrGoes", desc := "(LSwarmPlanner$Member;)I" } : Jvm.MethodName)) ∈ lw_all := lw_g (lw_at lw_m4 65 rfl) rfl
theorem q889 : (Jvm.Cond.code ({ cls := "SwarmPlanner", name := "waitsOrGoes", desc := "(LSwarmPlanner$Member;)I" } : Jvm.MethodName) prog_1_method_26_code (3 : Nat) (Option.some Jvm.ClassFile.FieldType.int)) ∈ lw_all := lw_g (lw_at lw_m4 66 rfl) rfl
theorem q890 : (Jvm.Cond.methodLink "SwarmPlanner" (173 : Nat) ({ cls := "SwarmPlanner", name := "asideOf", desc := "(LSwarmPlanner$Member;)I" } : Jvm.MethodName)) ∈ lw_all := lw_g (lw_at lw_m4 67 rfl) rfl
theorem q891 : (Jvm.Cond.privateMethod ({ cls := "SwarmPlanner", name := "asideOf", desc := "(LSwarmPlanner$Member;)I" } : Jvm.MethodName)) ∈ lw_tbl := lw_at lw_m4 68 rfl
theorem q892 : (Jvm.Cond.instanceMethod ({ cls := "SwarmPlanner", name := "asideOf", desc := "(LSwarmPlanner$Member;)I" } : Jvm.MethodName)) ∈ lw_all := lw_g (lw_at lw_m4 69 rfl) rfl
theorem q893 : (Jvm.Cond.code ({ cls := "SwarmPlanner", name := "asideOf", desc := "(LSwarmPlanner$Member;)I" } : Jvm.MethodName) prog_1_method_24_code (4 : Nat) (Option.some Jvm.ClassFile.FieldType.int)) ∈ lw_all := lw_g (lw_at lw_m4 70 rfl) rfl
theorem q894 : (Jvm.Cond.methodLink "SwarmPlanner" (186 : Nat) ({ cls := "SwarmPlanner$World", name := "exchanges", desc := "(LSwarmPlanner$Member;LSwarmPlanner$Member;)V" } : Jvm.MethodName)) ∈ lw_all := lw_g (lw_at lw_m4 71 rfl) rfl
theorem q898 : (Jvm.Cond.methodLink "SwarmPlanner" (190 : Nat) ({ cls := "SwarmPlanner", name := "isExchanged", desc := "(LSwarmPlanner$Member;)V" } : Jvm.MethodName)) ∈ lw_all := lw_g (lw_at lw_m4 75 rfl) rfl
theorem q899 : (Jvm.Cond.privateMethod ({ cls := "SwarmPlanner", name := "isExchanged", desc := "(LSwarmPlanner$Member;)V" } : Jvm.MethodName)) ∈ lw_tbl := lw_at lw_m4 76 rfl
theorem q900 : (Jvm.Cond.instanceMethod ({ cls := "SwarmPlanner", name := "isExchanged", desc := "(LSwarmPlanner$Member;)V" } : Jvm.MethodName)) ∈ lw_all := lw_g (lw_at lw_m4 77 rfl) rfl
theorem q901 : (Jvm.Cond.code ({ cls := "SwarmPlanner", name := "isExchanged", desc := "(LSwarmPlanner$Member;)V" } : Jvm.MethodName) prog_1_method_25_code (2 : Nat) (Option.none : Option Jvm.ClassFile.FieldType)) ∈ lw_all := lw_g (lw_at lw_m4 78 rfl) rfl
theorem q902 : (Jvm.Cond.methodLink "SwarmPlanner" (349 : Nat) ({ cls := "SwarmPlanner", name := "elsewhere", desc := "()I" } : Jvm.MethodName)) ∈ lw_all := lw_g (lw_at lw_m4 79 rfl) rfl
theorem q903 : (Jvm.Cond.privateMethod ({ cls := "SwarmPlanner", name := "elsewhere", desc := "()I" } : Jvm.MethodName)) ∈ lw_tbl := lw_at lw_m4 80 rfl
theorem q904 : (Jvm.Cond.instanceMethod ({ cls := "SwarmPlanner", name := "elsewhere", desc := "()I" } : Jvm.MethodName)) ∈ lw_all := lw_g (lw_at lw_m4 81 rfl) rfl
theorem q905 : (Jvm.Cond.code ({ cls := "SwarmPlanner", name := "elsewhere", desc := "()I" } : Jvm.MethodName) prog_1_method_46_code (3 : Nat) (Option.some Jvm.ClassFile.FieldType.int)) ∈ lw_all := lw_g (lw_at lw_m4 82 rfl) rfl
theorem q907 : (Jvm.Cond.instanceMethod ({ cls := "SwarmPlanner", name := "execute", desc := "()I" } : Jvm.MethodName)) ∈ lw_all := lw_g (lw_at lw_m4 84 rfl) rfl
theorem q908 : (Jvm.Cond.selects "SwarmPlanner" ({ cls := "SwarmPlanner", name := "execute", desc := "()I" } : Jvm.MethodName) ({ cls := "SwarmPlanner", name := "execute", desc := "()I" } : Jvm.MethodName)) ∈ lw_all := lw_g (lw_at lw_m4 85 rfl) rfl
theorem q909 : (Jvm.Cond.codeWith ({ cls := "SwarmPlanner", name := "execute", desc := "()I" } : Jvm.MethodName) prog_1_method_50_code (4 : Nat) (Option.some Jvm.ClassFile.FieldType.int) [((0 : Nat), (16 : Nat), (23 : Nat), (335 : Nat)), ((0 : Nat), (16 : Nat), (39 : Nat), (0 : Nat)), ((23 : Nat), (32 : Nat), (39 : Nat), (0 : Nat))]) ∈ lw_all := lw_g (lw_at lw_m4 86 rfl) rfl
theorem q910 : (Jvm.Cond.methodLink "SwarmPlanner" (360 : Nat) ({ cls := "SwarmPlanner$Reader", name := "commands", desc := "()Ljava/util/ArrayList;" } : Jvm.MethodName)) ∈ lw_all := lw_g (lw_at lw_m4 87 rfl) rfl
theorem q945 : (Jvm.Cond.methodLink "SwarmPlanner" (364 : Nat) ({ cls := "SwarmPlanner", name := "carriesOut", desc := "(Ljava/util/ArrayList;)I" } : Jvm.MethodName)) ∈ lw_all := lw_g (lw_at lw_m4 122 rfl) rfl
theorem q946 : (Jvm.Cond.privateMethod ({ cls := "SwarmPlanner", name := "carriesOut", desc := "(Ljava/util/ArrayList;)I" } : Jvm.MethodName)) ∈ lw_tbl := lw_at lw_m4 123 rfl
theorem q947 : (Jvm.Cond.instanceMethod ({ cls := "SwarmPlanner", name := "carriesOut", desc := "(Ljava/util/ArrayList;)I" } : Jvm.MethodName)) ∈ lw_all := lw_g (lw_at lw_m4 124 rfl) rfl
theorem q948 : (Jvm.Cond.code ({ cls := "SwarmPlanner", name := "carriesOut", desc := "(Ljava/util/ArrayList;)I" } : Jvm.MethodName) prog_1_method_49_code (5 : Nat) (Option.some Jvm.ClassFile.FieldType.int)) ∈ lw_all := lw_g (lw_at lw_m4 125 rfl) rfl
theorem q949 : (Jvm.Cond.classLink "SwarmPlanner" (352 : Nat) "SwarmPlanner$Command") ∈ lw_all := lw_g (lw_at lw_m4 126 rfl) rfl
theorem q950 : (Jvm.Cond.methodLink "SwarmPlanner" (354 : Nat) ({ cls := "SwarmPlanner$Command", name := "against", desc := "()I" } : Jvm.MethodName)) ∈ lw_all := lw_g (lw_at lw_m4 127 rfl) rfl
theorem q966 : (Jvm.Cond.methodLink "SwarmPlanner" (357 : Nat) ({ cls := "SwarmPlanner$Command", name := "does", desc := "()V" } : Jvm.MethodName)) ∈ lw_all := lw_g (lw_at lw_m4 143 rfl) rfl
theorem q975 : (Jvm.Cond.instanceMethod ({ cls := "SwarmPlanner", name := "refusal", desc := "(I)I" } : Jvm.MethodName)) ∈ lw_all := lw_g (lw_at lw_m4 152 rfl) rfl
theorem q976 : (Jvm.Cond.selects "SwarmPlanner" ({ cls := "SwarmPlanner", name := "refusal", desc := "(I)I" } : Jvm.MethodName) ({ cls := "SwarmPlanner", name := "refusal", desc := "(I)I" } : Jvm.MethodName)) ∈ lw_all := lw_g (lw_at lw_m4 153 rfl) rfl
theorem q977 : (Jvm.Cond.code ({ cls := "SwarmPlanner", name := "refusal", desc := "(I)I" } : Jvm.MethodName) prog_1_method_51_code (2 : Nat) (Option.some Jvm.ClassFile.FieldType.int)) ∈ lw_all := lw_g (lw_at lw_m4 154 rfl) rfl
theorem q979 : (Jvm.Cond.instanceMethod ({ cls := "SwarmPlanner", name := "member", desc := "(II)I" } : Jvm.MethodName)) ∈ lw_all := lw_g (lw_at lw_m4 156 rfl) rfl
theorem q980 : (Jvm.Cond.selects "SwarmPlanner" ({ cls := "SwarmPlanner", name := "member", desc := "(II)I" } : Jvm.MethodName) ({ cls := "SwarmPlanner", name := "member", desc := "(II)I" } : Jvm.MethodName)) ∈ lw_all := lw_g (lw_at lw_m4 157 rfl) rfl
theorem q981 : (Jvm.Cond.code ({ cls := "SwarmPlanner", name := "member", desc := "(II)I" } : Jvm.MethodName) prog_1_method_52_code (4 : Nat) (Option.some Jvm.ClassFile.FieldType.int)) ∈ lw_all := lw_g (lw_at lw_m4 158 rfl) rfl
theorem q982 : (Jvm.Cond.methodLink "SwarmPlanner" (368 : Nat) ({ cls := "SwarmPlanner", name := "placeOf", desc := "(LSwarmPlanner$Member;)I" } : Jvm.MethodName)) ∈ lw_all := lw_g (lw_at lw_m4 159 rfl) rfl
theorem q983 : (Jvm.Cond.privateMethod ({ cls := "SwarmPlanner", name := "placeOf", desc := "(LSwarmPlanner$Member;)I" } : Jvm.MethodName)) ∈ lw_tbl := lw_at lw_m4 160 rfl
theorem q984 : (Jvm.Cond.instanceMethod ({ cls := "SwarmPlanner", name := "placeOf", desc := "(LSwarmPlanner$Member;)I" } : Jvm.MethodName)) ∈ lw_all := lw_g (lw_at lw_m4 161 rfl) rfl
theorem q985 : (Jvm.Cond.code ({ cls := "SwarmPlanner", name := "placeOf", desc := "(LSwarmPlanner$Member;)I" } : Jvm.MethodName) prog_1_method_12_code (2 : Nat) (Option.some Jvm.ClassFile.FieldType.int)) ∈ lw_all := lw_g (lw_at lw_m4 162 rfl) rfl
theorem q987 : (Jvm.Cond.instanceMethod ({ cls := "SwarmPlanner", name := "swarm", desc := "(I)I" } : Jvm.MethodName)) ∈ lw_all := lw_g (lw_at lw_m4 164 rfl) rfl
theorem q988 : (Jvm.Cond.selects "SwarmPlanner" ({ cls := "SwarmPlanner", name := "swarm", desc := "(I)I" } : Jvm.MethodName) ({ cls := "SwarmPlanner", name := "swarm", desc := "(I)I" } : Jvm.MethodName)) ∈ lw_all := lw_g (lw_at lw_m4 165 rfl) rfl
theorem q989 : (Jvm.Cond.code ({ cls := "SwarmPlanner", name := "swarm", desc := "(I)I" } : Jvm.MethodName) prog_1_method_53_code (2 : Nat) (Option.some Jvm.ClassFile.FieldType.int)) ∈ lw_all := lw_g (lw_at lw_m4 166 rfl) rfl
theorem q990 : (Jvm.Cond.methodLink "SwarmPlanner" (125 : Nat) ({ cls := "SwarmPlanner", name := "given", desc := "()I" } : Jvm.MethodName)) ∈ lw_all := lw_g (lw_at lw_m4 167 rfl) rfl
theorem q991 : (Jvm.Cond.privateMethod ({ cls := "SwarmPlanner", name := "given", desc := "()I" } : Jvm.MethodName)) ∈ lw_tbl := lw_at lw_m4 168 rfl
theorem q992 : (Jvm.Cond.instanceMethod ({ cls := "SwarmPlanner", name := "given", desc := "()I" } : Jvm.MethodName)) ∈ lw_all := lw_g (lw_at lw_m4 169 rfl) rfl
theorem q993 : (Jvm.Cond.code ({ cls := "SwarmPlanner", name := "given", desc := "()I" } : Jvm.MethodName) prog_1_method_14_code (3 : Nat) (Option.some Jvm.ClassFile.FieldType.int)) ∈ lw_all := lw_g (lw_at lw_m4 170 rfl) rfl
theorem q994 : (Jvm.Cond.methodLink "SwarmPlanner" (122 : Nat) ({ cls := "SwarmPlanner", name := "distances", desc := "()I" } : Jvm.MethodName)) ∈ lw_all := lw_g (lw_at lw_m4 171 rfl) rfl
theorem q995 : (Jvm.Cond.privateMethod ({ cls := "SwarmPlanner", name := "distances", desc := "()I" } : Jvm.MethodName)) ∈ lw_tbl := lw_at lw_m4 172 rfl
theorem q996 : (Jvm.Cond.instanceMethod ({ cls := "SwarmPlanner", name := "distances", desc := "()I" } : Jvm.MethodName)) ∈ lw_all := lw_g (lw_at lw_m4 173 rfl) rfl
theorem q997 : (Jvm.Cond.code ({ cls := "SwarmPlanner", name := "distances", desc := "()I" } : Jvm.MethodName) prog_1_method_15_code (3 : Nat) (Option.some Jvm.ClassFile.FieldType.int)) ∈ lw_all := lw_g (lw_at lw_m4 174 rfl) rfl
theorem q998 : (Jvm.Cond.methodLink "SwarmPlanner" (371 : Nat) ({ cls := "SwarmPlanner", name := "isFormed", desc := "()Z" } : Jvm.MethodName)) ∈ lw_all := lw_g (lw_at lw_m4 175 rfl) rfl
theorem q999 : (Jvm.Cond.privateMethod ({ cls := "SwarmPlanner", name := "isFormed", desc := "()Z" } : Jvm.MethodName)) ∈ lw_tbl := lw_at lw_m4 176 rfl
theorem q1000 : (Jvm.Cond.instanceMethod ({ cls := "SwarmPlanner", name := "isFormed", desc := "()Z" } : Jvm.MethodName)) ∈ lw_all := lw_g (lw_at lw_m4 177 rfl) rfl
theorem q1001 : (Jvm.Cond.code ({ cls := "SwarmPlanner", name := "isFormed", desc := "()Z" } : Jvm.MethodName) prog_1_method_16_code (2 : Nat) (Option.some Jvm.ClassFile.FieldType.boolean)) ∈ lw_all := lw_g (lw_at lw_m4 178 rfl) rfl
theorem q1003 : (Jvm.Cond.instanceMethod ({ cls := "SwarmPlanner", name := "cell", desc := "(II)I" } : Jvm.MethodName)) ∈ lw_all := lw_g (lw_at lw_m4 180 rfl) rfl
theorem q1004 : (Jvm.Cond.selects "SwarmPlanner" ({ cls := "SwarmPlanner", name := "cell", desc := "(II)I" } : Jvm.MethodName) ({ cls := "SwarmPlanner", name := "cell", desc := "(II)I" } : Jvm.MethodName)) ∈ lw_all := lw_g (lw_at lw_m4 181 rfl) rfl
theorem q1005 : (Jvm.Cond.code ({ cls := "SwarmPlanner", name := "cell", desc := "(II)I" } : Jvm.MethodName) prog_1_method_57_code (3 : Nat) (Option.some Jvm.ClassFile.FieldType.int)) ∈ lw_all := lw_g (lw_at lw_m4 182 rfl) rfl
theorem q1006 : (Jvm.Cond.methodLink "SwarmPlanner" (374 : Nat) ({ cls := "SwarmPlanner", name := "slotAt", desc := "(I)I" } : Jvm.MethodName)) ∈ lw_all := lw_g (lw_at lw_m4 183 rfl) rfl
theorem q1007 : (Jvm.Cond.privateMethod ({ cls := "SwarmPlanner", name := "slotAt", desc := "(I)I" } : Jvm.MethodName)) ∈ lw_tbl := lw_at lw_m4 184 rfl
theorem q1008 : (Jvm.Cond.instanceMethod ({ cls := "SwarmPlanner", name := "slotAt", desc := "(I)I" } : Jvm.MethodName)) ∈ lw_all := lw_g (lw_at lw_m4 185 rfl) rfl
theorem q1009 : (Jvm.Cond.code ({ cls := "SwarmPlanner", name := "slotAt", desc := "(I)I" } : Jvm.MethodName) prog_1_method_54_code (5 : Nat) (Option.some Jvm.ClassFile.FieldType.int)) ∈ lw_all := lw_g (lw_at lw_m4 186 rfl) rfl
theorem q1010 : (Jvm.Cond.methodLink "SwarmPlanner" (377 : Nat) ({ cls := "SwarmPlanner", name := "wayOf", desc := "(II)I" } : Jvm.MethodName)) ∈ lw_all := lw_g (lw_at lw_m4 187 rfl) rfl
theorem q1011 : (Jvm.Cond.privateMethod ({ cls := "SwarmPlanner", name := "wayOf", desc := "(II)I" } : Jvm.MethodName)) ∈ lw_tbl := lw_at lw_m4 188 rfl
theorem q1012 : (Jvm.Cond.instanceMethod ({ cls := "SwarmPlanner", name := "wayOf", desc := "(II)I" } : Jvm.MethodName)) ∈ lw_all := lw_g (lw_at lw_m4 189 rfl) rfl
theorem q1013 : (Jvm.Cond.code ({ cls := "SwarmPlanner", name := "wayOf", desc := "(II)I" } : Jvm.MethodName) prog_1_method_55_code (3 : Nat) (Option.some Jvm.ClassFile.FieldType.int)) ∈ lw_all := lw_g (lw_at lw_m4 190 rfl) rfl
theorem q1014 : (Jvm.Cond.methodLink "SwarmPlanner" (380 : Nat) ({ cls := "SwarmPlanner", name := "openAround", desc := "(I)I" } : Jvm.MethodName)) ∈ lw_all := lw_g (lw_at lw_m4 191 rfl) rfl
theorem q1015 : (Jvm.Cond.privateMethod ({ cls := "SwarmPlanner", name := "openAround", desc := "(I)I" } : Jvm.MethodName)) ∈ lw_tbl := lw_at lw_m4 192 rfl
theorem q1016 : (Jvm.Cond.instanceMethod ({ cls := "SwarmPlanner", name := "openAround", desc := "(I)I" } : Jvm.MethodName)) ∈ lw_all := lw_g (lw_at lw_m4 193 rfl) rfl
theorem q1017 : (Jvm.Cond.code ({ cls := "SwarmPlanner", name := "openAround", desc := "(I)I" } : Jvm.MethodName) prog_1_method_56_code (5 : Nat) (Option.some Jvm.ClassFile.FieldType.int)) ∈ lw_all := lw_g (lw_at lw_m4 194 rfl) rfl
theorem q1019 : (Jvm.Cond.instanceMethod ({ cls := "SwarmPlanner", name := "distance", desc := "(II)I" } : Jvm.MethodName)) ∈ lw_all := lw_g (lw_at lw_m4 196 rfl) rfl
theorem q1020 : (Jvm.Cond.selects "SwarmPlanner" ({ cls := "SwarmPlanner", name := "distance", desc := "(II)I" } : Jvm.MethodName) ({ cls := "SwarmPlanner", name := "distance", desc := "(II)I" } : Jvm.MethodName)) ∈ lw_all := lw_g (lw_at lw_m4 197 rfl) rfl
theorem q1021 : (Jvm.Cond.code ({ cls := "SwarmPlanner", name := "distance", desc := "(II)I" } : Jvm.MethodName) prog_1_method_58_code (3 : Nat) (Option.some Jvm.ClassFile.FieldType.int)) ∈ lw_all := lw_g (lw_at lw_m4 198 rfl) rfl
theorem q1023 : (Jvm.Cond.instanceMethod ({ cls := "SwarmPlanner", name := "slot", desc := "(II)I" } : Jvm.MethodName)) ∈ lw_all := lw_g (lw_at lw_m4 200 rfl) rfl
theorem q1024 : (Jvm.Cond.selects "SwarmPlanner" ({ cls := "SwarmPlanner", name := "slot", desc := "(II)I" } : Jvm.MethodName) ({ cls := "SwarmPlanner", name := "slot", desc := "(II)I" } : Jvm.MethodName)) ∈ lw_all := lw_g (lw_at lw_m4 201 rfl) rfl
theorem q1025 : (Jvm.Cond.code ({ cls := "SwarmPlanner", name := "slot", desc := "(II)I" } : Jvm.MethodName) prog_1_method_60_code (3 : Nat) (Option.some Jvm.ClassFile.FieldType.int)) ∈ lw_all := lw_g (lw_at lw_m4 202 rfl) rfl
theorem q1026 : (Jvm.Cond.methodLink "SwarmPlanner" (383 : Nat) ({ cls := "SwarmPlanner", name := "isShape", desc := "(I)Z" } : Jvm.MethodName)) ∈ lw_all := lw_g (lw_at lw_m4 203 rfl) rfl
theorem q1027 : (Jvm.Cond.privateMethod ({ cls := "SwarmPlanner", name := "isShape", desc := "(I)Z" } : Jvm.MethodName)) ∈ lw_tbl := lw_at lw_m4 204 rfl
theorem q1028 : (Jvm.Cond.instanceMethod ({ cls := "SwarmPlanner", name := "isShape", desc := "(I)Z" } : Jvm.MethodName)) ∈ lw_all := lw_g (lw_at lw_m4 205 rfl) rfl
theorem q1029 : (Jvm.Cond.code ({ cls := "SwarmPlanner", name := "isShape", desc := "(I)Z" } : Jvm.MethodName) prog_1_method_59_code (2 : Nat) (Option.some Jvm.ClassFile.FieldType.boolean)) ∈ lw_all := lw_g (lw_at lw_m4 206 rfl) rfl
theorem q1030 : (Jvm.Cond.methodLink "SwarmPlanner" (386 : Nat) ({ cls := "SwarmPlanner$Shape", name := "told", desc := "(I)I" } : Jvm.MethodName)) ∈ lw_all := lw_g (lw_at lw_m4 207 rfl) rfl
theorem q1037 : (Jvm.Cond.instanceMethod ({ cls := "SwarmPlanner", name := "recognized", desc := "(I)I" } : Jvm.MethodName)) ∈ lw_all := lw_g (lw_at lw_m4 214 rfl) rfl
theorem q1038 : (Jvm.Cond.selects "SwarmPlanner" ({ cls := "SwarmPlanner", name := "recognized", desc := "(I)I" } : Jvm.MethodName) ({ cls := "SwarmPlanner", name := "recognized", desc := "(I)I" } : Jvm.MethodName)) ∈ lw_all := lw_g (lw_at lw_m4 215 rfl) rfl
theorem q1039 : (Jvm.Cond.code ({ cls := "SwarmPlanner", name := "recognized", desc := "(I)I" } : Jvm.MethodName) prog_1_method_62_code (4 : Nat) (Option.some Jvm.ClassFile.FieldType.int)) ∈ lw_all := lw_g (lw_at lw_m4 216 rfl) rfl
theorem q1040 : (Jvm.Cond.methodLink "SwarmPlanner" (393 : Nat) ({ cls := "SwarmPlanner", name := "isSeen", desc := "(LSwarmPlanner$Shape;I)Z" } : Jvm.MethodName)) ∈ lw_all := lw_g (lw_at lw_m4 217 rfl) rfl
theorem q1041 : (Jvm.Cond.privateMethod ({ cls := "SwarmPlanner", name := "isSeen", desc := "(LSwarmPlanner$Shape;I)Z" } : Jvm.MethodName)) ∈ lw_tbl := lw_at lw_m4 218 rfl
theorem q1042 : (Jvm.Cond.instanceMethod ({ cls := "SwarmPlanner", name := "isSeen", desc := "(LSwarmPlanner$Shape;I)Z" } : Jvm.MethodName)) ∈ lw_all := lw_g (lw_at lw_m4 219 rfl) rfl
theorem q1043 : (Jvm.Cond.code ({ cls := "SwarmPlanner", name := "isSeen", desc := "(LSwarmPlanner$Shape;I)Z" } : Jvm.MethodName) prog_1_method_61_code (5 : Nat) (Option.some Jvm.ClassFile.FieldType.boolean)) ∈ lw_all := lw_g (lw_at lw_m4 220 rfl) rfl
theorem q1044 : (Jvm.Cond.methodLink "SwarmPlanner" (389 : Nat) ({ cls := "SwarmPlanner$Shape", name := "lies", desc := "(III[I)Z" } : Jvm.MethodName)) ∈ lw_all := lw_g (lw_at lw_m4 221 rfl) rfl
theorem q1058 : (Jvm.Cond.instanceMethod ({ cls := "SwarmPlanner", name := "healed", desc := "(I)I" } : Jvm.MethodName)) ∈ lw_all := lw_g (lw_at lw_m4 235 rfl) rfl
theorem q1059 : (Jvm.Cond.selects "SwarmPlanner" ({ cls := "SwarmPlanner", name := "healed", desc := "(I)I" } : Jvm.MethodName) ({ cls := "SwarmPlanner", name := "healed", desc := "(I)I" } : Jvm.MethodName)) ∈ lw_all := lw_g (lw_at lw_m4 236 rfl) rfl
theorem q1060 : (Jvm.Cond.code ({ cls := "SwarmPlanner", name := "healed", desc := "(I)I" } : Jvm.MethodName) prog_1_method_65_code (2 : Nat) (Option.some Jvm.ClassFile.FieldType.int)) ∈ lw_all := lw_g (lw_at lw_m4 237 rfl) rfl
theorem q1061 : (Jvm.Cond.methodLink "SwarmPlanner" (400 : Nat) ({ cls := "SwarmPlanner", name := "thinks", desc := "(II)I" } : Jvm.MethodName)) ∈ lw_all := lw_g (lw_at lw_m4 238 rfl) rfl
theorem q1062 : (Jvm.Cond.privateMethod ({ cls := "SwarmPlanner", name := "thinks", desc := "(II)I" } : Jvm.MethodName)) ∈ lw_tbl := lw_at lw_m4 239 rfl
theorem q1063 : (Jvm.Cond.instanceMethod ({ cls := "SwarmPlanner", name := "thinks", desc := "(II)I" } : Jvm.MethodName)) ∈ lw_all := lw_g (lw_at lw_m5 0 rfl) rfl
theorem q1064 : (Jvm.Cond.codeWith ({ cls := "SwarmPlanner", name := "thinks", desc := "(II)I" } : Jvm.MethodName) prog_1_method_64_code (6 : Nat) (Option.some Jvm.ClassFile.FieldType.int) [((17 : Nat), (45 : Nat), (53 : Nat), (0 : Nat)), ((53 : Nat), (55 : Nat), (53 : Nat), (0 : Nat))]) ∈ lw_all := lw_g (lw_at lw_m5 1 rfl) rfl
theorem q1065 : (Jvm.Cond.methodLink "SwarmPlanner" (397 : Nat) ({ cls := "SwarmPlanner", name := "formsWithin", desc := "(I)I" } : Jvm.MethodName)) ∈ lw_all := lw_g (lw_at lw_m5 2 rfl) rfl
theorem q1066 : (Jvm.Cond.privateMethod ({ cls := "SwarmPlanner", name := "formsWithin", desc := "(I)I" } : Jvm.MethodName)) ∈ lw_tbl := lw_at lw_m5 3 rfl
theorem q1067 : (Jvm.Cond.instanceMethod ({ cls := "SwarmPlanner", name := "formsWithin", desc := "(I)I" } : Jvm.MethodName)) ∈ lw_all := lw_g (lw_at lw_m5 4 rfl) rfl
theorem q1068 : (Jvm.Cond.code ({ cls := "SwarmPlanner", name := "formsWithin", desc := "(I)I" } : Jvm.MethodName) prog_1_method_63_code (3 : Nat) (Option.some Jvm.ClassFile.FieldType.int)) ∈ lw_all := lw_g (lw_at lw_m5 5 rfl) rfl
theorem q1070 : (Jvm.Cond.instanceMethod ({ cls := "SwarmPlanner", name := "healedWithout", desc := "(II)I" } : Jvm.MethodName)) ∈ lw_all := lw_g (lw_at lw_m5 7 rfl) rfl
theorem q1071 : (Jvm.Cond.selects "SwarmPlanner" ({ cls := "SwarmPlanner", name := "healedWithout", desc := "(II)I" } : Jvm.MethodName) ({ cls := "SwarmPlanner", name := "healedWithout", desc := "(II)I" } : Jvm.MethodName)) ∈ lw_all := lw_g (lw_at lw_m5 8 rfl) rfl
theorem q1072 : (Jvm.Cond.code ({ cls := "SwarmPlanner", name := "healedWithout", desc := "(II)I" } : Jvm.MethodName) prog_1_method_66_code (3 : Nat) (Option.some Jvm.ClassFile.FieldType.int)) ∈ lw_all := lw_g (lw_at lw_m5 9 rfl) rfl
theorem q1074 : (Jvm.Cond.instanceMethod ({ cls := "SwarmPlanner", name := "again", desc := "()I" } : Jvm.MethodName)) ∈ lw_all := lw_g (lw_at lw_m5 11 rfl) rfl
theorem q1075 : (Jvm.Cond.selects "SwarmPlanner" ({ cls := "SwarmPlanner", name := "again", desc := "()I" } : Jvm.MethodName) ({ cls := "SwarmPlanner", name := "again", desc := "()I" } : Jvm.MethodName)) ∈ lw_all := lw_g (lw_at lw_m5 12 rfl) rfl
theorem q1076 : (Jvm.Cond.code ({ cls := "SwarmPlanner", name := "again", desc := "()I" } : Jvm.MethodName) prog_1_method_69_code (6 : Nat) (Option.some Jvm.ClassFile.FieldType.int)) ∈ lw_all := lw_g (lw_at lw_m5 13 rfl) rfl
theorem q1077 : (Jvm.Cond.methodLink "SwarmPlanner" (417 : Nat) ({ cls := "SwarmPlanner", name := "goesOn", desc := "(I)V" } : Jvm.MethodName)) ∈ lw_all := lw_g (lw_at lw_m5 14 rfl) rfl
theorem q1078 : (Jvm.Cond.privateMethod ({ cls := "SwarmPlanner", name := "goesOn", desc := "(I)V" } : Jvm.MethodName)) ∈ lw_tbl := lw_at lw_m5 15 rfl
theorem q1079 : (Jvm.Cond.instanceMethod ({ cls := "SwarmPlanner", name := "goesOn", desc := "(I)V" } : Jvm.MethodName)) ∈ lw_all := lw_g (lw_at lw_m5 16 rfl) rfl
theorem q1080 : (Jvm.Cond.code ({ cls := "SwarmPlanner", name := "goesOn", desc := "(I)V" } : Jvm.MethodName) prog_1_method_68_code (3 : Nat) (Option.none : Option Jvm.ClassFile.FieldType)) ∈ lw_all := lw_g (lw_at lw_m5 17 rfl) rfl
theorem q1081 : (Jvm.Cond.methodLink "SwarmPlanner" (408 : Nat) ({ cls := "SwarmPlanner", name := "givesTo", desc := "(II)V" } : Jvm.MethodName)) ∈ lw_all := lw_g (lw_at lw_m5 18 rfl) rfl
theorem q1082 : (Jvm.Cond.privateMethod ({ cls := "SwarmPlanner", name := "givesTo", desc := "(II)V" } : Jvm.MethodName)) ∈ lw_tbl := lw_at lw_m5 19 rfl
theorem q1083 : (Jvm.Cond.instanceMethod ({ cls := "SwarmPlanner", name := "givesTo", desc := "(II)V" } : Jvm.MethodName)) ∈ lw_all := lw_g (lw_at lw_m5 20 rfl) rfl
theorem q1084 : (Jvm.Cond.code ({ cls := "SwarmPlanner", name := "givesTo", desc := "(II)V" } : Jvm.MethodName) prog_1_method_67_code (5 : Nat) (Option.none : Option Jvm.ClassFile.FieldType)) ∈ lw_all := lw_g (lw_at lw_m5 21 rfl) rfl
theorem q1085 : (Jvm.Cond.methodLink "SwarmPlanner" (403 : Nat) ({ cls := "java/lang/Math", name := "min", desc := "(II)I" } : Jvm.MethodName)) ∈ lw_all := lw_g (lw_at lw_m5 22 rfl) rfl
theorem q1086 : (Jvm.Cond.methodLink "SwarmPlanner" (411 : Nat) ({ cls := "java/lang/System", name := "arraycopy", desc := "(Ljava/lang/Object;ILjava/lang/Object;II)V" } : Jvm.MethodName)) ∈ lw_all := lw_g (lw_at lw_m5 23 rfl) rfl
theorem q1088 : (Jvm.Cond.instanceMethod ({ cls := "SwarmPlanner", name := "account", desc := "(I)I" } : Jvm.MethodName)) ∈ lw_all := lw_g (lw_at lw_m5 25 rfl) rfl
theorem q1089 : (Jvm.Cond.selects "SwarmPlanner" ({ cls := "SwarmPlanner", name := "account", desc := "(I)I" } : Jvm.MethodName) ({ cls := "SwarmPlanner", name := "account", desc := "(I)I" } : Jvm.MethodName)) ∈ lw_all := lw_g (lw_at lw_m5 26 rfl) rfl
theorem q1090 : (Jvm.Cond.code ({ cls := "SwarmPlanner", name := "account", desc := "(I)I" } : Jvm.MethodName) prog_1_method_70_code (2 : Nat) (Option.some Jvm.ClassFile.FieldType.int)) ∈ lw_all := lw_g (lw_at lw_m5 27 rfl) rfl
theorem q1092 : (Jvm.Cond.instanceMethod ({ cls := "SwarmPlanner", name := "back", desc := "()I" } : Jvm.MethodName)) ∈ lw_all := lw_g (lw_at lw_m5 29 rfl) rfl
theorem q1093 : (Jvm.Cond.selects "SwarmPlanner" ({ cls := "SwarmPlanner", name := "back", desc := "()I" } : Jvm.MethodName) ({ cls := "SwarmPlanner", name := "back", desc := "()I" } : Jvm.MethodName)) ∈ lw_all := lw_g (lw_at lw_m5 30 rfl) rfl
theorem q1094 : (Jvm.Cond.code ({ cls := "SwarmPlanner", name := "back", desc := "()I" } : Jvm.MethodName) prog_1_method_71_code (1 : Nat) (Option.some Jvm.ClassFile.FieldType.int)) ∈ lw_all := lw_g (lw_at lw_m5 31 rfl) rfl
theorem q1095 : (Jvm.Cond.methodLink "SwarmPlanner" (420 : Nat) ({ cls := "java/util/ArrayList", name := "isEmpty", desc := "()Z" } : Jvm.MethodName)) ∈ lw_all := lw_g (lw_at lw_m5 32 rfl) rfl
theorem q1100 : (Jvm.Cond.instanceMethod ({ cls := "SwarmPlanner", name := "image", desc := "()I" } : Jvm.MethodName)) ∈ lw_all := lw_g (lw_at lw_m5 37 rfl) rfl
theorem q1101 : (Jvm.Cond.selects "SwarmPlanner" ({ cls := "SwarmPlanner", name := "image", desc := "()I" } : Jvm.MethodName) ({ cls := "SwarmPlanner", name := "image", desc := "()I" } : Jvm.MethodName)) ∈ lw_all := lw_g (lw_at lw_m5 38 rfl) rfl
theorem q1102 : (Jvm.Cond.code ({ cls := "SwarmPlanner", name := "image", desc := "()I" } : Jvm.MethodName) prog_1_method_72_code (1 : Nat) (Option.some Jvm.ClassFile.FieldType.int)) ∈ lw_all := lw_g (lw_at lw_m5 39 rfl) rfl
theorem q1104 : (Jvm.Cond.instanceMethod ({ cls := "SwarmPlanner", name := "undo", desc := "()I" } : Jvm.MethodName)) ∈ lw_all := lw_g (lw_at lw_m5 41 rfl) rfl
theorem q1105 : (Jvm.Cond.selects "SwarmPlanner" ({ cls := "SwarmPlanner", name := "undo", desc := "()I" } : Jvm.MethodName) ({ cls := "SwarmPlanner", name := "undo", desc := "()I" } : Jvm.MethodName)) ∈ lw_all := lw_g (lw_at lw_m5 42 rfl) rfl
theorem q1106 : (Jvm.Cond.code ({ cls := "SwarmPlanner", name := "undo", desc := "()I" } : Jvm.MethodName) prog_1_method_73_code (1 : Nat) (Option.some Jvm.ClassFile.FieldType.int)) ∈ lw_all := lw_g (lw_at lw_m5 43 rfl) rfl
theorem q1108 : (Jvm.Cond.instanceMethod ({ cls := "SwarmPlanner", name := "count", desc := "(I)I" } : Jvm.MethodName)) ∈ lw_all := lw_g (lw_at lw_m5 45 rfl) rfl
theorem q1109 : (Jvm.Cond.selects "SwarmPlanner" ({ cls := "SwarmPlanner", name := "count", desc := "(I)I" } : Jvm.MethodName) ({ cls := "SwarmPlanner", name := "count", desc := "(I)I" } : Jvm.MethodName)) ∈ lw_all := lw_g (lw_at lw_m5 46 rfl) rfl
theorem q1110 : (Jvm.Cond.code ({ cls := "SwarmPlanner", name := "count", desc := "(I)I" } : Jvm.MethodName) prog_1_method_75_code (2 : Nat) (Option.some Jvm.ClassFile.FieldType.int)) ∈ lw_all := lw_g (lw_at lw_m5 47 rfl) rfl
theorem q1111 : (Jvm.Cond.methodLink "SwarmPlanner" (424 : Nat) ({ cls := "SwarmPlanner", name := "shapes", desc := "()I" } : Jvm.MethodName)) ∈ lw_all := lw_g (lw_at lw_m5 48 rfl) rfl
theorem q1112 : (Jvm.Cond.privateMethod ({ cls := "SwarmPlanner", name := "shapes", desc := "()I" } : Jvm.MethodName)) ∈ lw_tbl := lw_at lw_m5 49 rfl
theorem q1113 : (Jvm.Cond.instanceMethod ({ cls := "SwarmPlanner", name := "shapes", desc := "()I" } : Jvm.MethodName)) ∈ lw_all := lw_g (lw_at lw_m5 50 rfl) rfl
theorem q1114 : (Jvm.Cond.code ({ cls := "SwarmPlanner", name := "shapes", desc := "()I" } : Jvm.MethodName) prog_1_method_74_code (3 : Nat) (Option.some Jvm.ClassFile.FieldType.int)) ∈ lw_all := lw_g (lw_at lw_m5 51 rfl) rfl
theorem q1485 : (Jvm.Cond.castable "SwarmPlanner" "java/lang/Object") ∈ lw_tbl := lw_at lw_m6 182 rfl
theorem in_X0 : ∀ w ∈ wsX00, w ∈ lw_all := lw_in wsX00 [249, 251, 253, 255, 257, 259, 261, 263, 265, 267, 269, 271, 273, 275, 277, 279, 281, 283, 285, 287, 289] (by decide +kernel) (by decide +kernel)
