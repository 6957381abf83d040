/-! SwarmPlanner$Member -/
set_option maxRecDepth 100000
def RX4 : String := "SwarmPlanner$Member"
def TX4 : u_T := fun k => match k with
  | 0 => ("SwarmPlanner$Member", "number", "I", true)
  | 1 => ("SwarmPlanner$Member", "cell", "I", false)
  | 2 => ("SwarmPlanner$Member", "reason", "I", false)
  | 3 => ("SwarmPlanner$Member", "waiting", "I", false)
  | 4 => ("SwarmPlanner$Member", "steps", "I", false)
  | 5 => ("SwarmPlanner$Member", "waits", "I", false)
  | _ => ("SwarmPlanner$Member", "rounds", "I", false)
def tyX4 : Nat → FieldType := fun k => match k with
  | 0 => .int
  | 1 => .int
  | 2 => .int
  | 3 => .int
  | 4 => .int
  | 5 => .int
  | _ => .int
abbrev wsX40 : List Cond := u_ws RX4 TX4 7
theorem nmX4 : ∀ a, a < 7 → ∀ b, b < 7 → a ≠ b → (TX4 a).2.1 ≠ (TX4 b).2.1 := by decide +kernel
theorem tyX4_ok : ∀ k, k < 7 → parseFieldDescriptor (TX4 k).2.2.1 = some (tyX4 k) := by decide +kernel
abbrev cX4_init : ByteArray := prog_5_method_2_code
def yX4_init : MethodName := ⟨RX4, "<init>", "(LSwarmPlanner$Member;)V"⟩
def dkwX4_init_2 : List UInt8 := [180, 0, 33, 181, 0, 33, 177]
abbrev dktX4_init_2 : List UInt8 := dkwX4_init_2 ++ []
def dkwX4_init_1 : List UInt8 := [180, 0, 24, 181, 0, 24, 42, 43, 180, 0, 27, 181, 0, 27, 42, 43, 180, 0, 30, 181, 0, 30, 42, 43]
abbrev dktX4_init_1 : List UInt8 := dkwX4_init_1 ++ dktX4_init_2
def dkwX4_init_0 : List UInt8 := [42, 43, 180, 0, 15, 43, 180, 0, 18, 183, 0, 21, 42, 43, 180, 0, 9, 181, 0, 9, 42, 43]
abbrev dktX4_init_0 : List UInt8 := dkwX4_init_0 ++ dktX4_init_1
theorem dksX4_init_0 : cX4_init.data.toList.drop 0 = dktX4_init_0 := by decide +kernel
theorem dksX4_init_1 : cX4_init.data.toList.drop 22 = dktX4_init_1 := dk_seg dksX4_init_0 22 rfl rfl
theorem dksX4_init_2 : cX4_init.data.toList.drop 46 = dktX4_init_2 := dk_seg dksX4_init_1 24 rfl rfl
theorem dX4_init_0 : decode cX4_init 0 = .ok (.aload_n 0, 1) := dk_42 (dk_at dksX4_init_0 0 rfl rfl)
theorem dX4_init_1 : decode cX4_init 1 = .ok (.aload_n 1, 1) := dk_43 (dk_at dksX4_init_0 1 rfl rfl)
theorem dX4_init_2 : decode cX4_init 2 = .ok (.getfield 15, 3) := dk_180 0 15 (dk_at dksX4_init_0 2 rfl rfl)
theorem dX4_init_5 : decode cX4_init 5 = .ok (.aload_n 1, 1) := dk_43 (dk_at dksX4_init_0 5 rfl rfl)
theorem dX4_init_6 : decode cX4_init 6 = .ok (.getfield 18, 3) := dk_180 0 18 (dk_at dksX4_init_0 6 rfl rfl)
theorem dX4_init_9 : decode cX4_init 9 = .ok (.invokespecial 21, 3) := dk_183 0 21 (dk_at dksX4_init_0 9 rfl rfl)
theorem dX4_init_12 : decode cX4_init 12 = .ok (.aload_n 0, 1) := dk_42 (dk_at dksX4_init_0 12 rfl rfl)
theorem dX4_init_13 : decode cX4_init 13 = .ok (.aload_n 1, 1) := dk_43 (dk_at dksX4_init_0 13 rfl rfl)
theorem dX4_init_14 : decode cX4_init 14 = .ok (.getfield 9, 3) := dk_180 0 9 (dk_at dksX4_init_0 14 rfl rfl)
theorem dX4_init_17 : decode cX4_init 17 = .ok (.putfield 9, 3) := dk_181 0 9 (dk_at dksX4_init_0 17 rfl rfl)
theorem dX4_init_20 : decode cX4_init 20 = .ok (.aload_n 0, 1) := dk_42 (dk_at dksX4_init_0 20 rfl rfl)
theorem dX4_init_21 : decode cX4_init 21 = .ok (.aload_n 1, 1) := dk_43 (dk_at dksX4_init_0 21 rfl rfl)
theorem dX4_init_22 : decode cX4_init 22 = .ok (.getfield 24, 3) := dk_180 0 24 (dk_at dksX4_init_1 0 rfl rfl)
theorem dX4_init_25 : decode cX4_init 25 = .ok (.putfield 24, 3) := dk_181 0 24 (dk_at dksX4_init_1 3 rfl rfl)
theorem dX4_init_28 : decode cX4_init 28 = .ok (.aload_n 0, 1) := dk_42 (dk_at dksX4_init_1 6 rfl rfl)
theorem dX4_init_29 : decode cX4_init 29 = .ok (.aload_n 1, 1) := dk_43 (dk_at dksX4_init_1 7 rfl rfl)
theorem dX4_init_30 : decode cX4_init 30 = .ok (.getfield 27, 3) := dk_180 0 27 (dk_at dksX4_init_1 8 rfl rfl)
theorem dX4_init_33 : decode cX4_init 33 = .ok (.putfield 27, 3) := dk_181 0 27 (dk_at dksX4_init_1 11 rfl rfl)
theorem dX4_init_36 : decode cX4_init 36 = .ok (.aload_n 0, 1) := dk_42 (dk_at dksX4_init_1 14 rfl rfl)
theorem dX4_init_37 : decode cX4_init 37 = .ok (.aload_n 1, 1) := dk_43 (dk_at dksX4_init_1 15 rfl rfl)
theorem dX4_init_38 : decode cX4_init 38 = .ok (.getfield 30, 3) := dk_180 0 30 (dk_at dksX4_init_1 16 rfl rfl)
theorem dX4_init_41 : decode cX4_init 41 = .ok (.putfield 30, 3) := dk_181 0 30 (dk_at dksX4_init_1 19 rfl rfl)
theorem dX4_init_44 : decode cX4_init 44 = .ok (.aload_n 0, 1) := dk_42 (dk_at dksX4_init_1 22 rfl rfl)
theorem dX4_init_45 : decode cX4_init 45 = .ok (.aload_n 1, 1) := dk_43 (dk_at dksX4_init_1 23 rfl rfl)
theorem dX4_init_46 : decode cX4_init 46 = .ok (.getfield 33, 3) := dk_180 0 33 (dk_at dksX4_init_2 0 rfl rfl)
theorem dX4_init_49 : decode cX4_init 49 = .ok (.putfield 33, 3) := dk_181 0 33 (dk_at dksX4_init_2 3 rfl rfl)
theorem dX4_init_52 : decode cX4_init 52 = .ok (.return_, 1) := dk_177 (dk_at dksX4_init_2 6 rfl rfl)
abbrev cX4_init_2 : ByteArray := prog_5_method_1_code
def yX4_init_2 : MethodName := ⟨RX4, "<init>", "(II)V"⟩
def dkwX4_init_2_0 : List UInt8 := [42, 183, 0, 3, 42, 16, 251, 181, 0, 9, 42, 27, 181, 0, 15, 42, 28, 181, 0, 18, 177]
abbrev dktX4_init_2_0 : List UInt8 := dkwX4_init_2_0 ++ []
theorem dksX4_init_2_0 : cX4_init_2.data.toList.drop 0 = dktX4_init_2_0 := by decide +kernel
theorem dX4_init_2_0 : decode cX4_init_2 0 = .ok (.aload_n 0, 1) := dk_42 (dk_at dksX4_init_2_0 0 rfl rfl)
theorem dX4_init_2_1 : decode cX4_init_2 1 = .ok (.invokespecial 3, 3) := dk_183 0 3 (dk_at dksX4_init_2_0 1 rfl rfl)
theorem dX4_init_2_4 : decode cX4_init_2 4 = .ok (.aload_n 0, 1) := dk_42 (dk_at dksX4_init_2_0 4 rfl rfl)
theorem dX4_init_2_5 : decode cX4_init_2 5 = .ok (.bipush (-5), 2) := dk_16 251 (dk_at dksX4_init_2_0 5 rfl rfl)
theorem dX4_init_2_7 : decode cX4_init_2 7 = .ok (.putfield 9, 3) := dk_181 0 9 (dk_at dksX4_init_2_0 7 rfl rfl)
theorem dX4_init_2_10 : decode cX4_init_2 10 = .ok (.aload_n 0, 1) := dk_42 (dk_at dksX4_init_2_0 10 rfl rfl)
theorem dX4_init_2_11 : decode cX4_init_2 11 = .ok (.iload_n 1, 1) := dk_27 (dk_at dksX4_init_2_0 11 rfl rfl)
theorem dX4_init_2_12 : decode cX4_init_2 12 = .ok (.putfield 15, 3) := dk_181 0 15 (dk_at dksX4_init_2_0 12 rfl rfl)
theorem dX4_init_2_15 : decode cX4_init_2 15 = .ok (.aload_n 0, 1) := dk_42 (dk_at dksX4_init_2_0 15 rfl rfl)
theorem dX4_init_2_16 : decode cX4_init_2 16 = .ok (.iload_n 2, 1) := dk_28 (dk_at dksX4_init_2_0 16 rfl rfl)
theorem dX4_init_2_17 : decode cX4_init_2 17 = .ok (.putfield 18, 3) := dk_181 0 18 (dk_at dksX4_init_2_0 17 rfl rfl)
theorem dX4_init_2_20 : decode cX4_init_2 20 = .ok (.return_, 1) := dk_177 (dk_at dksX4_init_2_0 20 rfl rfl)
theorem q112 : (Jvm.Cond.initialized "SwarmPlanner$Member") ∈ lw_all := lw_g (lw_at lw_m1 9 rfl) rfl
theorem q323 : (Jvm.Cond.instantiable "SwarmPlanner$Member" (7 : Nat)) ∈ lw_all := lw_g (lw_at lw_m1 220 rfl) rfl
theorem q325 : (Jvm.Cond.instanceMethod ({ cls := "SwarmPlanner$Member", name := "<init>", desc := "(LSwarmPlanner$Member;)V" } : Jvm.MethodName)) ∈ lw_all := lw_g (lw_at lw_m1 222 rfl) rfl
theorem q326 : (Jvm.Cond.code ({ cls := "SwarmPlanner$Member", name := "<init>", desc := "(LSwarmPlanner$Member;)V" } : Jvm.MethodName) prog_5_method_2_code (2 : Nat) (Option.none : Option Jvm.ClassFile.FieldType)) ∈ lw_all := lw_g (lw_at lw_m1 223 rfl) rfl
theorem q327 : (Jvm.Cond.methodLink "SwarmPlanner$Member" (21 : Nat) ({ cls := "SwarmPlanner$Member", name := "<init>", desc := "(II)V" } : Jvm.MethodName)) ∈ lw_all := lw_g (lw_at lw_m1 224 rfl) rfl
theorem q328 : (Jvm.Cond.instanceMethod ({ cls := "SwarmPlanner$Member", name := "<init>", desc := "(II)V" } : Jvm.MethodName)) ∈ lw_all := lw_g (lw_at lw_m1 225 rfl) rfl
theorem q329 : (Jvm.Cond.code ({ cls := "SwarmPlanner$Member", name := "<init>", desc := "(II)V" } : Jvm.MethodName) prog_5_method_1_code (3 : Nat) (Option.none : Option Jvm.ClassFile.FieldType)) ∈ lw_all := lw_g (lw_at lw_m1 226 rfl) rfl
theorem q330 : (Jvm.Cond.methodLink "SwarmPlanner$Member" (3 : Nat) ({ cls := "java/lang/Object", name := "<init>", desc := "()V" } : Jvm.MethodName)) ∈ lw_all := lw_g (lw_at lw_m1 227 rfl) rfl
theorem q331 : (Jvm.Cond.fieldLink "SwarmPlanner$Member" (15 : Nat) "SwarmPlanner$Member" "number" "I") ∈ lw_all := lw_g (lw_at lw_m1 228 rfl) rfl
theorem q336 : (Jvm.Cond.fieldLink "SwarmPlanner$Member" (18 : Nat) "SwarmPlanner$Member" "cell" "I") ∈ lw_all := lw_g (lw_at lw_m1 233 rfl) rfl
theorem q340 : (Jvm.Cond.fieldLink "SwarmPlanner$Member" (9 : Nat) "SwarmPlanner$Member" "reason" "I") ∈ lw_all := lw_g (lw_at lw_m1 237 rfl) rfl
theorem q342 : (Jvm.Cond.fieldLink "SwarmPlanner$Member" (24 : Nat) "SwarmPlanner$Member" "waiting" "I") ∈ lw_all := lw_g (lw_at lw_m1 239 rfl) rfl
theorem q344 : (Jvm.Cond.fieldLink "SwarmPlanner$Member" (27 : Nat) "SwarmPlanner$Member" "steps" "I") ∈ lw_all := lw_g (lw_at lw_m2 1 rfl) rfl
theorem q346 : (Jvm.Cond.fieldLink "SwarmPlanner$Member" (30 : Nat) "SwarmPlanner$Member" "waits" "I") ∈ lw_all := lw_g (lw_at lw_m2 3 rfl) rfl
theorem q348 : (Jvm.Cond.fieldLink "SwarmPlanner$Member" (33 : Nat) "SwarmPlanner$Member" "rounds" "I") ∈ lw_all := lw_g (lw_at lw_m2 5 rfl) rfl
theorem q350 : (Jvm.Cond.laysFinal "SwarmPlanner$Member" "SwarmPlanner$Member" "number" "I") ∈ lw_all := lw_g (lw_at lw_m2 7 rfl) rfl
theorem q351 : (Jvm.Cond.soleField "SwarmPlanner$Member" "number") ∈ lw_all := lw_g (lw_at lw_m2 8 rfl) rfl
theorem q352 : (Jvm.Cond.lays "SwarmPlanner$Member" "SwarmPlanner$Member" "cell" "I") ∈ lw_all := lw_g (lw_at lw_m2 9 rfl) rfl
theorem q353 : (Jvm.Cond.soleField "SwarmPlanner$Member" "cell") ∈ lw_all := lw_g (lw_at lw_m2 10 rfl) rfl
theorem q354 : (Jvm.Cond.lays "SwarmPlanner$Member" "SwarmPlanner$Member" "reason" "I") ∈ lw_all := lw_g (lw_at lw_m2 11 rfl) rfl
theorem q355 : (Jvm.Cond.soleField "SwarmPlanner$Member" "reason") ∈ lw_all := lw_g (lw_at lw_m2 12 rfl) rfl
theorem q356 : (Jvm.Cond.lays "SwarmPlanner$Member" "SwarmPlanner$Member" "waiting" "I") ∈ lw_all := lw_g (lw_at lw_m2 13 rfl) rfl
theorem q357 : (Jvm.Cond.soleField "SwarmPlanner$Member" "waiting") ∈ lw_all := lw_g (lw_at lw_m2 14 rfl) rfl
theorem q358 : (Jvm.Cond.lays "SwarmPlanner$Member" "SwarmPlanner$Member" "steps" "I") ∈ lw_all := lw_g (lw_at lw_m2 15 rfl) rfl
theorem q359 : (Jvm.Cond.soleField "SwarmPlanner$Member" "steps") ∈ lw_all := lw_g (lw_at lw_m2 16 rfl) rfl
theorem q360 : (Jvm.Cond.lays "SwarmPlanner$Member" "SwarmPlanner$Member" "waits" "I") ∈ lw_all := lw_g (lw_at lw_m2 17 rfl) rfl
theorem q361 : (Jvm.Cond.soleField "SwarmPlanner$Member" "waits") ∈ lw_all := lw_g (lw_at lw_m2 18 rfl) rfl
theorem q362 : (Jvm.Cond.lays "SwarmPlanner$Member" "SwarmPlanner$Member" "rounds" "I") ∈ lw_all := lw_g (lw_at lw_m2 19 rfl) rfl
theorem q363 : (Jvm.Cond.soleField "SwarmPlanner$Member" "rounds") ∈ lw_all := lw_g (lw_at lw_m2 20 rfl) rfl
theorem q364 : (Jvm.Cond.superclass "SwarmPlanner$Member" "java/lang/Object") ∈ lw_all := lw_g (lw_at lw_m2 21 rfl) rfl
theorem q401 : (Jvm.Cond.selects "SwarmPlanner$Member" ({ cls := "java/lang/Object", name := "getClass", desc := "()Ljava/lang/Class;" } : Jvm.MethodName) ({ cls := "java/lang/Object", name := "getClass", desc := "()Ljava/lang/Class;" } : Jvm.MethodName)) ∈ lw_all := lw_g (lw_at lw_m2 58 rfl) rfl
theorem q1483 : (Jvm.Cond.castable "SwarmPlanner$Member" "java/lang/Object") ∈ lw_tbl := lw_at lw_m6 180 rfl
theorem in_X4 : ∀ w ∈ wsX40, w ∈ lw_all := lw_in wsX40 [350, 352, 354, 356, 358, 360, 362] (by decide +kernel) (by decide +kernel)
