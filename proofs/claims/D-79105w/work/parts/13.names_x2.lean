/-! SwarmPlanner$ByDistance -/
set_option maxRecDepth 100000
def RX2 : String := "SwarmPlanner$ByDistance"
def TX2 : u_T := fun k => match k with
  | _ => ("SwarmPlanner$ByDistance", "this$0", "LSwarmPlanner;", true)
def tyX2 : Nat → FieldType := fun k => match k with
  | _ => .object "SwarmPlanner"
abbrev wsX20 : List Cond := u_ws RX2 TX2 1
theorem nmX2 : ∀ a, a < 1 → ∀ b, b < 1 → a ≠ b → (TX2 a).2.1 ≠ (TX2 b).2.1 := by decide +kernel
theorem tyX2_ok : ∀ k, k < 1 → parseFieldDescriptor (TX2 k).2.2.1 = some (tyX2 k) := by decide +kernel
abbrev cX2_init : ByteArray := prog_2_method_1_code
def yX2_init : MethodName := ⟨RX2, "<init>", "(LSwarmPlanner;)V"⟩
def dkwX2_init_0 : List UInt8 := [42, 43, 181, 0, 1, 42, 183, 0, 7, 177]
abbrev dktX2_init_0 : List UInt8 := dkwX2_init_0 ++ []
theorem dksX2_init_0 : cX2_init.data.toList.drop 0 = dktX2_init_0 := by decide +kernel
theorem dX2_init_0 : decode cX2_init 0 = .ok (.aload_n 0, 1) := dk_42 (dk_at dksX2_init_0 0 rfl rfl)
theorem dX2_init_1 : decode cX2_init 1 = .ok (.aload_n 1, 1) := dk_43 (dk_at dksX2_init_0 1 rfl rfl)
theorem dX2_init_2 : decode cX2_init 2 = .ok (.putfield 1, 3) := dk_181 0 1 (dk_at dksX2_init_0 2 rfl rfl)
theorem dX2_init_5 : decode cX2_init 5 = .ok (.aload_n 0, 1) := dk_42 (dk_at dksX2_init_0 5 rfl rfl)
theorem dX2_init_6 : decode cX2_init 6 = .ok (.invokespecial 7, 3) := dk_183 0 7 (dk_at dksX2_init_0 6 rfl rfl)
theorem dX2_init_9 : decode cX2_init 9 = .ok (.return_, 1) := dk_177 (dk_at dksX2_init_0 9 rfl rfl)
abbrev cX2_compare : ByteArray := prog_2_method_3_code
def yX2_compare : MethodName := ⟨RX2, "compare", "(Ljava/lang/Object;Ljava/lang/Object;)I"⟩
def dkwX2_compare_0 : List UInt8 := [42, 43, 192, 0, 20, 44, 192, 0, 20, 182, 0, 25, 172]
abbrev dktX2_compare_0 : List UInt8 := dkwX2_compare_0 ++ []
theorem dksX2_compare_0 : cX2_compare.data.toList.drop 0 = dktX2_compare_0 := by decide +kernel
theorem dX2_compare_0 : decode cX2_compare 0 = .ok (.aload_n 0, 1) := dk_42 (dk_at dksX2_compare_0 0 rfl rfl)
theorem dX2_compare_1 : decode cX2_compare 1 = .ok (.aload_n 1, 1) := dk_43 (dk_at dksX2_compare_0 1 rfl rfl)
theorem dX2_compare_2 : decode cX2_compare 2 = .ok (.checkcast 20, 3) := dk_192 0 20 (dk_at dksX2_compare_0 2 rfl rfl)
theorem dX2_compare_5 : decode cX2_compare 5 = .ok (.aload_n 2, 1) := dk_44 (dk_at dksX2_compare_0 5 rfl rfl)
theorem dX2_compare_6 : decode cX2_compare 6 = .ok (.checkcast 20, 3) := dk_192 0 20 (dk_at dksX2_compare_0 6 rfl rfl)
theorem dX2_compare_9 : decode cX2_compare 9 = .ok (.invokevirtual 25, 3) := dk_182 0 25 (dk_at dksX2_compare_0 9 rfl rfl)
theorem dX2_compare_12 : decode cX2_compare 12 = .ok (.ireturn, 1) := dk_172 (dk_at dksX2_compare_0 12 rfl rfl)
abbrev cX2_compare_2 : ByteArray := prog_2_method_2_code
def yX2_compare_2 : MethodName := ⟨RX2, "compare", "(LSwarmPlanner$Member;LSwarmPlanner$Member;)I"⟩
def dkwX2_compare_2_2 : List UInt8 := [172]
abbrev dktX2_compare_2_2 : List UInt8 := dkwX2_compare_2_2 ++ []
def dkwX2_compare_2_1 : List UInt8 := [182, 0, 13, 42, 180, 0, 1, 43, 182, 0, 13, 100, 167, 0, 12, 43, 180, 0, 19, 44, 180, 0, 19, 100]
abbrev dktX2_compare_2_1 : List UInt8 := dkwX2_compare_2_1 ++ dktX2_compare_2_2
def dkwX2_compare_2_0 : List UInt8 := [42, 180, 0, 1, 43, 182, 0, 13, 42, 180, 0, 1, 44, 182, 0, 13, 159, 0, 23, 42, 180, 0, 1, 44]
abbrev dktX2_compare_2_0 : List UInt8 := dkwX2_compare_2_0 ++ dktX2_compare_2_1
theorem dksX2_compare_2_0 : cX2_compare_2.data.toList.drop 0 = dktX2_compare_2_0 := by decide +kernel
theorem dksX2_compare_2_1 : cX2_compare_2.data.toList.drop 24 = dktX2_compare_2_1 := dk_seg dksX2_compare_2_0 24 rfl rfl
theorem dksX2_compare_2_2 : cX2_compare_2.data.toList.drop 48 = dktX2_compare_2_2 := dk_seg dksX2_compare_2_1 24 rfl rfl
theorem dX2_compare_2_0 : decode cX2_compare_2 0 = .ok (.aload_n 0, 1) := dk_42 (dk_at dksX2_compare_2_0 0 rfl rfl)
theorem dX2_compare_2_1 : decode cX2_compare_2 1 = .ok (.getfield 1, 3) := dk_180 0 1 (dk_at dksX2_compare_2_0 1 rfl rfl)
theorem dX2_compare_2_4 : decode cX2_compare_2 4 = .ok (.aload_n 1, 1) := dk_43 (dk_at dksX2_compare_2_0 4 rfl rfl)
theorem dX2_compare_2_5 : decode cX2_compare_2 5 = .ok (.invokevirtual 13, 3) := dk_182 0 13 (dk_at dksX2_compare_2_0 5 rfl rfl)
theorem dX2_compare_2_8 : decode cX2_compare_2 8 = .ok (.aload_n 0, 1) := dk_42 (dk_at dksX2_compare_2_0 8 rfl rfl)
theorem dX2_compare_2_9 : decode cX2_compare_2 9 = .ok (.getfield 1, 3) := dk_180 0 1 (dk_at dksX2_compare_2_0 9 rfl rfl)
theorem dX2_compare_2_12 : decode cX2_compare_2 12 = .ok (.aload_n 2, 1) := dk_44 (dk_at dksX2_compare_2_0 12 rfl rfl)
theorem dX2_compare_2_13 : decode cX2_compare_2 13 = .ok (.invokevirtual 13, 3) := dk_182 0 13 (dk_at dksX2_compare_2_0 13 rfl rfl)
theorem dX2_compare_2_16 : decode cX2_compare_2 16 = .ok (.if_icmp .eq 23, 3) := dk_159 0 23 (dk_at dksX2_compare_2_0 16 rfl rfl)
theorem dX2_compare_2_19 : decode cX2_compare_2 19 = .ok (.aload_n 0, 1) := dk_42 (dk_at dksX2_compare_2_0 19 rfl rfl)
theorem dX2_compare_2_20 : decode cX2_compare_2 20 = .ok (.getfield 1, 3) := dk_180 0 1 (dk_at dksX2_compare_2_0 20 rfl rfl)
theorem dX2_compare_2_23 : decode cX2_compare_2 23 = .ok (.aload_n 2, 1) := dk_44 (dk_at dksX2_compare_2_0 23 rfl rfl)
theorem dX2_compare_2_24 : decode cX2_compare_2 24 = .ok (.invokevirtual 13, 3) := dk_182 0 13 (dk_at dksX2_compare_2_1 0 rfl rfl)
theorem dX2_compare_2_27 : decode cX2_compare_2 27 = .ok (.aload_n 0, 1) := dk_42 (dk_at dksX2_compare_2_1 3 rfl rfl)
theorem dX2_compare_2_28 : decode cX2_compare_2 28 = .ok (.getfield 1, 3) := dk_180 0 1 (dk_at dksX2_compare_2_1 4 rfl rfl)
theorem dX2_compare_2_31 : decode cX2_compare_2 31 = .ok (.aload_n 1, 1) := dk_43 (dk_at dksX2_compare_2_1 7 rfl rfl)
theorem dX2_compare_2_32 : decode cX2_compare_2 32 = .ok (.invokevirtual 13, 3) := dk_182 0 13 (dk_at dksX2_compare_2_1 8 rfl rfl)
theorem dX2_compare_2_35 : decode cX2_compare_2 35 = .ok (.isub, 1) := dk_100 (dk_at dksX2_compare_2_1 11 rfl rfl)
theorem dX2_compare_2_36 : decode cX2_compare_2 36 = .ok (.goto 12, 3) := dk_167 0 12 (dk_at dksX2_compare_2_1 12 rfl rfl)
theorem dX2_compare_2_39 : decode cX2_compare_2 39 = .ok (.aload_n 1, 1) := dk_43 (dk_at dksX2_compare_2_1 15 rfl rfl)
theorem dX2_compare_2_40 : decode cX2_compare_2 40 = .ok (.getfield 19, 3) := dk_180 0 19 (dk_at dksX2_compare_2_1 16 rfl rfl)
theorem dX2_compare_2_43 : decode cX2_compare_2 43 = .ok (.aload_n 2, 1) := dk_44 (dk_at dksX2_compare_2_1 19 rfl rfl)
theorem dX2_compare_2_44 : decode cX2_compare_2 44 = .ok (.getfield 19, 3) := dk_180 0 19 (dk_at dksX2_compare_2_1 20 rfl rfl)
theorem dX2_compare_2_47 : decode cX2_compare_2 47 = .ok (.isub, 1) := dk_100 (dk_at dksX2_compare_2_1 23 rfl rfl)
theorem dX2_compare_2_48 : decode cX2_compare_2 48 = .ok (.ireturn, 1) := dk_172 (dk_at dksX2_compare_2_2 0 rfl rfl)
theorem q109 : (Jvm.Cond.initialized "SwarmPlanner$ByDistance") ∈ lw_all := lw_g (lw_at lw_m1 6 rfl) rfl
theorem q212 : (Jvm.Cond.instantiable "SwarmPlanner$ByDistance" (1 : Nat)) ∈ lw_all := lw_g (lw_at lw_m1 109 rfl) rfl
theorem q214 : (Jvm.Cond.instanceMethod ({ cls := "SwarmPlanner$ByDistance", name := "<init>", desc := "(LSwarmPlanner;)V" } : Jvm.MethodName)) ∈ lw_all := lw_g (lw_at lw_m1 111 rfl) rfl
theorem q215 : (Jvm.Cond.code ({ cls := "SwarmPlanner$ByDistance", name := "<init>", desc := "(LSwarmPlanner;)V" } : Jvm.MethodName) prog_2_method_1_code (2 : Nat) (Option.none : Option Jvm.ClassFile.FieldType)) ∈ lw_all := lw_g (lw_at lw_m1 112 rfl) rfl
theorem q216 : (Jvm.Cond.methodLink "SwarmPlanner$ByDistance" (7 : Nat) ({ cls := "java/lang/Object", name := "<init>", desc := "()V" } : Jvm.MethodName)) ∈ lw_all := lw_g (lw_at lw_m1 113 rfl) rfl
theorem q217 : (Jvm.Cond.fieldLink "SwarmPlanner$ByDistance" (1 : Nat) "SwarmPlanner$ByDistance" "this$0" "LSwarmPlanner;") ∈ lw_all := lw_g (lw_at lw_m1 114 rfl) rfl
theorem q218 : (Jvm.Cond.laysFinal "SwarmPlanner$ByDistance" "SwarmPlanner$ByDistance" "this$0" "LSwarmPlanner;") ∈ lw_all := lw_g (lw_at lw_m1 115 rfl) rfl
theorem q219 : (Jvm.Cond.soleField "SwarmPlanner$ByDistance" "this$0") ∈ lw_all := lw_g (lw_at lw_m1 116 rfl) rfl
theorem q220 : (Jvm.Cond.superclass "SwarmPlanner$ByDistance" "java/lang/Object") ∈ lw_all := lw_g (lw_at lw_m1 117 rfl) rfl
theorem q333 : (Jvm.Cond.fieldLinkNest "SwarmPlanner$ByDistance" (19 : Nat) "SwarmPlanner$Member" "number" "I" "SwarmPlanner") ∈ lw_tbl := lw_at lw_m1 230 rfl
theorem q398 : (Jvm.Cond.selects "SwarmPlanner$ByDistance" ({ cls := "java/lang/Object", name := "getClass", desc := "()Ljava/lang/Class;" } : Jvm.MethodName) ({ cls := "java/lang/Object", name := "getClass", desc := "()Ljava/lang/Class;" } : Jvm.MethodName)) ∈ lw_all := lw_g (lw_at lw_m2 55 rfl) rfl
theorem q800 : (Jvm.Cond.castable "SwarmPlanner$ByDistance" "java/util/Comparator") ∈ lw_tbl := lw_at lw_m3 217 rfl
theorem q801 : (Jvm.Cond.selects "SwarmPlanner$ByDistance" ({ cls := "java/util/Comparator", name := "compare", desc := "(Ljava/lang/Object;Ljava/lang/Object;)I" } : Jvm.MethodName) ({ cls := "SwarmPlanner$ByDistance", name := "compare", desc := "(Ljava/lang/Object;Ljava/lang/Object;)I" } : Jvm.MethodName)) ∈ lw_all := lw_g (lw_at lw_m3 218 rfl) rfl
theorem q802 : (Jvm.Cond.unhidden "SwarmPlanner$ByDistance" "compare" "(Ljava/lang/Object;Ljava/lang/Object;)I") ∈ lw_tbl := lw_at lw_m3 219 rfl
theorem q803 : (Jvm.Cond.instanceMethod ({ cls := "SwarmPlanner$ByDistance", name := "compare", desc := "(Ljava/lang/Object;Ljava/lang/Object;)I" } : Jvm.MethodName)) ∈ lw_all := lw_g (lw_at lw_m3 220 rfl) rfl
theorem q804 : (Jvm.Cond.publicMethod ({ cls := "SwarmPlanner$ByDistance", name := "compare", desc := "(Ljava/lang/Object;Ljava/lang/Object;)I" } : Jvm.MethodName)) ∈ lw_tbl := lw_at lw_m3 221 rfl
theorem q805 : (Jvm.Cond.code ({ cls := "SwarmPlanner$ByDistance", name := "compare", desc := "(Ljava/lang/Object;Ljava/lang/Object;)I" } : Jvm.MethodName) prog_2_method_3_code (3 : Nat) (Option.some Jvm.ClassFile.FieldType.int)) ∈ lw_all := lw_g (lw_at lw_m3 222 rfl) rfl
theorem q806 : (Jvm.Cond.classLink "SwarmPlanner$ByDistance" (20 : Nat) "SwarmPlanner$Member") ∈ lw_all := lw_g (lw_at lw_m3 223 rfl) rfl
theorem q807 : (Jvm.Cond.methodLink "SwarmPlanner$ByDistance" (25 : Nat) ({ cls := "SwarmPlanner$ByDistance", name := "compare", desc := "(LSwarmPlanner$Member;LSwarmPlanner$Member;)I" } : Jvm.MethodName)) ∈ lw_all := lw_g (lw_at lw_m3 224 rfl) rfl
theorem q808 : (Jvm.Cond.instanceMethod ({ cls := "SwarmPlanner$ByDistance", name := "compare", desc := "(LSwarmPlanner$Member;LSwarmPlanner$Member;)I" } : Jvm.MethodName)) ∈ lw_all := lw_g (lw_at lw_m3 225 rfl) rfl
theorem q809 : (Jvm.Cond.selects "SwarmPlanner$ByDistance" ({ cls := "SwarmPlanner$ByDistance", name := "compare", desc := "(LSwarmPlanner$Member;LSwarmPlanner$Member;)I" } : Jvm.MethodName) ({ cls := "SwarmPlanner$ByDistance", name := "compare", desc := "(LSwarmPlanner$Member;LSwarmPlanner$Member;)I" } : Jvm.MethodName)) ∈ lw_all := lw_g (lw_at lw_m3 226 rfl) rfl
theorem q810 : (Jvm.Cond.code ({ cls := "SwarmPlanner$ByDistance", name := "compare", desc := "(LSwarmPlanner$Member;LSwarmPlanner$Member;)I" } : Jvm.MethodName) prog_2_method_2_code (3 : Nat) (Option.some Jvm.ClassFile.FieldType.int)) ∈ lw_all := lw_g (lw_at lw_m3 227 rfl) rfl
theorem q811 : (Jvm.Cond.methodLinkNest "SwarmPlanner$ByDistance" (13 : Nat) ({ cls := "SwarmPlanner", name := "distanceOf", desc := "(LSwarmPlanner$Member;)I" } : Jvm.MethodName) "SwarmPlanner") ∈ lw_tbl := lw_at lw_m3 228 rfl
theorem q1488 : (Jvm.Cond.castable "SwarmPlanner$ByDistance" "java/lang/Object") ∈ lw_tbl := lw_at lw_m6 185 rfl
theorem in_X2 : ∀ w ∈ wsX20, w ∈ lw_all := lw_in wsX20 [218] (by decide +kernel) (by decide +kernel)
