/-! THE BRIDGE, continued: what the start gives -/
set_option maxRecDepth 100000
theorem aO2_spec {args : Array Value} {first s : State} {o : Option Outcome} {idx : List Nat} {t : FieldType} (h : (Cond.arrayOver (.array t)).holds args first o s idx = true) : ∃ comp c k, s.vm.classes[c]? = some k ∧ k.kind = .array comp (.array t) ∧ s.vm.findClass ("[" ++ (FieldType.array t).toString) = some c := by
  simp only [Cond.holds, Cond.value, beq_iff_eq] at h
  cases hc : s.vm.findClass (FieldType.array t).toString with
  | none => simp [hc] at h
  | some comp =>
    simp only [hc, Option.bind_some, Option.bind_eq_some_iff, Option.map_eq_some_iff] at h
    obtain ⟨c, hi, k, hk, hb⟩ := h
    cases hkind : k.kind with
    | array component ty =>
      rw [hkind] at hb
      simp at hb
      exact ⟨component, c, k, hk, by rw [hkind, hb.1], hb.2⟩
    | _ => rw [hkind] at hb; simp at hb
/-- classes -/
theorem start_classes {s : State} {b : Addr} (ht0 : ∀ w ∈ lw_tbl, w.before #[Value.ref b] s = true) : ∃ D : va_G, ∀ (c : Nat) (q : vw_C), clM[c]? = some q → u_Kn s q.1 q.2.1 q.2.2 (D.1 c) (D.2 c) := by
  obtain ⟨c0, i0, k0⟩ := u_known (C := RX0) (T := TX0) (N := 21) (n := 21) ht0 (fun w h => lw_all_tbl (in_X0 w h)) (ht0 _ (lw_all_tbl q128))
  obtain ⟨c1, i1, k1⟩ := u_known (C := RX1) (T := TX1) (N := 8) (n := 8) ht0 (fun w h => lw_all_tbl (in_X1 w h)) (ht0 _ (lw_all_tbl q136))
  obtain ⟨c2, i2, k2⟩ := u_known (C := RX2) (T := TX2) (N := 1) (n := 1) ht0 (fun w h => lw_all_tbl (in_X2 w h)) (ht0 _ (lw_all_tbl q212))
  obtain ⟨c3, i3, k3⟩ := u_known (C := RX3) (T := TX3) (N := 25) (n := 25) ht0 (fun w h => lw_all_tbl (in_X3 w h)) (ht0 _ (lw_all_tbl q1116))
  obtain ⟨c4, i4, k4⟩ := u_known (C := RX4) (T := TX4) (N := 7) (n := 7) ht0 (fun w h => lw_all_tbl (in_X4 w h)) (ht0 _ (lw_all_tbl q323))
  obtain ⟨c5, i5, k5⟩ := u_known (C := RX5) (T := TX5) (N := 6) (n := 6) ht0 (fun w h => lw_all_tbl (in_X5 w h)) (ht0 _ (lw_all_tbl q508))
  obtain ⟨c6, i6, k6⟩ := u_known (C := RX6) (T := TX6) (N := 7) (n := 7) ht0 (fun w h => lw_all_tbl (in_X6 w h)) (ht0 _ (lw_all_tbl q553))
  obtain ⟨c7, i7, k7⟩ := u_known (C := RX7) (T := TX7) (N := 3) (n := 3) ht0 (fun w h => lw_all_tbl (in_X7 w h)) (ht0 _ (lw_all_tbl q616))
  obtain ⟨c8, i8, k8⟩ := u_known (C := RX8) (T := TX8) (N := 4) (n := 4) ht0 (fun w h => lw_all_tbl (in_X8 w h)) (ht0 _ (lw_all_tbl q701))
  obtain ⟨c9, i9, k9⟩ := u_known (C := RX9) (T := TX9) (N := 4) (n := 4) ht0 (fun w h => lw_all_tbl (in_X9 w h)) (ht0 _ (lw_all_tbl q926))
  obtain ⟨c10, i10, k10⟩ := u_known (C := RJ2) (T := TJ2) (N := 3) (n := 3) ht0 (fun w h => lw_all_tbl (in_J2 w h)) (ht0 _ (lw_all_tbl q186))
  obtain ⟨c11, i11, k11⟩ := u_known (C := RJ11) (T := TJ11) (N := 4) (n := 4) ht0 (fun w h => lw_all_tbl (in_J11 w h)) (ht0 _ (lw_all_tbl q745))
  refine ⟨(fun k => match k with
    | 0 => c0
    | 1 => c1
    | 2 => c2
    | 3 => c3
    | 4 => c4
    | 5 => c5
    | 6 => c6
    | 7 => c7
    | 8 => c8
    | 9 => c9
    | 10 => c10
    | _ => c11, fun k => match k with
    | 0 => i0
    | 1 => i1
    | 2 => i2
    | 3 => i3
    | 4 => i4
    | 5 => i5
    | 6 => i6
    | 7 => i7
    | 8 => i8
    | 9 => i9
    | 10 => i10
    | _ => i11), ?_⟩
  intro c q hq
  match c, hq with
  | 0, hq => cases hq; exact k0
  | 1, hq => cases hq; exact k1
  | 2, hq => cases hq; exact k2
  | 3, hq => cases hq; exact k3
  | 4, hq => cases hq; exact k4
  | 5, hq => cases hq; exact k5
  | 6, hq => cases hq; exact k6
  | 7, hq => cases hq; exact k7
  | 8, hq => cases hq; exact k8
  | 9, hq => cases hq; exact k9
  | 10, hq => cases hq; exact k10
  | 11, hq => cases hq; exact k11
  | c + 12, hq => simp [clM] at hq
/-- array classes -/
theorem start_arrays {s : State} {b : Addr} (ht0 : ∀ w ∈ lw_tbl, w.before #[Value.ref b] s = true) : ∃ cA : Nat → ClassId, ∀ (k : Nat) (q : ClassId × FieldType), (tysM cA)[k]? = some q → ArrOfT s q.1 q.2 ∧ va_RA s q.1 q.2 := by
  obtain ⟨c0, k0, m0, f0, g0, e0⟩ := Cond.arrayClass_spec (ht0 _ (lw_all_tbl q181))
  obtain ⟨c1, k1, m1, f1, g1, e1⟩ := Cond.arrayClass_spec (ht0 _ (lw_all_tbl q182))
  obtain ⟨c2, k2, m2, f2, g2, e2⟩ := Cond.arrayClass_spec (ht0 _ (lw_all_tbl q292))
  obtain ⟨m3, c3, k3, f3, -, g3, e3, h3⟩ := Cond.arrayOver_spec (ht0 _ q414)
  obtain ⟨m4, c4, k4, f4, -, g4, e4, h4⟩ := Cond.arrayOver_spec (ht0 _ q142)
  obtain ⟨m5, c5, k5, f5, -, g5, e5, h5⟩ := Cond.arrayOver_spec (ht0 _ q144)
  obtain ⟨m6, c6, k6, g6, e6, h6⟩ := aO2_spec (ht0 _ q184)
  refine ⟨fun k => match k with
    | 0 => c0
    | 1 => c1
    | 2 => c2
    | 3 => c3
    | 4 => c4
    | 5 => c5
    | _ => c6, ?_⟩
  intro k q hq
  match k, hq with
  | 0, hq => cases hq; exact ⟨fun n z => ⟨fun k h => (by cases h), k0, g0, m0, e0⟩, f0⟩
  | 1, hq => cases hq; exact ⟨fun n z => ⟨fun k h => (by cases h), k1, g1, m1, e1⟩, f1⟩
  | 2, hq => cases hq; exact ⟨fun n z => ⟨fun k h => (by cases h), k2, g2, m2, e2⟩, f2⟩
  | 3, hq => cases hq; exact ⟨fun n z => ⟨fun k h => (by cases h), k3, g3, m3, e3⟩, k3, m3, g3, e3, f3, h3⟩
  | 4, hq => cases hq; exact ⟨fun n z => ⟨fun k h => (by cases h), k4, g4, m4, e4⟩, k4, m4, g4, e4, f4, h4⟩
  | 5, hq => cases hq; exact ⟨fun n z => ⟨fun k h => (by cases h), k5, g5, m5, e5⟩, k5, m5, g5, e5, f5, h5⟩
  | 6, hq => cases hq; exact ⟨fun n z => ⟨fun k h => (by cases h), k6, g6, m6, e6⟩, h6⟩
  | k + 7, hq => simp [tysM] at hq
theorem mir_ref {args : Array Value} {s : State} (h : (Cond.isRef (.mirror "[Ljava/lang/Object;")).before args s = true) : ∃ a : Nat, (Term.mirror "[Ljava/lang/Object;").eval #[] s none [] s = some (.ref a) := by
  cases hv : (Term.mirror "[Ljava/lang/Object;").eval args s none [] s with
  | none => simp [Cond.before, Cond.holds, Cond.value, hv] at h
  | some w =>
    have hv2 : (Term.mirror "[Ljava/lang/Object;").eval #[] s none [] s = some w := hv
    obtain ⟨cC, kC, a', hfc, hkC, hmir, ha⟩ := Term.mirror_spec hv
    subst ha
    exact ⟨a', hv2⟩
/-- the rest: statics, the four cells of the start, all together -/
theorem start_KS {s : State} {b : Addr} {L : Nat} {xs : Nat → Int32} (ht0 : ∀ w ∈ lw_tbl, w.before #[Value.ref b] s = true) (hX : va_X b L xs s s.heap) (hgv : (Jvm.Cond.and given_1 narrow_1).before #[Value.ref b] s = true) :
    ∃ (D : va_G) (cA : Nat → ClassId) (ro : Nat → MC → Prop) (sv : Nat → Option Nat) (e0 e1 d0 mir : Nat), KS D cA ro sv (fun q => s.heap.size ≤ q) s ∧ (ro b (.inl (3, L, xs)) ∧ ro e0 (.inl (3, 4, eastF)) ∧ ro e1 (.inl (3, 4, southF)) ∧ ro d0 (.inr (.inl (4, 0, fun _ => none)))) ∧
      (b < s.heap.size ∧ e0 < s.heap.size ∧ e1 < s.heap.size ∧ d0 < s.heap.size) ∧ (b ≠ e0 ∧ b ≠ e1 ∧ e0 ≠ e1 ∧ d0 ≠ b ∧ d0 ≠ e0 ∧ d0 ≠ e1) ∧ (sv 0 = some e0 ∧ sv 1 = some e1 ∧ sv 2 = some d0 ∧ sv 100 = some mir) := by
  have hs := flat_of_before _ hgv
  obtain ⟨D, hD⟩ := start_classes ht0
  obtain ⟨cA, hA⟩ := start_arrays ht0
  have hall : ∀ a : Nat, a < s.heap.size → ¬ (fun q => s.heap.size ≤ q) a := fun a h1 h2 => by omega
  have el : ∀ {t : Term} {j v : Int32}, (Cond.eq (.elem t (.int j)) (.int v)) ∈ flatC (Jvm.Cond.and given_1 narrow_1) → (Term.elem t (.int j)).eval #[Value.ref b] s none [] s = some (.int v) := fun h => va_eqt (hs _ h)
  obtain ⟨e0, he0, hT0⟩ := va_Tof (tm := .static "SwarmPlanner" "EAST" "[I") (ty := .int) (N := 4) (f := fun j => .int (eastF j)) (A := fun _ => False) (by decide) (hs _ (by decide +kernel)) (va_eqt (z := 4) (hs _ (by decide +kernel))) (fun j hj => by
    match j, hj with
    | 0, _ => exact el (by decide +kernel)
    | 1, _ => exact el (by decide +kernel)
    | 2, _ => exact el (by decide +kernel)
    | 3, _ => exact el (by decide +kernel)
    | j + 4, hj => omega) (fun _ _ h => h)
  obtain ⟨e1, he1, hT1⟩ := va_Tof (tm := .static "SwarmPlanner" "SOUTH" "[I") (ty := .int) (N := 4) (f := fun j => .int (southF j)) (A := fun _ => False) (by decide) (hs _ (by decide +kernel)) (va_eqt (z := 4) (hs _ (by decide +kernel))) (fun j hj => by
    match j, hj with
    | 0, _ => exact el (by decide +kernel)
    | 1, _ => exact el (by decide +kernel)
    | 2, _ => exact el (by decide +kernel)
    | 3, _ => exact el (by decide +kernel)
    | j + 4, hj => omega) (fun _ _ h => h)
  obtain ⟨d0, hd0, hT2⟩ := va_Tof (tm := .static "java/util/ArrayList" "DEFAULTCAPACITY_EMPTY_ELEMENTDATA" "[Ljava/lang/Object;") (ty := .object "java/lang/Object") (N := 0) (f := fun _ => .null) (A := fun _ => False) (by decide) (hs _ (by decide +kernel)) (va_eqt (z := 0) (hs _ (by decide +kernel))) (fun j hj => by omega) (fun _ _ h => h)
  have hU := va_Zqof (A := fun q => s.heap.size ≤ q) (ht0 _ q577) (ht0 _ (lw_all_tbl q119)) (show (Cond.isRef (.static "java/lang/Throwable" "UNASSIGNED_STACK" "[Ljava/lang/StackTraceElement;")).before #[Value.ref b] s = true from hs _ (by decide +kernel)) hall
  have hV := va_Zqof (A := fun q => s.heap.size ≤ q) (ht0 _ q579) (ht0 _ (lw_all_tbl q119)) (show (Cond.isRef (.static "java/lang/Throwable" "SUPPRESSED_SENTINEL" "Ljava/util/List;")).before #[Value.ref b] s = true from hs _ (by decide +kernel)) hall
  obtain ⟨mir, hmir⟩ := mir_ref (hs _ (by decide +kernel))
  obtain ⟨u3, hu3⟩ : ∃ r : Option Nat, va_Z "java/lang/Throwable" "UNASSIGNED_STACK" "[Ljava/lang/StackTraceElement;" (va_rf r) (fun q => s.heap.size ≤ q) s s.heap := by
    rcases hU with h | ⟨t, h⟩
    · exact ⟨none, h⟩
    · exact ⟨some t, h⟩
  obtain ⟨u4, hu4⟩ : ∃ r : Option Nat, va_Z "java/lang/Throwable" "SUPPRESSED_SENTINEL" "Ljava/util/List;" (va_rf r) (fun q => s.heap.size ≤ q) s s.heap := by
    rcases hV with h | ⟨t, h⟩
    · exact ⟨none, h⟩
    · exact ⟨some t, h⟩
  have hroX : roAt b (.inl (3, L, xs)) s s.heap := by
    obtain ⟨scr, h1, h2, h3, h4, h5⟩ := hX
    unfold roAt
    exact ⟨scr, h1, h2, h3, by rw [h4]; exact Nat.le_refl _, by rw [h4] <;> rfl, h5, fun h => h⟩
  have l0 : b < s.heap.size := roAt.lt hroX
  have ne : ∀ {t : Term} {a : Nat}, t.eval #[Value.ref b] s none [] s = some (.ref a) → (Cond.not (.eq (.arg 0) t)).before #[Value.ref b] s = true → b ≠ a := by
    intro t a h1 h2 h3
    subst h3
    have ha : (Term.arg 0).eval #[Value.ref b] s none [] s = some (.ref b) := rfl
    simp [Cond.before, Cond.holds, Cond.value, ha, h1] at h2
  have n1 : b ≠ e0 := ne he0 (hs _ (by decide +kernel))
  have n2 : b ≠ e1 := ne he1 (hs _ (by decide +kernel))
  have n3 : e0 ≠ e1 := by
    intro h
    subst h
    obtain ⟨c1, h1, -, -, -, -, h6, -⟩ := hT0
    obtain ⟨c2, h1', -, -, -, -, h6', -⟩ := hT1
    cases h1.symm.trans h1'
    have := (h6 0 (by decide)).symm.trans (h6' 0 (by decide))
    have := Value.int.inj (Option.some.inj this)
    exact absurd this (by decide)
  have dif : ∀ {c : Cell} {C : String}, s.isArrayOf c .int → s.isArrayOf c (.object C) → False := by
    intro c C h1 h2
    obtain ⟨-, k1, g1, m1, x1⟩ := h1
    obtain ⟨-, k2, g2, m2, x2⟩ := h2
    cases g1.symm.trans g2
    rw [x1] at x2
    cases x2
  have dd : ∀ {a N : Nat} {f : Nat → Value}, va_T .int a N f (fun _ => False) s s.heap → d0 ≠ a := by
    intro a N f hT h
    subst h
    obtain ⟨c1, h1, h2, -⟩ := hT
    obtain ⟨c2, h1', h2', -⟩ := hT2
    cases h1.symm.trans h1'
    exact dif h2 h2'
  have n4 : d0 ≠ b := by
    have h := hroX
    unfold roAt at h
    exact dd h
  refine ⟨D, cA, fun a c => (a = b ∧ c = .inl (3, L, xs)) ∨ (a = e0 ∧ c = .inl (3, 4, eastF)) ∨ (a = e1 ∧ c = .inl (3, 4, southF)) ∨ (a = d0 ∧ c = .inr (.inl (4, 0, fun _ => none))), fun j => match j with
    | 0 => some e0
    | 1 => some e1
    | 2 => some d0
    | 3 => u3
    | 4 => u4
    | _ => some mir, e0, e1, d0, mir, ⟨⟨hD, hA⟩, fun w hw => ?_, fun q hq => ?_, va_AO.of (ht0 _ q414), va_AO.of (ht0 _ q142), va_AO.of (ht0 _ q144), ht0 _ q184, va_Fw.of (ht0 _ q799) (ht0 _ q798) (ht0 _ q804) (ht0 _ q802) (ht0 _ q800), ⟨mir, rfl, hmir⟩, fun a c hr => ?_⟩, ⟨Or.inl ⟨rfl, rfl⟩, Or.inr (Or.inl ⟨rfl, rfl⟩), Or.inr (Or.inr (Or.inl ⟨rfl, rfl⟩)), Or.inr (Or.inr (Or.inr ⟨rfl, rfl⟩))⟩, ⟨l0, va_T.lt hT0, va_T.lt hT1, va_T.lt hT2⟩, ⟨n1, n2, n3, n4, dd hT0, dd hT1⟩, rfl, rfl, rfl, rfl⟩
  · have h1 := List.mem_filter.mp hw
    rcases List.mem_append.mp h1.1 with h | h
    · exact va_Nw.of (nw_on h1.2) (ht0 _ h)
    · refine va_Nw.of (A := #[Value.ref b]) (nw_on h1.2) ?_
      unfold nwX at h
      simp only [List.mem_cons, List.not_mem_nil, or_false] at h
      rcases h with rfl | rfl
      · exact hs _ (by decide +kernel)
      · exact hs _ (by decide +kernel)
  · unfold zL at hq
    simp only [List.mem_cons, List.not_mem_nil, or_false] at hq
    rcases hq with rfl | rfl | rfl | rfl | rfl
    · exact va_Zof (ht0 _ q674) (ht0 _ (lw_all_tbl q104)) he0 hall
    · exact va_Zof (ht0 _ q676) (ht0 _ (lw_all_tbl q104)) he1 hall
    · exact va_Zof (ht0 _ q198) (ht0 _ (lw_all_tbl q108)) hd0 hall
    · exact hu3
    · exact hu4
  · rcases hr with ⟨rfl, rfl⟩ | ⟨rfl, rfl⟩ | ⟨rfl, rfl⟩ | ⟨rfl, rfl⟩
    · exact ⟨hroX, hall _ l0⟩
    · exact ⟨by unfold roAt; exact hT0, hall _ (va_T.lt hT0)⟩
    · exact ⟨by unfold roAt; exact hT1, hall _ (va_T.lt hT1)⟩
    · exact ⟨by unfold roAt; exact hT2, hall _ (va_T.lt hT2)⟩
