/-! WHAT TIES THE MINI MACHINE TO THE JVM'S: classes, array classes, words, statics (KS); heaps (mHR); locals (mLR) -/
set_option maxRecDepth 100000
abbrev clM : List vw_C := [(RX0, TX0, 21), (RX1, TX1, 8), (RX2, TX2, 1), (RX3, TX3, 25), (RX4, TX4, 7), (RX5, TX5, 6), (RX6, TX6, 7), (RX7, TX7, 3), (RX8, TX8, 4), (RX9, TX9, 4), (RJ2, TJ2, 3), (RJ11, TJ11, 4)]
/-- the array classes: int[], boolean[], byte[], then Object[], Member[], Shape[], int[][] -/
abbrev tysM (cA : Nat → ClassId) : List (ClassId × FieldType) := [(cA 0, .int), (cA 1, .boolean), (cA 2, .byte), (cA 3, .object "java/lang/Object"), (cA 4, .object "SwarmPlanner$Member"), (cA 5, .object "SwarmPlanner$Shape"), (cA 6, .array .int)]
def mvV : MV → Value
  | .inl x => .int x
  | .inr r => va_rf r
theorem mvV_cat (v : MV) : (mvV v).category = 1 := by
  rcases v with x | r
  · rfl
  · cases r <;> rfl
theorem mvV_sum (l : List MV) : ((l.map mvV).map fun v => v.category).sum = l.length := by
  induction l with
  | nil => rfl
  | cons a l ih =>
    rw [List.map_cons, List.map_cons, List.sum_cons, ih, mvV_cat, List.length_cons]
    omega
def mCell (cA : Nat → ClassId) : MC → va_E
  | .inl (t, n, f) => .inl (cA t, n, .inl f)
  | .inr (.inl (t, n, f)) => .inl (cA (3 + t), n, .inr (.inr (.inr (.inr f))))
  | .inr (.inr (ci, fs)) => .inr (ci, fs.map mvV)
/-- tags in range -/
def mOkC : MC → Prop
  | .inl (t, _, _) => t < 3
  | .inr (.inl (t, _, _)) => t < 4
  | .inr (.inr _) => True
/-- a cell that was there at the start -/
def roTag : MC → Bool
  | .inl (t, _, _) => t == 3
  | .inr (.inl (t, _, _)) => t == 4
  | .inr (.inr _) => false
theorem okC_ro {c : MC} (h : mOkC c) : roTag c = false := by
  rcases c with ⟨t, n, f⟩ | (⟨t, n, f⟩ | o)
  · have h : t < 3 := h
    show (t == 3) = false
    rw [beq_eq_false_iff_ne]
    omega
  · have h : t < 4 := h
    show (t == 4) = false
    rw [beq_eq_false_iff_ne]
    omega
  · rfl
/-- the JVM's heap holds the mini heap -/
def mHR (D : va_G) (cA : Nat → ClassId) (ro : Nat → MC → Prop) (h : MH) (H : Heap) : Prop := h.1 = H.size ∧ ∀ (a : Nat) (c : MC), h.2.2 a = some c → (roTag c = false ∧ va_at D clM (a, mCell cA c) H ∧ mOkC c) ∨ (roTag c = true ∧ ro a c ∧ a < H.size)
/-- what the start says of such a cell -/
def roAt (a : Nat) (c : MC) (U : State) (H : Heap) : Prop := match c with
  | .inl (_, n, f) => va_T .int a n (fun j => .int (f j)) (fun _ => False) U H
  | .inr (.inl (_, n, _)) => va_T (.object "java/lang/Object") a n (fun _ => .null) (fun _ => False) U H
  | .inr (.inr _) => False
theorem va_T.keptAt {ty : FieldType} {t N : Nat} {f : Nat → Value} {A : Nat → Prop} {U : State} {H H1 : Heap} (h : va_T ty t N f A U H) (hq : H1[t]? = H[t]?) : va_T ty t N f A U H1 := by
  obtain ⟨cell, h1, h2⟩ := h
  exact ⟨cell, by rw [hq]; exact h1, h2⟩
theorem va_T.lt {ty : FieldType} {t N : Nat} {f : Nat → Value} {A : Nat → Prop} {U : State} {H : Heap} (h : va_T ty t N f A U H) : t < H.size := by
  obtain ⟨cell, h1, -⟩ := h
  exact (Array.getElem?_eq_some_iff.mp h1).1
theorem roAt.moved {a : Nat} {c : MC} {u U : State} {H : Heap} (hvm : u.vm.Alike U.vm) (h : roAt a c u H) : roAt a c U H := by
  rcases c with ⟨t, n, f⟩ | (⟨t, n, f⟩ | o)
  · unfold roAt at *
    exact va_T.moved hvm h
  · unfold roAt at *
    exact va_T.moved hvm h
  · exact h
theorem roAt.lt {a : Nat} {c : MC} {U : State} {H : Heap} (h : roAt a c U H) : a < H.size := by
  rcases c with ⟨t, n, f⟩ | (⟨t, n, f⟩ | o)
  · unfold roAt at h
    exact va_T.lt h
  · unfold roAt at h
    exact va_T.lt h
  · exact h.elim
theorem roAt.kept {a : Nat} {c : MC} {U : State} {H H1 : Heap} (h : roAt a c U H) (hq : H1[a]? = H[a]?) : roAt a c U H1 := by
  rcases c with ⟨t, n, f⟩ | (⟨t, n, f⟩ | o)
  · unfold roAt at *
    exact va_T.keptAt h hq
  · unfold roAt at *
    exact va_T.keptAt h hq
  · exact h
def mLR (n : Nat) (ls : ML) (lr : Array Slot) : Prop := ls.length = n ∧ lr.size = n ∧ lv_wf lr ∧ ∀ (i : Nat) (v : MV), ls[i]? = some (some v) → lr[i]? = some (.val (mvV v))
/-- words that don't ride in the lists, carried by KS -/
def nwOK : Cond → Bool
  | .fieldLinkNest _ _ _ _ _ _ => true
  | .methodLinkNest _ _ _ _ => true
  | .castable _ _ => true
  | .declares _ => true
  | .methodLink _ _ _ => true
  | .sameMethod _ _ _ _ => true
  | _ => false
/-- the two words of narrow_1 on AbstractQueue's poll -/
def nwX : List Cond := [Cond.methodLink "java/util/AbstractQueue" 20 ⟨"java/util/AbstractQueue", "poll", "()Ljava/lang/Object;"⟩, Cond.sameMethod "java/util/AbstractQueue" "java/util/Queue" "poll" "()Ljava/lang/Object;"]
def nwL : List Cond := (lw_tbl ++ nwX).filter nwOK
def zL : List (String × String × String × Nat) := [("SwarmPlanner", "EAST", "[I", 0), ("SwarmPlanner", "SOUTH", "[I", 1), ("java/util/ArrayList", "DEFAULTCAPACITY_EMPTY_ELEMENTDATA", "[Ljava/lang/Object;", 2), ("java/lang/Throwable", "UNASSIGNED_STACK", "[Ljava/lang/StackTraceElement;", 3), ("java/lang/Throwable", "SUPPRESSED_SENTINEL", "Ljava/util/List;", 4)]
def va_AO2 (ty : FieldType) (U : State) : Prop := (Cond.arrayOver ty).before #[] U = true
theorem va_AO2.use {ty : FieldType} {A : Array Value} {U : State} (h : va_AO2 ty U) : (Cond.arrayOver ty).before A U = true := h
theorem va_AO2.moved {ty : FieldType} {u U : State} (hvm : u.vm.Alike U.vm) (h : va_AO2 ty u) : va_AO2 ty U := by
  have h1 : (Cond.arrayOver ty).before #[] (u.setVm U.vm) = true := by rw [Cond.arrayOver_setVmC hvm]; exact h
  first
    | exact va_tabs rfl (rfl : (u.setVm U.vm).vm = U.vm) h1
    | exact h1
/-- the interface's entry that PriorityQueue calls -/
abbrev fwX : MethodName := ⟨"java/util/Comparator", "compare", "(Ljava/lang/Object;Ljava/lang/Object;)I"⟩
/-- Object[]'s java.lang.Class object -/
def va_Mir (r : Option Nat) (U : State) : Prop := ∃ a : Nat, r = some a ∧ (Term.mirror "[Ljava/lang/Object;").eval #[] U none [] U = some (.ref a)
theorem va_Mir.moved {r : Option Nat} {s U : State} (hW : s.WarmedH U.vm) (h : va_Mir r s) : va_Mir r U := by
  obtain ⟨a, rfl, hev⟩ := h
  obtain ⟨cC, kC, a', hfc, hkC, hmir, ha⟩ := Term.mirror_spec hev
  cases ha
  obtain ⟨kC', hkC', hm', -⟩ := hW.mirror hkC
  refine ⟨a, rfl, ?_⟩
  have hf : U.vm.findClass "[Ljava/lang/Object;" = some cC := by rw [hW.alike.findClass]; exact hfc
  simp [Term.eval, hf, hkC', hm', hmir]
theorem va_Mir.use {r : Option Nat} {s : State} {args : Array Value} (h : va_Mir r s) : ∃ a : Nat, r = some a ∧ (Term.mirror "[Ljava/lang/Object;").eval args s none [] s = some (.ref a) := by
  obtain ⟨a, e, hev⟩ := h
  exact ⟨a, e, hev⟩
/-- what every state of a run has: tables, words, statics -/
def KS (D : va_G) (cA : Nat → ClassId) (ro : Nat → MC → Prop) (sv : Nat → Option Nat) (A : Nat → Prop) (U : State) : Prop :=
  va_K D clM (tysM cA) U ∧ (∀ w ∈ nwL, va_Nw w U) ∧ (∀ q ∈ zL, va_Z q.1 q.2.1 q.2.2.1 (va_rf (sv q.2.2.2)) A U U.heap) ∧ va_AO "java/lang/Object" U ∧ va_AO "SwarmPlanner$Member" U ∧ va_AO "SwarmPlanner$Shape" U ∧ va_AO2 (.array .int) U ∧ va_Fw RX2 fwX yX2_compare U ∧ va_Mir (sv 100) U ∧ ∀ (a : Nat) (c : MC), ro a c → roAt a c U U.heap ∧ ¬ A a
theorem nw_moved {w : Cond} {s U : State} (hw : nwOK w = true) (hW : s.WarmedH U.vm) (h : va_Nw w s) : va_Nw w U := by
  cases w <;> first | (cases hw; done) | exact va_Nw.warmF hW h | exact va_Nw.warmM hW h | exact va_Nw.warmC hW h | exact va_Nw.warmD hW h | exact word_at hW (Or.inl rfl) h
theorem KS.moved {D : va_G} {cA : Nat → ClassId} {ro : Nat → MC → Prop} {sv : Nat → Option Nat} {A : Nat → Prop} {s U : State} {H : Heap} (h : KS D cA ro sv A s) (hW : s.WarmedH U.vm) (hU : U.heap = H) (hk : ∀ a : Nat, a < s.heap.size → ¬ A a → H[a]? = s.heap[a]?) : KS D cA ro sv A U := by
  obtain ⟨h1, h2, h3, h4, h5, h6, h7, h8, h9, h10⟩ := h
  refine ⟨va_K.moved hW.alike h1, fun w hw => nw_moved (List.mem_filter.mp hw).2 hW (h2 w hw), fun q hq => ?_, va_AO.moved hW.alike h4, va_AO.moved hW.alike h5, va_AO.moved hW.alike h6, va_AO2.moved hW.alike h7, va_Fw.moved (by decide) hW.alike h8, va_Mir.moved hW h9, fun a c hr => ?_⟩
  · rw [hU]
    exact va_Z.moved hW.alike (va_Z.kept (h3 q hq) hk)
  · obtain ⟨g1, g2⟩ := h10 a c hr
    refine ⟨?_, g2⟩
    rw [hU]
    exact roAt.moved hW.alike (g1.kept (hk a g1.lt g2))
/-- a heap changed at one old place, or grown -/
theorem mHR.set {D : va_G} {cA : Nat → ClassId} {ro : Nat → MC → Prop} {h : MH} {H H1 : Heap} {a : Nat} {c : MC} (hR : mHR D cA ro h H) (z : H1.size = H.size) (o : ∀ q : Nat, q ≠ a → H1[q]? = H[q]?) (e : va_at D clM (a, mCell cA c) H1) (hc : mOkC c) : mHR D cA ro (hS h a c) H1 := by
  refine ⟨by rw [z]; exact hR.1, fun b d hb => ?_⟩
  by_cases hq : b = a
  · subst hq
    simp only [hS, if_true] at hb
    cases hb
    exact Or.inl ⟨okC_ro hc, e, hc⟩
  · simp only [hS, if_neg hq] at hb
    rcases hR.2 b d hb with ⟨k0, k1, k2⟩ | ⟨k0, k1, k2⟩
    · exact Or.inl ⟨k0, k1.kept (o b hq), k2⟩
    · exact Or.inr ⟨k0, k1, by rw [z]; exact k2⟩
theorem mHR.lt {D : va_G} {cA : Nat → ClassId} {ro : Nat → MC → Prop} {h : MH} {H : Heap} {a : Nat} {c : MC} (hR : mHR D cA ro h H) (hg : h.2.2 a = some c) : a < H.size := by
  rcases hR.2 a c hg with ⟨k0, k1, k2⟩ | ⟨k0, k1, k2⟩
  · exact k1.lt
  · exact k2
theorem mHR.push {D : va_G} {cA : Nat → ClassId} {ro : Nat → MC → Prop} {h : MH} {H H1 : Heap} {n : Nat} {c : MC} (hR : mHR D cA ro h H) (z : H1.size = H.size + 1) (o : ∀ q : Nat, q < H.size → H1[q]? = H[q]?) (e : va_at D clM (H.size, mCell cA c) H1) (hc : mOkC c) : mHR D cA ro (hN h n c) H1 := by
  refine ⟨by show h.1 + 1 = _; rw [z, hR.1], fun b d hb => ?_⟩
  by_cases hq : b = h.1
  · subst hq
    simp only [hN, if_true] at hb
    cases hb
    rw [hR.1]
    exact Or.inl ⟨okC_ro hc, e, hc⟩
  · simp only [hN, if_neg hq] at hb
    rcases hR.2 b d hb with ⟨k0, k1, k2⟩ | ⟨k0, k1, k2⟩
    · exact Or.inl ⟨k0, k1.kept (o b (mHR.lt hR hb)), k2⟩
    · exact Or.inr ⟨k0, k1, by rw [z]; omega⟩
/-- locals -/
theorem mLR.ld {n : Nat} {ls : ML} {lr : Array Slot} {i : Nat} {v : MV} (h : mLR n ls lr) (hv : mLd ls i = some v) : lr[i]? = some (.val (mvV v)) := by
  refine h.2.2.2 i v ?_
  unfold mLd at hv
  split at hv
  · rename_i w hw
    rw [hw, Option.some.inj hv]
  · cases hv
/-- the locals as the kit's list -/
def mLs (ls : ML) : List (Nat × Value) := (List.range ls.length).filterMap fun i => match ls[i]? with
  | some (some v) => some (i, mvV v)
  | _ => none
theorem mLs_mem {ls : ML} {i : Nat} {w : Value} : (i, w) ∈ mLs ls ↔ ∃ v, ls[i]? = some (some v) ∧ w = mvV v := by
  unfold mLs
  rw [List.mem_filterMap]
  constructor
  · rintro ⟨j, hj, e⟩
    split at e
    · rename_i v hv
      cases e
      exact ⟨v, hv, rfl⟩
    · cases e
  · rintro ⟨v, hv, rfl⟩
    refine ⟨i, List.mem_range.mpr (List.getElem?_eq_some_iff.mp hv).1, ?_⟩
    rw [hv]
theorem mLR.has {n : Nat} {ls : ML} {lr : Array Slot} (h : mLR n ls lr) : lv_has lr n (mLs ls) := ⟨h.2.1, h.2.2.1, fun q hq => by
  obtain ⟨v, hv, e⟩ := mLs_mem.mp (show (q.1, q.2) ∈ mLs ls from hq)
  rw [e]
  exact h.2.2.2 _ _ hv⟩
theorem mLR.set {n : Nat} {ls : ML} {lr : Array Slot} {i : Nat} {v : MV} (h : mLR n ls lr) {lr' : Array Slot} (hl : lv_has lr' n ((i, mvV v) :: (mLs ls).filter (fun q => !(q.1 == i) && !(q.1 + 1 == i && q.2.category == 2)))) : mLR n (ls.set i (some v)) lr' := by
  refine ⟨by rw [List.length_set]; exact h.1, hl.1, hl.2.1, fun j w hj => ?_⟩
  by_cases hji : j = i
  · subst hji
    rw [List.getElem?_set_self'] at hj
    cases hq : ls[j]? with
    | none => rw [hq] at hj; cases hj
    | some z =>
      rw [hq] at hj
      cases hj
      exact hl.2.2 (j, mvV v) List.mem_cons_self
  · rw [List.getElem?_set_ne (Ne.symm hji)] at hj
    have hm : (j, mvV w) ∈ mLs ls := mLs_mem.mpr ⟨w, hj, rfl⟩
    refine hl.2.2 (j, mvV w) (List.mem_cons_of_mem _ (List.mem_filter.mpr ⟨hm, ?_⟩))
    simp [hji, mvV_cat]
