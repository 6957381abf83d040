/-! CALLS: what a table's row of a call asks of the words -/
set_option maxRecDepth 100000
/-- a method's own words -/
def wsM (M : MRec) : List Cond := match rH M with
  | [] => ws_ (rN M) (rC M) (rL M) (rR M)
  | q :: r => wsW_ (rN M) (rC M) (rL M) (rR M) (q :: r)
def MOK (M : MRec) : Prop := plainName (rN M).cls = true ∧ (rN M).cls = cpN (rP M) ∧ rL M ≤ 40 ∧ ∀ q ∈ rH M, q.2.2.2 ≠ 0 → Cond.classLink (rN M).cls q.2.2.2 RX6 ∈ lw_all
def COKV (key : Nat) (M' : MRec) (n ci : Nat) : Prop := ∀ {M : MRec} {p : Program} {l : Launch} {e : Env} {R : Room} {s : State} {m : MethodId} {args : Array Value} {below : List Frame} {meth : Method} {c : Code} {H : Heap} {locs : List Loc} {cells slots mc ms : Nat} {D : va_G} {cA : Nat → ClassId} {ro : Nat → MC → Prop} {sv : Nat → Option Nat} {B : Nat} {Pc : Array Value → State → Prop} {Qc : Array Value → State → Outcome → State → Prop} {XC : String → Addr → State → State → Prop} {free : Addr → Prop} {rm : Room} {g : JFrame} {b : Addr} {As rest : List Value}, mCtx D cA ro sv B M p l s m args meth c → (rN M).cls = cpN (key / 65536) → vx_Met l (rN M') (wsM M') rm Pc Qc XC mc ms free → (rm.cells = mc ∧ rm.slots = ms ∧ rm.frames + 1 ≤ R.frames ∧ 8 + (rL M' + 11) + rm.locals ≤ R.locals) →  (∀ (C : String) (T : u_T) (N : Nat), clM[ci]? = some (C, T, N) → PreV s H C b Pc As) → g.method = m → As.length = n → g.locals.size = rL M → g.stack = As.reverse ++ .ref b :: rest → 2 * g.monitorRoom + (rest.map fun v => v.category).sum ≤ 8 → decode (rC M) g.pc = .ok (.invokevirtual (key % 65536), 3) → cells + mc ≤ R.cells ∧ slots + ms ≤ R.slots → vx_Run p l e R s m args below meth c H locs cells slots mc ms g rest (Qc (.ref b :: As).toArray) XC free
def COKF (key : Nat) (M' : MRec) (n ci : Nat) : Prop := ∀ {cnt : Nat} {M : MRec} {p : Program} {l : Launch} {e : Env} {R : Room} {s : State} {m : MethodId} {args : Array Value} {below : List Frame} {meth : Method} {c : Code} {H : Heap} {locs : List Loc} {cells slots mc ms : Nat} {D : va_G} {cA : Nat → ClassId} {ro : Nat → MC → Prop} {sv : Nat → Option Nat} {B : Nat} {Pc : Array Value → State → Prop} {Qc : Array Value → State → Outcome → State → Prop} {XC : String → Addr → State → State → Prop} {free : Addr → Prop} {rm : Room} {g : JFrame} {b : Addr} {As rest : List Value}, mCtx D cA ro sv B M p l s m args meth c → (rN M).cls = cpN (key / 65536) → vx_Met l (rN M') (wsM M') rm Pc Qc XC mc ms free → (rm.cells = mc ∧ rm.slots = ms ∧ rm.frames + 1 ≤ R.frames ∧ 8 + (rL M' + 11) + rm.locals ≤ R.locals) →  (∀ (C : String) (T : u_T) (N : Nat), clM[ci]? = some (C, T, N) → PreV s H C b Pc As) → g.method = m → As.length = n → g.locals.size = rL M → g.stack = As.reverse ++ .ref b :: rest → 2 * g.monitorRoom + (rest.map fun v => v.category).sum ≤ 8 → decode (rC M) g.pc = .ok (.invokeinterface (key % 65536) cnt, 5) → cells + mc ≤ R.cells ∧ slots + ms ≤ R.slots → vx_Run5 p l e R s m args below meth c H locs cells slots mc ms g rest (Qc (.ref b :: As).toArray) XC free
def COKI (key : Nat) (M' : MRec) (n : Nat) : Prop := ∀ {M : MRec} {p : Program} {l : Launch} {e : Env} {R : Room} {s : State} {m : MethodId} {args : Array Value} {below : List Frame} {meth : Method} {c : Code} {H : Heap} {locs : List Loc} {cells slots mc ms : Nat} {D : va_G} {cA : Nat → ClassId} {ro : Nat → MC → Prop} {sv : Nat → Option Nat} {B : Nat} {Pc : Array Value → State → Prop} {Qc : Array Value → State → Outcome → State → Prop} {XC : String → Addr → State → State → Prop} {free : Addr → Prop} {rm : Room} {g : JFrame} {b : Addr} {As rest : List Value}, mCtx D cA ro sv B M p l s m args meth c → (rN M).cls = cpN (key / 65536) → vx_Met l (rN M') (wsM M') rm Pc Qc XC mc ms free → (rm.cells = mc ∧ rm.slots = ms ∧ rm.frames + 1 ≤ R.frames ∧ 8 + (rL M' + 11) + rm.locals ≤ R.locals) →  PreS s H Pc (.ref b :: As) → g.method = m → As.length = n → g.locals.size = rL M → g.stack = As.reverse ++ .ref b :: rest → 2 * g.monitorRoom + (rest.map fun v => v.category).sum ≤ 8 → decode (rC M) g.pc = .ok (.invokespecial (key % 65536), 3) → cells + mc ≤ R.cells ∧ slots + ms ≤ R.slots → vx_Run p l e R s m args below meth c H locs cells slots mc ms g rest (Qc (.ref b :: As).toArray) XC free
def COKS (key : Nat) (M' : MRec) (n : Nat) : Prop := ∀ {M : MRec} {p : Program} {l : Launch} {e : Env} {R : Room} {s : State} {m : MethodId} {args : Array Value} {below : List Frame} {meth : Method} {c : Code} {H : Heap} {locs : List Loc} {cells slots mc ms : Nat} {D : va_G} {cA : Nat → ClassId} {ro : Nat → MC → Prop} {sv : Nat → Option Nat} {B : Nat} {Pc : Array Value → State → Prop} {Qc : Array Value → State → Outcome → State → Prop} {XC : String → Addr → State → State → Prop} {free : Addr → Prop} {rm : Room} {g : JFrame} {As rest : List Value}, mCtx D cA ro sv B M p l s m args meth c → (rN M).cls = cpN (key / 65536) → vx_Met l (rN M') (wsM M') rm Pc Qc XC mc ms free → (rm.cells = mc ∧ rm.slots = ms ∧ rm.frames + 1 ≤ R.frames ∧ 8 + (rL M' + 11) + rm.locals ≤ R.locals) →  PreS s H Pc As → g.method = m → As.length = n → g.locals.size = rL M → g.stack = As.reverse ++ rest → 2 * g.monitorRoom + (rest.map fun v => v.category).sum ≤ 8 → decode (rC M) g.pc = .ok (.invokestatic (key % 65536), 3) → cells + mc ≤ R.cells ∧ slots + ms ≤ R.slots → vx_Run p l e R s m args below meth c H locs cells slots mc ms g rest (Qc (As).toArray) XC free
section CALLK
variable {key n ci : Nat} {M' : MRec}
theorem clM_ex {C : String} {T : u_T} {N : Nat} {s : State} {H : Heap} {b : Addr} {Pc : Array Value → State → Prop} {As : List Value} (hc : clM[ci]? = some (C, T, N)) (hp : ∀ (C : String) (T : u_T) (N : Nat), clM[ci]? = some (C, T, N) → PreV s H C b Pc As) : PreV s H C b Pc As := hp C T N hc
theorem cok_V {y : MethodName} {cc : ByteArray} {mL : Nat} {rt : Option FieldType} {cp : Nat} {C : String} {T : u_T} {N : Nat} (hc : clM[ci]? = some (C, T, N)) (h1 : Cond.methodLink (cpN (key / 65536)) (key % 65536) y ∈ lw_all) (h2 : Cond.instanceMethod y ∈ lw_all) (h3 : Cond.selects C y y ∈ lw_all) (h4 : Cond.initialized C ∈ lw_all) (h5 : Cond.code y cc mL rt ∈ lw_all) (hd : y.cls = C ∧ y.cls ≠ "java/lang/invoke/MethodHandle" ∧ y.cls ≠ "java/lang/invoke/VarHandle" ∧ (parseMethodDescriptor y.desc).map (fun d => d.parameters.length) = some n) : COKV key (y, cc, mL, rt, [], cp) n ci := by
  intro M p l e R s m args below meth c H locs cells slots mc ms D cA ro sv B Pc Qc XC free rm g b As rest Cx ho hM hR hp hg hn hsz hst hW hdg hf
  obtain ⟨r1, r2, r3, r4⟩ := hR
  rw [← ho] at h1
  exact vx_runV ⟨Cx.1, Cx.2.1, Cx.2.2.1, Cx.2.2.2.1, Cx.2.2.2.2.1⟩ hM (cwV n Cx.2.2.2.2.1 (lw_V h1 h2 h3 h4 h5) rfl r1 r2 hd ⟨r3, r4⟩) (hp C T N hc) hg hn hsz hst hW hdg hf
theorem cok_VW {y : MethodName} {cc : ByteArray} {mL : Nat} {rt : Option FieldType} {cp : Nat} {C : String} {T : u_T} {N : Nat} {q : Nat × Nat × Nat × Nat} {qr : List (Nat × Nat × Nat × Nat)} (hc : clM[ci]? = some (C, T, N)) (h1 : Cond.methodLink (cpN (key / 65536)) (key % 65536) y ∈ lw_all) (h2 : Cond.instanceMethod y ∈ lw_all) (h3 : Cond.selects C y y ∈ lw_all) (h4 : Cond.initialized C ∈ lw_all) (h5 : Cond.codeWith y cc mL rt (q :: qr) ∈ lw_all) (hd : y.cls = C ∧ y.cls ≠ "java/lang/invoke/MethodHandle" ∧ y.cls ≠ "java/lang/invoke/VarHandle" ∧ (parseMethodDescriptor y.desc).map (fun d => d.parameters.length) = some n) : COKV key (y, cc, mL, rt, q :: qr, cp) n ci := by
  intro M p l e R s m args below meth c H locs cells slots mc ms D cA ro sv B Pc Qc XC free rm g b As rest Cx ho hM hR hp hg hn hsz hst hW hdg hf
  obtain ⟨r1, r2, r3, r4⟩ := hR
  rw [← ho] at h1
  exact vx_runVX ⟨Cx.1, Cx.2.1, Cx.2.2.1, Cx.2.2.2.1, Cx.2.2.2.2.1⟩ hM (vx_cwVW n Cx.2.2.2.2.1 (lw_VW h1 h2 h3 h4 h5) rfl r1 r2 hd ⟨r3, r4⟩) (hp C T N hc) hg hn hsz hst hW hdg hf
theorem cok_VN {y : MethodName} {cc : ByteArray} {mL : Nat} {rt : Option FieldType} {cp : Nat} {C host : String} {T : u_T} {N : Nat} (hc : clM[ci]? = some (C, T, N)) (h1 : Cond.methodLinkNest (cpN (key / 65536)) (key % 65536) y host ∈ nwL) (h2 : Cond.instanceMethod y ∈ lw_all) (h3 : Cond.selects C y y ∈ lw_all) (h4 : Cond.initialized y.cls ∈ lw_all) (h5 : Cond.code y cc mL rt ∈ lw_all) (hd : y.cls ≠ "java/lang/invoke/MethodHandle" ∧ y.cls ≠ "java/lang/invoke/VarHandle" ∧ (parseMethodDescriptor y.desc).map (fun d => d.parameters.length) = some n) : COKV key (y, cc, mL, rt, [], cp) n ci := by
  intro M p l e R s m args below meth c H locs cells slots mc ms D cA ro sv B Pc Qc XC free rm g b As rest Cx ho hM hR hp hg hn hsz hst hW hdg hf
  obtain ⟨r1, r2, r3, r4⟩ := hR
  rw [← ho] at h1
  exact vx_runVN ⟨Cx.1, Cx.2.1, Cx.2.2.1, Cx.2.2.2.1, Cx.2.2.2.2.1⟩ hM ⟨va_cnB n Cx.2.2.2.2.1 (lw_meth h5) rfl r1 r2 (Cx.2.2.2.2.2.1.2.1 _ h1) (Cx.2.2.2.2.1 _ h4) hd ⟨r3, r4⟩, Cx.2.2.2.2.1 _ h2, Cx.2.2.2.2.1 _ h3⟩ (hp C T N hc) hg hn hsz hst hW hdg hf
/-- a method found by the receiver above or below what the reference names -/
theorem cok_U {y x : MethodName} {cc : ByteArray} {mL : Nat} {rt : Option FieldType} {cp : Nat} {C owner : String} {T : u_T} {N : Nat} (hc : clM[ci]? = some (C, T, N)) (h1 : Cond.methodLink (cpN (key / 65536)) (key % 65536) x ∈ nwL) (h1b : Cond.sameMethod x.cls owner x.name x.desc ∈ nwL) (h1c : Cond.declares ⟨owner, x.name, x.desc⟩ ∈ nwL) (h2 : Cond.instanceMethod y ∈ lw_all) (h3 : Cond.selects C x y ∈ lw_all) (h4 : Cond.initialized y.cls ∈ lw_all) (h5 : Cond.code y cc mL rt ∈ lw_all) (hd : owner ≠ "java/lang/invoke/MethodHandle" ∧ owner ≠ "java/lang/invoke/VarHandle" ∧ (parseMethodDescriptor x.desc).map (fun d => d.parameters.length) = some n) : COKV key (y, cc, mL, rt, [], cp) n ci := by
  intro M p l e R s m args below meth c H locs cells slots mc ms D cA ro sv B Pc Qc XC free rm g b As rest Cx ho hM hR hp hg hn hsz hst hW hdg hf
  obtain ⟨r1, r2, r3, r4⟩ := hR
  rw [← ho] at h1
  have hts := Cx.2.2.2.2.1
  have hK := Cx.2.2.2.2.2.1.2.1
  have hDec : va_Decl s ⟨owner, x.name, x.desc⟩ := by
    obtain ⟨r0, r, hn0, hrm, hst0, hsg⟩ := Cond.declares_spec (va_Nw.use (A := args) rfl (hK _ h1c))
    exact ⟨r0, r, hn0, hrm, hst0, hsg⟩
  refine vx_runU (x := x) (owner := owner) (C := C) (n := n) ⟨Cx.1, Cx.2.1, Cx.2.2.1, Cx.2.2.2.1, Cx.2.2.2.2.1⟩ hM ⟨⟨r1, r2, r3, r4, pay_in hts (lw_meth h5), List.mem_cons_self⟩, hts _ h5, hts _ h4, ⟨hd.1, hd.2.1⟩, fun sig h => ?_, va_Nw.use rfl (hK _ h1), va_Nw.use rfl (hK _ h1b), hDec, hts _ h3, hts _ h2⟩ (hp C T N hc) hg hn hsz hst hW hdg hf
  have h2 := hd.2.2
  rw [h] at h2
  exact (Option.some.inj h2).symm
theorem selects_same {C : String} {x x' y : MethodName} {s : State} {args : Array Value} (hx : s.methodFound? x.cls x.name x.desc = s.methodFound? x'.cls x'.name x'.desc) (h : (Cond.selects C x' y).before args s = true) : (Cond.selects C x y).before args s = true := by
  unfold Cond.before Cond.holds at *
  simp only [Cond.value] at *
  rw [hx]
  exact h
/-- the same, 'selects' being said of the owner's method -/
theorem cok_P {y x : MethodName} {cc : ByteArray} {mL : Nat} {rt : Option FieldType} {cp : Nat} {C owner : String} {T : u_T} {N : Nat} (hc : clM[ci]? = some (C, T, N)) (h1 : Cond.methodLink (cpN (key / 65536)) (key % 65536) x ∈ nwL) (h1b : Cond.sameMethod x.cls owner x.name x.desc ∈ nwL) (h1c : Cond.declares ⟨owner, x.name, x.desc⟩ ∈ nwL) (h2 : Cond.instanceMethod y ∈ lw_all) (h3 : Cond.selects C ⟨owner, x.name, x.desc⟩ y ∈ lw_all) (h4 : Cond.initialized y.cls ∈ lw_all) (h5 : Cond.code y cc mL rt ∈ lw_all) (hd : owner ≠ "java/lang/invoke/MethodHandle" ∧ owner ≠ "java/lang/invoke/VarHandle" ∧ (parseMethodDescriptor x.desc).map (fun d => d.parameters.length) = some n) : COKV key (y, cc, mL, rt, [], cp) n ci := by
  intro M p l e R s m args below meth c H locs cells slots mc ms D cA ro sv B Pc Qc XC free rm g b As rest Cx ho hM hR hp hg hn hsz hst hW hdg hf
  obtain ⟨r1, r2, r3, r4⟩ := hR
  rw [← ho] at h1
  have hts := Cx.2.2.2.2.1
  have hK := Cx.2.2.2.2.2.1.2.1
  have hDec : va_Decl s ⟨owner, x.name, x.desc⟩ := by
    obtain ⟨r0, r, hn0, hrm, hst0, hsg⟩ := Cond.declares_spec (va_Nw.use (A := args) rfl (hK _ h1c))
    exact ⟨r0, r, hn0, hrm, hst0, hsg⟩
  have hsame : (Cond.sameMethod x.cls owner x.name x.desc).before args s = true := va_Nw.use rfl (hK _ h1b)
  have hsel : (Cond.selects C x y).before args s = true := by
    obtain ⟨cn, ck, r9, -, -, -, hf9, hn9⟩ := Cond.sameMethod_found hsame
    exact selects_same (x' := ⟨owner, x.name, x.desc⟩) (hf9.trans (State.methodFound?_of_named hn9 ⟨hd.1, hd.2.1⟩).symm) (hts _ h3)
  refine vx_runU (x := x) (owner := owner) (C := C) (n := n) ⟨Cx.1, Cx.2.1, Cx.2.2.1, Cx.2.2.2.1, Cx.2.2.2.2.1⟩ hM ⟨⟨r1, r2, r3, r4, pay_in hts (lw_meth h5), List.mem_cons_self⟩, hts _ h5, hts _ h4, ⟨hd.1, hd.2.1⟩, fun sig h => ?_, va_Nw.use rfl (hK _ h1), hsame, hDec, hsel, hts _ h2⟩ (hp C T N hc) hg hn hsz hst hW hdg hf
  have h2 := hd.2.2
  rw [h] at h2
  exact (Option.some.inj h2).symm
theorem cok_I {y : MethodName} {cc : ByteArray} {mL : Nat} {cp : Nat} (h1 : Cond.methodLink (cpN (key / 65536)) (key % 65536) y ∈ lw_all) (h2 : Cond.instanceMethod y ∈ lw_all) (h4 : Cond.initialized y.cls ∈ lw_all) (h5 : Cond.code y cc mL none ∈ lw_all) (hy : y.name = "<init>") (hd : y.cls ≠ "java/lang/invoke/MethodHandle" ∧ y.cls ≠ "java/lang/invoke/VarHandle" ∧ (parseMethodDescriptor y.desc).map (fun d => d.parameters.length) = some n) : COKI key (y, cc, mL, none, [], cp) n := by
  intro M p l e R s m args below meth c H locs cells slots mc ms D cA ro sv B Pc Qc XC free rm g b As rest Cx ho hM hR hp hg hn hsz hst hW hdg hf
  obtain ⟨r1, r2, r3, r4⟩ := hR
  rw [← ho] at h1
  have hts := Cx.2.2.2.2.1
  exact vx_runI ⟨Cx.1, Cx.2.1, Cx.2.2.1, Cx.2.2.2.1, Cx.2.2.2.2.1⟩ hM (cwI n hts (lw_meth h5) rfl r1 r2 (hts _ h4) (hts _ h1) (hts _ h2) hy hd ⟨r3, r4⟩) hp hg hn hsz hst hW hdg hf
theorem cok_IN {y : MethodName} {cc : ByteArray} {mL : Nat} {cp : Nat} {host : String} (h1 : Cond.methodLinkNest (cpN (key / 65536)) (key % 65536) y host ∈ nwL) (h2 : Cond.instanceMethod y ∈ lw_all) (h4 : Cond.initialized y.cls ∈ lw_all) (h5 : Cond.code y cc mL none ∈ lw_all) (hy : y.name = "<init>") (hd : y.cls ≠ "java/lang/invoke/MethodHandle" ∧ y.cls ≠ "java/lang/invoke/VarHandle" ∧ (parseMethodDescriptor y.desc).map (fun d => d.parameters.length) = some n) : COKI key (y, cc, mL, none, [], cp) n := by
  intro M p l e R s m args below meth c H locs cells slots mc ms D cA ro sv B Pc Qc XC free rm g b As rest Cx ho hM hR hp hg hn hsz hst hW hdg hf
  obtain ⟨r1, r2, r3, r4⟩ := hR
  rw [← ho] at h1
  have hts := Cx.2.2.2.2.1
  exact vx_runIN ⟨Cx.1, Cx.2.1, Cx.2.2.1, Cx.2.2.2.1, Cx.2.2.2.2.1⟩ hM ⟨va_cnB n hts (lw_meth h5) rfl r1 r2 (Cx.2.2.2.2.2.1.2.1 _ h1) (hts _ h4) hd ⟨r3, r4⟩, hy, hts _ h2⟩ hp hg hn hsz hst hW hdg hf
theorem cok_S {y : MethodName} {cc : ByteArray} {mL : Nat} {rt : Option FieldType} {cp : Nat} (h1 : Cond.methodLink (cpN (key / 65536)) (key % 65536) y ∈ lw_all) (h2 : Cond.static y ∈ lw_all) (h4 : Cond.initialized y.cls ∈ lw_all) (h5 : Cond.code y cc mL rt ∈ lw_all) (hd : y.cls ≠ "java/lang/invoke/MethodHandle" ∧ y.cls ≠ "java/lang/invoke/VarHandle" ∧ (parseMethodDescriptor y.desc).map (fun d => d.parameters.length) = some n) : COKS key (y, cc, mL, rt, [], cp) n := by
  intro M p l e R s m args below meth c H locs cells slots mc ms D cA ro sv B Pc Qc XC free rm g As rest Cx ho hM hR hp hg hn hsz hst hW hdg hf
  obtain ⟨r1, r2, r3, r4⟩ := hR
  rw [← ho] at h1
  exact vx_runS ⟨Cx.1, Cx.2.1, Cx.2.2.1, Cx.2.2.2.1, Cx.2.2.2.2.1⟩ hM (va_cwS n Cx.2.2.2.2.1 (lw_S h1 h2 h4 h5) rfl r1 r2 hd ⟨r3, r4⟩) hp hg hn hsz hst hW hdg hf
theorem cok_SN {y : MethodName} {cc : ByteArray} {mL : Nat} {rt : Option FieldType} {cp : Nat} {host : String} (h1 : Cond.methodLinkNest (cpN (key / 65536)) (key % 65536) y host ∈ nwL) (h2 : Cond.static y ∈ lw_all) (h4 : Cond.initialized y.cls ∈ lw_all) (h5 : Cond.code y cc mL rt ∈ lw_all) (hd : y.cls ≠ "java/lang/invoke/MethodHandle" ∧ y.cls ≠ "java/lang/invoke/VarHandle" ∧ (parseMethodDescriptor y.desc).map (fun d => d.parameters.length) = some n) : COKS key (y, cc, mL, rt, [], cp) n := by
  intro M p l e R s m args below meth c H locs cells slots mc ms D cA ro sv B Pc Qc XC free rm g As rest Cx ho hM hR hp hg hn hsz hst hW hdg hf
  obtain ⟨r1, r2, r3, r4⟩ := hR
  rw [← ho] at h1
  have hts := Cx.2.2.2.2.1
  exact vx_runSN ⟨Cx.1, Cx.2.1, Cx.2.2.1, Cx.2.2.2.1, Cx.2.2.2.2.1⟩ hM ⟨va_cnB n hts (lw_meth h5) rfl r1 r2 (Cx.2.2.2.2.2.1.2.1 _ h1) (hts _ h4) hd ⟨r3, r4⟩, hts _ h2, trivial⟩ hp hg hn hsz hst hW hdg hf
/-- PriorityQueue's call of its comparator -/
theorem cok_F (h1 : Cond.methodLink (cpN (key / 65536)) (key % 65536) fwX ∈ lw_all) (h2 : Cond.instanceMethod yX2_compare ∈ lw_all) (h3 : Cond.selects RX2 fwX yX2_compare ∈ lw_all) (h4 : Cond.initialized yX2_compare.cls ∈ lw_all) (h5 : Cond.code yX2_compare cX2_compare (rL rX2_compare) (rR rX2_compare) ∈ lw_all) : COKF key rX2_compare 2 2 := by
  intro cnt M p l e R s m args below meth c H locs cells slots mc ms D cA ro sv B Pc Qc XC free rm g b As rest Cx ho hM hR hp hg hn hsz hst hW hdg hf
  obtain ⟨r1, r2, r3, r4⟩ := hR
  rw [← ho] at h1
  have hts := Cx.2.2.2.2.1
  have hK := Cx.2.2.2.2.2.1
  refine vx_runF (x := fwX) (C := RX2) (n := 2) (hK.1.1 2 _ rfl).2 ⟨Cx.1, Cx.2.1, Cx.2.2.1, Cx.2.2.2.1, Cx.2.2.2.2.1⟩ hM (va_cwF 2 hts (fun w hw => ?_) rfl r1 r2 hK.2.2.2.2.2.2.2.1 (by decide +kernel) ⟨r3, r4⟩) (hp _ _ _ rfl) hg hn hsz hst hW hdg hf
  unfold va_wsF at hw
  rcases List.mem_append.mp hw with hw | hw
  · simp only [List.mem_cons, List.not_mem_nil, or_false] at hw
    rcases hw with rfl | rfl | rfl | rfl
    · exact lw_self _ h1
    · exact lw_self _ h3
    · exact lw_self _ h2
    · exact lw_self _ h4
  · exact lw_meth h5 w hw
end CALLK
