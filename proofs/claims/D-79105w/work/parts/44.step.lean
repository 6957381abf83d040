/-! SOUNDNESS OF A STEP, one instruction after another -/
set_option maxRecDepth 100000
/-- a frame of method M on the JVM's side -/
def mCtx (D : va_G) (cA : Nat → ClassId) (ro : Nat → MC → Prop) (sv : Nat → Option Nat) (B : Nat) (M : MRec) (p : Program) (l : Launch) (s : State) (m : MethodId) (args : Array Value) (meth : Method) (c : Code) : Prop :=
  p.tables.exec = Jvm.exec ∧ c.code = rC M ∧ c.maxLocals = rL M ∧ s.vm.findClass (rN M).cls = some m.cls ∧ (∀ w ∈ lw_all, w.before args s = true) ∧ KS D cA ro sv (fun q => B ≤ q) s ∧ meth.sig.returnType = rR M ∧ meth.locks = false ∧ meth.name = (rN M).name ∧ c.exceptionTable.toList = tableOf (rH M)
/-- a point of a frame: both machines side by side -/
def mPt (D : va_G) (cA : Nat → ClassId) (ro : Nat → MC → Prop) (B sl0 : Nat) (M : MRec) (s : State) (ls : ML) (h : MH) (H : Heap) (locs : List Loc) (cells slots : Nat) (lr : Array Slot) : Prop :=
  mLR (rL M) ls lr ∧ mHR D cA ro h H ∧ va_S (fun q => B ≤ q) s.heap H locs ∧ h.1 = s.heap.size + cells ∧ h.2.1 = sl0 + slots ∧ B ≤ s.heap.size
/-- from every such point the JVM comes to Q -/
def mK (D : va_G) (cA : Nat → ClassId) (ro : Nat → MC → Prop) (B sl0 : Nat) (M : MRec) (p : Program) (l : Launch) (e : Env) (R : Room) (s : State) (m : MethodId) (args : Array Value) (below : List Frame) (meth : Method) (c : Code) (Q : State → Prop) (pc : Nat) (ls : ML) (st : List MV) (h : MH) : Prop :=
  ∀ (H : Heap) (locs : List Loc) (cells slots : Nat) (lr : Array Slot), mPt D cA ro B sl0 M s ls h H locs cells slots lr → W p l e R s m args below meth c H locs cells slots Q (F0 m pc lr (st.map mvV))
theorem mNx_inj {a a' : Nat} {b b' : ML} {c c' : List MV} {d d' : MH} (h : mNx a b c d = some (.inl (a', b', c', d'))) : a = a' ∧ b = b' ∧ c = c' ∧ d = d' := by
  unfold mNx at h
  cases h
  exact ⟨rfl, rfl, rfl, rfl⟩
theorem mGo_inj {pc a' : Nat} {off : Int} {b b' : ML} {c c' : List MV} {d d' : MH} (h : mGo pc off b c d = some (.inl (a', b', c', d'))) : (pc : Int) + off = (a' : Int) ∧ b = b' ∧ c = c' ∧ d = d' := by
  unfold mGo at h
  split at h
  · rename_i hp
    obtain ⟨rfl, h2⟩ := mNx_inj h
    exact ⟨(Int.toNat_of_nonneg hp).symm, h2⟩
  · cases h
section STEP
variable {D : va_G} {cA : Nat → ClassId} {ro : Nat → MC → Prop} {sv : Nat → Option Nat} {B sl0 : Nat} {M : MRec} {p : Program} {l : Launch} {e : Env} {R : Room} {s : State} {m : MethodId} {args : Array Value} {below : List Frame} {meth : Method} {c : Code} {Q : State → Prop} {pc pc' : Nat} {ls ls' : ML} {st st' : List MV} {h h' : MH}

theorem k_null (C : mCtx D cA ro sv B M p l s m args meth c) (hd : decode (rC M) pc = .ok (.aconst_null, 1)) (hx : mNx (pc + 1) ls (.inr none :: st) h = some (.inl (pc', ls', st', h'))) (k : mK D cA ro B sl0 M p l e R s m args below meth c Q pc' ls' st' h') : mK D cA ro B sl0 M p l e R s m args below meth c Q pc ls st h := by
  obtain ⟨rfl, rfl, rfl, rfl⟩ := mNx_inj hx
  exact fun H locs cells slots lr P => lv_null C.1 C.2.1 hd (k H locs cells slots lr P)
theorem k_iconst {n : Int} (C : mCtx D cA ro sv B M p l s m args meth c) (hd : decode (rC M) pc = .ok (.iconst n, 1)) (hx : xC (Int32.ofInt n) pc 1 ls st h = some (.inl (pc', ls', st', h'))) (k : mK D cA ro B sl0 M p l e R s m args below meth c Q pc' ls' st' h') : mK D cA ro B sl0 M p l e R s m args below meth c Q pc ls st h := by
  obtain ⟨rfl, rfl, rfl, rfl⟩ := mNx_inj hx
  exact fun H locs cells slots lr P => lv_iconst C.1 C.2.1 hd rfl (k H locs cells slots lr P)
theorem k_bipush {n : Int} (C : mCtx D cA ro sv B M p l s m args meth c) (hd : decode (rC M) pc = .ok (.bipush n, 2)) (hx : xC (Int8.ofInt n).toInt32 pc 2 ls st h = some (.inl (pc', ls', st', h'))) (k : mK D cA ro B sl0 M p l e R s m args below meth c Q pc' ls' st' h') : mK D cA ro B sl0 M p l e R s m args below meth c Q pc ls st h := by
  obtain ⟨rfl, rfl, rfl, rfl⟩ := mNx_inj hx
  exact fun H locs cells slots lr P => lv_bipush C.1 C.2.1 hd rfl (k H locs cells slots lr P)
theorem k_sipush {n : Int} (C : mCtx D cA ro sv B M p l s m args meth c) (hd : decode (rC M) pc = .ok (.sipush n, 3)) (hx : xC (Int16.ofInt n).toInt32 pc 3 ls st h = some (.inl (pc', ls', st', h'))) (k : mK D cA ro B sl0 M p l e R s m args below meth c Q pc' ls' st' h') : mK D cA ro B sl0 M p l e R s m args below meth c Q pc ls st h := by
  obtain ⟨rfl, rfl, rfl, rfl⟩ := mNx_inj hx
  exact fun H locs cells slots lr P => lv_sipush C.1 C.2.1 hd rfl (k H locs cells slots lr P)
theorem k_iload_n {i : Fin 4} (C : mCtx D cA ro sv B M p l s m args meth c) (hd : decode (rC M) pc = .ok (.iload_n i, 1)) (hx : xIld i pc 1 ls st h = some (.inl (pc', ls', st', h'))) (k : mK D cA ro B sl0 M p l e R s m args below meth c Q pc' ls' st' h') : mK D cA ro B sl0 M p l e R s m args below meth c Q pc ls st h := by
  unfold xIld at hx
  split at hx
  · rename_i x hv
    obtain ⟨rfl, rfl, rfl, rfl⟩ := mNx_inj hx
    exact fun H locs cells slots lr P => lv_iload_n C.1 C.2.1 hd rfl (P.1.ld hv) (k H locs cells slots lr P)
  · cases hx
theorem k_iload {i : Nat} (C : mCtx D cA ro sv B M p l s m args meth c) (hd : decode (rC M) pc = .ok (.iload i, 2)) (hx : xIld i pc 2 ls st h = some (.inl (pc', ls', st', h'))) (k : mK D cA ro B sl0 M p l e R s m args below meth c Q pc' ls' st' h') : mK D cA ro B sl0 M p l e R s m args below meth c Q pc ls st h := by
  unfold xIld at hx
  split at hx
  · rename_i x hv
    obtain ⟨rfl, rfl, rfl, rfl⟩ := mNx_inj hx
    exact fun H locs cells slots lr P => lv_iload C.1 C.2.1 hd (P.1.ld hv) (k H locs cells slots lr P)
  · cases hx
theorem k_aload_n {i : Fin 4} (C : mCtx D cA ro sv B M p l s m args meth c) (hd : decode (rC M) pc = .ok (.aload_n i, 1)) (hx : xAld i pc 1 ls st h = some (.inl (pc', ls', st', h'))) (k : mK D cA ro B sl0 M p l e R s m args below meth c Q pc' ls' st' h') : mK D cA ro B sl0 M p l e R s m args below meth c Q pc ls st h := by
  unfold xAld at hx
  split at hx
  · rename_i x hv
    obtain ⟨rfl, rfl, rfl, rfl⟩ := mNx_inj hx
    cases x with
    | none => exact fun H locs cells slots lr P => lv_aload_nN C.1 C.2.1 hd rfl (P.1.ld hv) (k H locs cells slots lr P)
    | some a => exact fun H locs cells slots lr P => lv_aload_n C.1 C.2.1 hd rfl (P.1.ld hv) (k H locs cells slots lr P)
  · cases hx
theorem k_aload {i : Nat} (C : mCtx D cA ro sv B M p l s m args meth c) (hd : decode (rC M) pc = .ok (.aload i, 2)) (hx : xAld i pc 2 ls st h = some (.inl (pc', ls', st', h'))) (k : mK D cA ro B sl0 M p l e R s m args below meth c Q pc' ls' st' h') : mK D cA ro B sl0 M p l e R s m args below meth c Q pc ls st h := by
  unfold xAld at hx
  split at hx
  · rename_i x hv
    obtain ⟨rfl, rfl, rfl, rfl⟩ := mNx_inj hx
    cases x with
    | none => exact fun H locs cells slots lr P => lv_aloadN C.1 C.2.1 hd (P.1.ld hv) (k H locs cells slots lr P)
    | some a => exact fun H locs cells slots lr P => lv_aload C.1 C.2.1 hd (P.1.ld hv) (k H locs cells slots lr P)
  · cases hx
theorem k_istore_n {i : Fin 4} (C : mCtx D cA ro sv B M p l s m args meth c) (hd : decode (rC M) pc = .ok (.istore_n i, 1)) (hx : xIst i pc 1 ls st h = some (.inl (pc', ls', st', h'))) (k : mK D cA ro B sl0 M p l e R s m args below meth c Q pc' ls' st' h') : mK D cA ro B sl0 M p l e R s m args below meth c Q pc ls st h := by
  unfold xIst at hx
  split at hx
  · split at hx
    · rename_i x r hi
      obtain ⟨rfl, rfl, rfl, rfl⟩ := mNx_inj hx
      exact fun H locs cells slots lr P => lv_istore_n C.1 C.2.1 hd rfl P.1.has (by rw [← P.1.1]; exact hi) rfl (fun lr' hl => k H locs cells slots lr' ⟨P.1.set hl, P.2⟩)
    · cases hx
  · cases hx
theorem k_istore {i : Nat} (C : mCtx D cA ro sv B M p l s m args meth c) (hd : decode (rC M) pc = .ok (.istore i, 2)) (hx : xIst i pc 2 ls st h = some (.inl (pc', ls', st', h'))) (k : mK D cA ro B sl0 M p l e R s m args below meth c Q pc' ls' st' h') : mK D cA ro B sl0 M p l e R s m args below meth c Q pc ls st h := by
  unfold xIst at hx
  split at hx
  · split at hx
    · rename_i x r hi
      obtain ⟨rfl, rfl, rfl, rfl⟩ := mNx_inj hx
      exact fun H locs cells slots lr P => lv_istore C.1 C.2.1 hd P.1.has (by rw [← P.1.1]; exact hi) rfl (fun lr' hl => k H locs cells slots lr' ⟨P.1.set hl, P.2⟩)
    · cases hx
  · cases hx
theorem k_astore_n {i : Fin 4} (C : mCtx D cA ro sv B M p l s m args meth c) (hd : decode (rC M) pc = .ok (.astore_n i, 1)) (hx : xAst i pc 1 ls st h = some (.inl (pc', ls', st', h'))) (k : mK D cA ro B sl0 M p l e R s m args below meth c Q pc' ls' st' h') : mK D cA ro B sl0 M p l e R s m args below meth c Q pc ls st h := by
  unfold xAst at hx
  split at hx
  · split at hx
    · rename_i x r hi
      obtain ⟨rfl, rfl, rfl, rfl⟩ := mNx_inj hx
      cases x with
      | none => exact fun H locs cells slots lr P => lv_astore_nN C.1 C.2.1 hd rfl P.1.has (by rw [← P.1.1]; exact hi) rfl (fun lr' hl => k H locs cells slots lr' ⟨P.1.set hl, P.2⟩)
      | some a => exact fun H locs cells slots lr P => lv_astore_n C.1 C.2.1 hd rfl P.1.has (by rw [← P.1.1]; exact hi) rfl (fun lr' hl => k H locs cells slots lr' ⟨P.1.set hl, P.2⟩)
    · cases hx
  · cases hx
theorem k_astore {i : Nat} (C : mCtx D cA ro sv B M p l s m args meth c) (hd : decode (rC M) pc = .ok (.astore i, 2)) (hx : xAst i pc 2 ls st h = some (.inl (pc', ls', st', h'))) (k : mK D cA ro B sl0 M p l e R s m args below meth c Q pc' ls' st' h') : mK D cA ro B sl0 M p l e R s m args below meth c Q pc ls st h := by
  unfold xAst at hx
  split at hx
  · split at hx
    · rename_i x r hi
      obtain ⟨rfl, rfl, rfl, rfl⟩ := mNx_inj hx
      cases x with
      | none => exact fun H locs cells slots lr P => lv_astoreN C.1 C.2.1 hd P.1.has (by rw [← P.1.1]; exact hi) rfl (fun lr' hl => k H locs cells slots lr' ⟨P.1.set hl, P.2⟩)
      | some a => exact fun H locs cells slots lr P => lv_astore C.1 C.2.1 hd P.1.has (by rw [← P.1.1]; exact hi) rfl (fun lr' hl => k H locs cells slots lr' ⟨P.1.set hl, P.2⟩)
    · cases hx
  · cases hx
theorem mLs_at {ls : ML} {i : Nat} {v : MV} (hv : mLd ls i = some v) : ∃ k : Nat, (mLs ls)[k]? = some (i, mvV v) := by
  have h1 : ls[i]? = some (some v) := by
    unfold mLd at hv
    split at hv
    · rename_i w hw
      rw [hw, Option.some.inj hv]
    · cases hv
  exact List.getElem?_of_mem (mLs_mem.mpr ⟨v, h1, rfl⟩)
theorem mLd_lt {ls : ML} {i : Nat} {v : MV} (hv : mLd ls i = some v) : i < ls.length := by
  unfold mLd at hv
  split at hv
  · rename_i w hw
    exact (List.getElem?_eq_some_iff.mp hw).1
  · cases hv
theorem k_iinc {i : Nat} {n : Int} (C : mCtx D cA ro sv B M p l s m args meth c) (hd : decode (rC M) pc = .ok (.iinc i n, 3)) (hx : xInc i n pc ls st h = some (.inl (pc', ls', st', h'))) (k : mK D cA ro B sl0 M p l e R s m args below meth c Q pc' ls' st' h') : mK D cA ro B sl0 M p l e R s m args below meth c Q pc ls st h := by
  unfold xInc at hx
  split at hx
  · rename_i x hv
    obtain ⟨rfl, rfl, rfl, rfl⟩ := mNx_inj hx
    obtain ⟨q, hq⟩ := mLs_at hv
    exact fun H locs cells slots lr P => lv_iinc C.1 C.2.1 hd P.1.has hq rfl (by rw [← P.1.1]; exact mLd_lt hv) rfl (fun lr' hl => k H locs cells slots lr' ⟨P.1.set hl, P.2⟩)
  · cases hx
theorem k_iadd (C : mCtx D cA ro sv B M p l s m args meth c) (hd : decode (rC M) pc = .ok (.iadd, 1)) (hx : x2 (fun x y => x + y) pc ls st h = some (.inl (pc', ls', st', h'))) (k : mK D cA ro B sl0 M p l e R s m args below meth c Q pc' ls' st' h') : mK D cA ro B sl0 M p l e R s m args below meth c Q pc ls st h := by
  unfold x2 at hx
  split at hx
  · obtain ⟨rfl, rfl, rfl, rfl⟩ := mNx_inj hx
    exact fun H locs cells slots lr P => lv_iadd C.1 C.2.1 hd (k H locs cells slots lr P)
  · cases hx
theorem k_isub (C : mCtx D cA ro sv B M p l s m args meth c) (hd : decode (rC M) pc = .ok (.isub, 1)) (hx : x2 (fun x y => x - y) pc ls st h = some (.inl (pc', ls', st', h'))) (k : mK D cA ro B sl0 M p l e R s m args below meth c Q pc' ls' st' h') : mK D cA ro B sl0 M p l e R s m args below meth c Q pc ls st h := by
  unfold x2 at hx
  split at hx
  · obtain ⟨rfl, rfl, rfl, rfl⟩ := mNx_inj hx
    exact fun H locs cells slots lr P => lv_isub C.1 C.2.1 hd (k H locs cells slots lr P)
  · cases hx
theorem k_imul (C : mCtx D cA ro sv B M p l s m args meth c) (hd : decode (rC M) pc = .ok (.imul, 1)) (hx : x2 (fun x y => x * y) pc ls st h = some (.inl (pc', ls', st', h'))) (k : mK D cA ro B sl0 M p l e R s m args below meth c Q pc' ls' st' h') : mK D cA ro B sl0 M p l e R s m args below meth c Q pc ls st h := by
  unfold x2 at hx
  split at hx
  · obtain ⟨rfl, rfl, rfl, rfl⟩ := mNx_inj hx
    exact fun H locs cells slots lr P => lv_imul C.1 C.2.1 hd (k H locs cells slots lr P)
  · cases hx
theorem k_iand (C : mCtx D cA ro sv B M p l s m args meth c) (hd : decode (rC M) pc = .ok (.iand, 1)) (hx : x2 (fun x y => x &&& y) pc ls st h = some (.inl (pc', ls', st', h'))) (k : mK D cA ro B sl0 M p l e R s m args below meth c Q pc' ls' st' h') : mK D cA ro B sl0 M p l e R s m args below meth c Q pc ls st h := by
  unfold x2 at hx
  split at hx
  · obtain ⟨rfl, rfl, rfl, rfl⟩ := mNx_inj hx
    exact fun H locs cells slots lr P => lv_iand C.1 C.2.1 hd (k H locs cells slots lr P)
  · cases hx
theorem k_ior (C : mCtx D cA ro sv B M p l s m args meth c) (hd : decode (rC M) pc = .ok (.ior, 1)) (hx : x2 (fun x y => x ||| y) pc ls st h = some (.inl (pc', ls', st', h'))) (k : mK D cA ro B sl0 M p l e R s m args below meth c Q pc' ls' st' h') : mK D cA ro B sl0 M p l e R s m args below meth c Q pc ls st h := by
  unfold x2 at hx
  split at hx
  · obtain ⟨rfl, rfl, rfl, rfl⟩ := mNx_inj hx
    exact fun H locs cells slots lr P => lv_ior C.1 C.2.1 hd (k H locs cells slots lr P)
  · cases hx
theorem k_ixor (C : mCtx D cA ro sv B M p l s m args meth c) (hd : decode (rC M) pc = .ok (.ixor, 1)) (hx : x2 (fun x y => x ^^^ y) pc ls st h = some (.inl (pc', ls', st', h'))) (k : mK D cA ro B sl0 M p l e R s m args below meth c Q pc' ls' st' h') : mK D cA ro B sl0 M p l e R s m args below meth c Q pc ls st h := by
  unfold x2 at hx
  split at hx
  · obtain ⟨rfl, rfl, rfl, rfl⟩ := mNx_inj hx
    exact fun H locs cells slots lr P => lv_ixor C.1 C.2.1 hd (k H locs cells slots lr P)
  · cases hx
theorem k_ishl (C : mCtx D cA ro sv B M p l s m args meth c) (hd : decode (rC M) pc = .ok (.ishl, 1)) (hx : x2 (fun x y => x <<< (y &&& 31)) pc ls st h = some (.inl (pc', ls', st', h'))) (k : mK D cA ro B sl0 M p l e R s m args below meth c Q pc' ls' st' h') : mK D cA ro B sl0 M p l e R s m args below meth c Q pc ls st h := by
  unfold x2 at hx
  split at hx
  · obtain ⟨rfl, rfl, rfl, rfl⟩ := mNx_inj hx
    exact fun H locs cells slots lr P => lv_ishl C.1 C.2.1 hd (k H locs cells slots lr P)
  · cases hx
theorem k_ishr (C : mCtx D cA ro sv B M p l s m args meth c) (hd : decode (rC M) pc = .ok (.ishr, 1)) (hx : x2 (fun x y => x >>> (y &&& 31)) pc ls st h = some (.inl (pc', ls', st', h'))) (k : mK D cA ro B sl0 M p l e R s m args below meth c Q pc' ls' st' h') : mK D cA ro B sl0 M p l e R s m args below meth c Q pc ls st h := by
  unfold x2 at hx
  split at hx
  · obtain ⟨rfl, rfl, rfl, rfl⟩ := mNx_inj hx
    exact fun H locs cells slots lr P => lv_ishr C.1 C.2.1 hd (k H locs cells slots lr P)
  · cases hx
theorem k_iushr (C : mCtx D cA ro sv B M p l s m args meth c) (hd : decode (rC M) pc = .ok (.iushr, 1)) (hx : x2 (fun x y => (x.toUInt32 >>> (y.toUInt32 &&& Int32.toUInt32 31)).toInt32) pc ls st h = some (.inl (pc', ls', st', h'))) (k : mK D cA ro B sl0 M p l e R s m args below meth c Q pc' ls' st' h') : mK D cA ro B sl0 M p l e R s m args below meth c Q pc ls st h := by
  unfold x2 at hx
  split at hx
  · obtain ⟨rfl, rfl, rfl, rfl⟩ := mNx_inj hx
    exact fun H locs cells slots lr P => lv_iushr C.1 C.2.1 hd rfl (k H locs cells slots lr P)
  · cases hx
theorem k_idiv (C : mCtx D cA ro sv B M p l s m args meth c) (hd : decode (rC M) pc = .ok (.idiv, 1)) (hx : x2z (fun x y => x / y) pc ls st h = some (.inl (pc', ls', st', h'))) (k : mK D cA ro B sl0 M p l e R s m args below meth c Q pc' ls' st' h') : mK D cA ro B sl0 M p l e R s m args below meth c Q pc ls st h := by
  unfold x2z at hx
  split at hx
  · split at hx
    · cases hx
    · rename_i hne
      obtain ⟨rfl, rfl, rfl, rfl⟩ := mNx_inj hx
      exact fun H locs cells slots lr P => lv_idiv C.1 C.2.1 hd hne (k H locs cells slots lr P)
  · cases hx
theorem k_irem (C : mCtx D cA ro sv B M p l s m args meth c) (hd : decode (rC M) pc = .ok (.irem, 1)) (hx : x2z (fun x y => x - x / y * y) pc ls st h = some (.inl (pc', ls', st', h'))) (k : mK D cA ro B sl0 M p l e R s m args below meth c Q pc' ls' st' h') : mK D cA ro B sl0 M p l e R s m args below meth c Q pc ls st h := by
  unfold x2z at hx
  split at hx
  · split at hx
    · cases hx
    · rename_i hne
      obtain ⟨rfl, rfl, rfl, rfl⟩ := mNx_inj hx
      exact fun H locs cells slots lr P => lv_irem C.1 C.2.1 hd hne (k H locs cells slots lr P)
  · cases hx
theorem k_ineg (C : mCtx D cA ro sv B M p l s m args meth c) (hd : decode (rC M) pc = .ok (.ineg, 1)) (hx : x1 (fun x => -x) pc ls st h = some (.inl (pc', ls', st', h'))) (k : mK D cA ro B sl0 M p l e R s m args below meth c Q pc' ls' st' h') : mK D cA ro B sl0 M p l e R s m args below meth c Q pc ls st h := by
  unfold x1 at hx
  split at hx
  · obtain ⟨rfl, rfl, rfl, rfl⟩ := mNx_inj hx
    exact fun H locs cells slots lr P => lv_ineg C.1 C.2.1 hd (k H locs cells slots lr P)
  · cases hx
theorem k_i2b (C : mCtx D cA ro sv B M p l s m args meth c) (hd : decode (rC M) pc = .ok (.i2b, 1)) (hx : x1 (fun x => x.toInt8.toInt32) pc ls st h = some (.inl (pc', ls', st', h'))) (k : mK D cA ro B sl0 M p l e R s m args below meth c Q pc' ls' st' h') : mK D cA ro B sl0 M p l e R s m args below meth c Q pc ls st h := by
  unfold x1 at hx
  split at hx
  · obtain ⟨rfl, rfl, rfl, rfl⟩ := mNx_inj hx
    exact fun H locs cells slots lr P => lv_i2b C.1 C.2.1 hd rfl (k H locs cells slots lr P)
  · cases hx
theorem k_dup (C : mCtx D cA ro sv B M p l s m args meth c) (hd : decode (rC M) pc = .ok (.dup, 1)) (hx : xDup pc ls st h = some (.inl (pc', ls', st', h'))) (k : mK D cA ro B sl0 M p l e R s m args below meth c Q pc' ls' st' h') : mK D cA ro B sl0 M p l e R s m args below meth c Q pc ls st h := by
  unfold xDup at hx
  split at hx
  · obtain ⟨rfl, rfl, rfl, rfl⟩ := mNx_inj hx
    exact fun H locs cells slots lr P => lv_dup C.1 C.2.1 hd (mvV_cat _) (k H locs cells slots lr P)
  · cases hx
theorem k_dup2 (C : mCtx D cA ro sv B M p l s m args meth c) (hd : decode (rC M) pc = .ok (.dup2, 1)) (hx : xDup2 pc ls st h = some (.inl (pc', ls', st', h'))) (k : mK D cA ro B sl0 M p l e R s m args below meth c Q pc' ls' st' h') : mK D cA ro B sl0 M p l e R s m args below meth c Q pc ls st h := by
  unfold xDup2 at hx
  split at hx
  · obtain ⟨rfl, rfl, rfl, rfl⟩ := mNx_inj hx
    exact fun H locs cells slots lr P => lv_dup2_11 C.1 C.2.1 hd (mvV_cat _) (mvV_cat _) (k H locs cells slots lr P)
  · cases hx
theorem k_dup_x1 (C : mCtx D cA ro sv B M p l s m args meth c) (hd : decode (rC M) pc = .ok (.dup_x1, 1)) (hx : xDupX1 pc ls st h = some (.inl (pc', ls', st', h'))) (k : mK D cA ro B sl0 M p l e R s m args below meth c Q pc' ls' st' h') : mK D cA ro B sl0 M p l e R s m args below meth c Q pc ls st h := by
  unfold xDupX1 at hx
  split at hx
  · obtain ⟨rfl, rfl, rfl, rfl⟩ := mNx_inj hx
    exact fun H locs cells slots lr P => lv_dup_x1 C.1 C.2.1 hd (mvV_cat _) (mvV_cat _) (k H locs cells slots lr P)
  · cases hx
theorem k_pop (C : mCtx D cA ro sv B M p l s m args meth c) (hd : decode (rC M) pc = .ok (.pop, 1)) (hx : xPop pc ls st h = some (.inl (pc', ls', st', h'))) (k : mK D cA ro B sl0 M p l e R s m args below meth c Q pc' ls' st' h') : mK D cA ro B sl0 M p l e R s m args below meth c Q pc ls st h := by
  unfold xPop at hx
  split at hx
  · obtain ⟨rfl, rfl, rfl, rfl⟩ := mNx_inj hx
    exact fun H locs cells slots lr P => lv_pop C.1 C.2.1 hd (mvV_cat _) (k H locs cells slots lr P)
  · cases hx
theorem k_goto {off : Int} (C : mCtx D cA ro sv B M p l s m args meth c) (hd : decode (rC M) pc = .ok (.goto off, 3)) (hx : mGo pc off ls st h = some (.inl (pc', ls', st', h'))) (k : mK D cA ro B sl0 M p l e R s m args below meth c Q pc' ls' st' h') : mK D cA ro B sl0 M p l e R s m args below meth c Q pc ls st h := by
  obtain ⟨ht, rfl, rfl, rfl⟩ := mGo_inj hx
  exact fun H locs cells slots lr P => lv_goto C.1 C.2.1 hd ht (k H locs cells slots lr P)
theorem k_if {cd : ClassFile.Cond} {off : Int} (C : mCtx D cA ro sv B M p l s m args meth c) (hd : decode (rC M) pc = .ok (.ifCond cd off, 3)) (hx : xIf cd off pc ls st h = some (.inl (pc', ls', st', h'))) (k : mK D cA ro B sl0 M p l e R s m args below meth c Q pc' ls' st' h') : mK D cA ro B sl0 M p l e R s m args below meth c Q pc ls st h := by
  unfold xIf at hx
  split at hx
  · rename_i x r
    split at hx
    · rename_i hp
      have ht := (Int.toNat_of_nonneg hp).symm
      split at hx
      · rename_i hc
        obtain ⟨rfl, rfl, rfl, rfl⟩ := mNx_inj hx
        cases cd with
        | eq =>
          have hc : x = 0 := of_decide_eq_true hc
          exact fun H locs cells slots lr P => lv_if_eq C.1 C.2.1 hd ht (fun _ => k H locs cells slots lr P) (fun q => absurd hc q)
        | ne =>
          have hc : ¬ x = 0 := of_decide_eq_true hc
          exact fun H locs cells slots lr P => lv_if_ne C.1 C.2.1 hd ht (fun _ => k H locs cells slots lr P) (fun q => absurd q hc)
        | lt =>
          have hc : x < 0 := of_decide_eq_true hc
          exact fun H locs cells slots lr P => lv_if_lt C.1 C.2.1 hd ht (fun _ => k H locs cells slots lr P) (fun q => absurd hc q)
        | ge =>
          have hc : 0 ≤ x := of_decide_eq_true hc
          exact fun H locs cells slots lr P => lv_if_ge C.1 C.2.1 hd ht (fun _ => k H locs cells slots lr P) (fun q => absurd hc q)
        | gt =>
          have hc : 0 < x := of_decide_eq_true hc
          exact fun H locs cells slots lr P => lv_if_gt C.1 C.2.1 hd ht (fun _ => k H locs cells slots lr P) (fun q => absurd hc q)
        | le =>
          have hc : x ≤ 0 := of_decide_eq_true hc
          exact fun H locs cells slots lr P => lv_if_le C.1 C.2.1 hd ht (fun _ => k H locs cells slots lr P) (fun q => absurd hc q)
      · rename_i hc
        obtain ⟨rfl, rfl, rfl, rfl⟩ := mNx_inj hx
        cases cd with
        | eq =>
          have hc : ¬ (x = 0) := fun q => hc (decide_eq_true q)
          exact fun H locs cells slots lr P => lv_if_eq C.1 C.2.1 hd ht (fun q => absurd q hc) (fun _ => k H locs cells slots lr P)
        | ne =>
          have hc : ¬ (¬ x = 0) := fun q => hc (decide_eq_true q)
          exact fun H locs cells slots lr P => lv_if_ne C.1 C.2.1 hd ht (fun q => absurd q hc) (fun _ => k H locs cells slots lr P)
        | lt =>
          have hc : ¬ (x < 0) := fun q => hc (decide_eq_true q)
          exact fun H locs cells slots lr P => lv_if_lt C.1 C.2.1 hd ht (fun q => absurd q hc) (fun _ => k H locs cells slots lr P)
        | ge =>
          have hc : ¬ (0 ≤ x) := fun q => hc (decide_eq_true q)
          exact fun H locs cells slots lr P => lv_if_ge C.1 C.2.1 hd ht (fun q => absurd q hc) (fun _ => k H locs cells slots lr P)
        | gt =>
          have hc : ¬ (0 < x) := fun q => hc (decide_eq_true q)
          exact fun H locs cells slots lr P => lv_if_gt C.1 C.2.1 hd ht (fun q => absurd q hc) (fun _ => k H locs cells slots lr P)
        | le =>
          have hc : ¬ (x ≤ 0) := fun q => hc (decide_eq_true q)
          exact fun H locs cells slots lr P => lv_if_le C.1 C.2.1 hd ht (fun q => absurd q hc) (fun _ => k H locs cells slots lr P)
    · cases hx
  · cases hx
theorem k_icmp {cd : ClassFile.Cond} {off : Int} (C : mCtx D cA ro sv B M p l s m args meth c) (hd : decode (rC M) pc = .ok (.if_icmp cd off, 3)) (hx : xIcmp cd off pc ls st h = some (.inl (pc', ls', st', h'))) (k : mK D cA ro B sl0 M p l e R s m args below meth c Q pc' ls' st' h') : mK D cA ro B sl0 M p l e R s m args below meth c Q pc ls st h := by
  unfold xIcmp at hx
  split at hx
  · rename_i y x r
    split at hx
    · rename_i hp
      have ht := (Int.toNat_of_nonneg hp).symm
      split at hx
      · rename_i hc
        obtain ⟨rfl, rfl, rfl, rfl⟩ := mNx_inj hx
        cases cd with
        | eq =>
          have hc : x = y := of_decide_eq_true hc
          exact fun H locs cells slots lr P => lv_icmp_eq C.1 C.2.1 hd ht (fun _ => k H locs cells slots lr P) (fun q => absurd hc q)
        | ne =>
          have hc : ¬ x = y := of_decide_eq_true hc
          exact fun H locs cells slots lr P => lv_icmp_ne C.1 C.2.1 hd ht (fun _ => k H locs cells slots lr P) (fun q => absurd q hc)
        | lt =>
          have hc : x < y := of_decide_eq_true hc
          exact fun H locs cells slots lr P => lv_icmp_lt C.1 C.2.1 hd ht (fun _ => k H locs cells slots lr P) (fun q => absurd hc q)
        | ge =>
          have hc : y ≤ x := of_decide_eq_true hc
          exact fun H locs cells slots lr P => lv_icmp_ge C.1 C.2.1 hd ht (fun _ => k H locs cells slots lr P) (fun q => absurd hc q)
        | gt =>
          have hc : y < x := of_decide_eq_true hc
          exact fun H locs cells slots lr P => lv_icmp_gt C.1 C.2.1 hd ht (fun _ => k H locs cells slots lr P) (fun q => absurd hc q)
        | le =>
          have hc : x ≤ y := of_decide_eq_true hc
          exact fun H locs cells slots lr P => lv_icmp_le C.1 C.2.1 hd ht (fun _ => k H locs cells slots lr P) (fun q => absurd hc q)
      · rename_i hc
        obtain ⟨rfl, rfl, rfl, rfl⟩ := mNx_inj hx
        cases cd with
        | eq =>
          have hc : ¬ (x = y) := fun q => hc (decide_eq_true q)
          exact fun H locs cells slots lr P => lv_icmp_eq C.1 C.2.1 hd ht (fun q => absurd q hc) (fun _ => k H locs cells slots lr P)
        | ne =>
          have hc : ¬ (¬ x = y) := fun q => hc (decide_eq_true q)
          exact fun H locs cells slots lr P => lv_icmp_ne C.1 C.2.1 hd ht (fun q => absurd q hc) (fun _ => k H locs cells slots lr P)
        | lt =>
          have hc : ¬ (x < y) := fun q => hc (decide_eq_true q)
          exact fun H locs cells slots lr P => lv_icmp_lt C.1 C.2.1 hd ht (fun q => absurd q hc) (fun _ => k H locs cells slots lr P)
        | ge =>
          have hc : ¬ (y ≤ x) := fun q => hc (decide_eq_true q)
          exact fun H locs cells slots lr P => lv_icmp_ge C.1 C.2.1 hd ht (fun q => absurd q hc) (fun _ => k H locs cells slots lr P)
        | gt =>
          have hc : ¬ (y < x) := fun q => hc (decide_eq_true q)
          exact fun H locs cells slots lr P => lv_icmp_gt C.1 C.2.1 hd ht (fun q => absurd q hc) (fun _ => k H locs cells slots lr P)
        | le =>
          have hc : ¬ (x ≤ y) := fun q => hc (decide_eq_true q)
          exact fun H locs cells slots lr P => lv_icmp_le C.1 C.2.1 hd ht (fun q => absurd q hc) (fun _ => k H locs cells slots lr P)
    · cases hx
  · cases hx
theorem k_acmp {cd : ClassFile.ACond} {off : Int} (C : mCtx D cA ro sv B M p l s m args meth c) (hd : decode (rC M) pc = .ok (.if_acmp cd off, 3)) (hx : xAcmp cd off pc ls st h = some (.inl (pc', ls', st', h'))) (k : mK D cA ro B sl0 M p l e R s m args below meth c Q pc' ls' st' h') : mK D cA ro B sl0 M p l e R s m args below meth c Q pc ls st h := by
  unfold xAcmp at hx
  split at hx
  · rename_i y x r
    split at hx
    · rename_i hp
      have ht := (Int.toNat_of_nonneg hp).symm
      split at hx
      · rename_i hc
        obtain ⟨rfl, rfl, rfl, rfl⟩ := mNx_inj hx
        exact fun H locs cells slots lr P => lv_acmp_eq (rx := x) (ry := y) C.1 C.2.1 hd ht (fun _ => k H locs cells slots lr P) (fun q => absurd hc q)
      · rename_i hc
        obtain ⟨rfl, rfl, rfl, rfl⟩ := mNx_inj hx
        exact fun H locs cells slots lr P => lv_acmp_eq (rx := x) (ry := y) C.1 C.2.1 hd ht (fun q => absurd q hc) (fun _ => k H locs cells slots lr P)
    · cases hx
  · rename_i y x r
    split at hx
    · rename_i hp
      have ht := (Int.toNat_of_nonneg hp).symm
      split at hx
      · rename_i hc
        obtain ⟨rfl, rfl, rfl, rfl⟩ := mNx_inj hx
        exact fun H locs cells slots lr P => lv_acmp_ne (rx := x) (ry := y) C.1 C.2.1 hd ht (fun q => absurd hc q) (fun _ => k H locs cells slots lr P)
      · rename_i hc
        obtain ⟨rfl, rfl, rfl, rfl⟩ := mNx_inj hx
        exact fun H locs cells slots lr P => lv_acmp_ne (rx := x) (ry := y) C.1 C.2.1 hd ht (fun _ => k H locs cells slots lr P) (fun q => absurd q hc)
    · cases hx
  · cases hx
theorem k_ifnull {off : Int} (C : mCtx D cA ro sv B M p l s m args meth c) (hd : decode (rC M) pc = .ok (.ifnull off, 3)) (hx : xNull off pc ls st h = some (.inl (pc', ls', st', h'))) (k : mK D cA ro B sl0 M p l e R s m args below meth c Q pc' ls' st' h') : mK D cA ro B sl0 M p l e R s m args below meth c Q pc ls st h := by
  unfold xNull at hx
  split at hx
  · obtain ⟨ht, rfl, rfl, rfl⟩ := mGo_inj hx
    exact fun H locs cells slots lr P => lv_ifnullN C.1 C.2.1 hd ht (k H locs cells slots lr P)
  · obtain ⟨rfl, rfl, rfl, rfl⟩ := mNx_inj hx
    exact fun H locs cells slots lr P => lv_ifnull C.1 C.2.1 hd (k H locs cells slots lr P)
  · cases hx
theorem k_ifnonnull {off : Int} (C : mCtx D cA ro sv B M p l s m args meth c) (hd : decode (rC M) pc = .ok (.ifnonnull off, 3)) (hx : xNonnull off pc ls st h = some (.inl (pc', ls', st', h'))) (k : mK D cA ro B sl0 M p l e R s m args below meth c Q pc' ls' st' h') : mK D cA ro B sl0 M p l e R s m args below meth c Q pc ls st h := by
  unfold xNonnull at hx
  split at hx
  · obtain ⟨rfl, rfl, rfl, rfl⟩ := mNx_inj hx
    exact fun H locs cells slots lr P => lv_ifnonnullN C.1 C.2.1 hd (k H locs cells slots lr P)
  · obtain ⟨ht, rfl, rfl, rfl⟩ := mGo_inj hx
    exact fun H locs cells slots lr P => lv_ifnonnull C.1 C.2.1 hd ht (k H locs cells slots lr P)
  · cases hx
theorem k_tsw {d lo hi : Int} {offs : Array Int} {len : Nat} (C : mCtx D cA ro sv B M p l s m args meth c) (hd : decode (rC M) pc = .ok (.tableswitch d lo hi offs, len)) (hx : xTsw d lo hi offs pc ls st h = some (.inl (pc', ls', st', h'))) (k : mK D cA ro B sl0 M p l e R s m args below meth c Q pc' ls' st' h') : mK D cA ro B sl0 M p l e R s m args below meth c Q pc ls st h := by
  unfold xTsw at hx
  split at hx
  · split at hx
    · rename_i hc
      obtain ⟨ht, rfl, rfl, rfl⟩ := mGo_inj hx
      exact fun H locs cells slots lr P => lv_tableOut C.1 C.2.1 hd hc ht (k H locs cells slots lr P)
    · rename_i hc
      split at hx
      · rename_i off ho
        obtain ⟨ht, rfl, rfl, rfl⟩ := mGo_inj hx
        exact fun H locs cells slots lr P => lv_tableIn C.1 C.2.1 hd (fun q => hc (Or.inl q)) (fun q => hc (Or.inr q)) ho ht (k H locs cells slots lr P)
      · cases hx
  · cases hx
theorem k_lsw {d : Int} {ps : Array (Int × Int)} {len : Nat} (C : mCtx D cA ro sv B M p l s m args meth c) (hd : decode (rC M) pc = .ok (.lookupswitch d ps, len)) (hx : xLsw d ps pc ls st h = some (.inl (pc', ls', st', h'))) (k : mK D cA ro B sl0 M p l e R s m args below meth c Q pc' ls' st' h') : mK D cA ro B sl0 M p l e R s m args below meth c Q pc ls st h := by
  unfold xLsw at hx
  split at hx
  · split at hx
    · rename_i hp
      obtain ⟨ht, rfl, rfl, rfl⟩ := mGo_inj hx
      exact fun H locs cells slots lr P => lv_lookup C.1 C.2.1 hd hp rfl ht (k H locs cells slots lr P)
    · cases hx
  · cases hx
end STEP
