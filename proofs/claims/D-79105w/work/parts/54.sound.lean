/-! SOUNDNESS OF A WHOLE RUN: where mRun ends with (r, h'), the JVM comes to the same end -/
set_option maxRecDepth 100000
def mPc (D : va_G) (cA : Nat → ClassId) (ro : Nat → MC → Prop) (sv : Nat → Option Nat) (B : Nat) (as : List MV) (h : MH) : Array Value → State → Prop := fun v U => v = (as.map mvV).toArray ∧ mHR D cA ro h U.heap ∧ KS D cA ro sv (fun q => B ≤ q) U ∧ B ≤ U.heap.size
def mQc (D : va_G) (cA : Nat → ClassId) (ro : Nat → MC → Prop) (B : Nat) (r : Option MV ⊕ Nat) (h' : MH) : Array Value → State → Outcome → State → Prop := fun _ st o t => (∃ v : Option MV, r = .inl v ∧ o = .returned (v.map mvV)) ∧ mHR D cA ro h' t.heap ∧ va_F (fun q => B ≤ q) st t
def mXc (D : va_G) (cA : Nat → ClassId) (ro : Nat → MC → Prop) (B : Nat) (r : Option MV ⊕ Nat) (h' : MH) : String → Addr → State → State → Prop := fun E q st t => E = RX6 ∧ r = .inr q ∧ mHR D cA ro h' t.heap ∧ va_F (fun q => B ≤ q) st t
theorem nw_on {w : Cond} (hw : nwOK w = true) : w.onTables = true := by
  cases w <;> first | rfl | (cases hw; done)
theorem mPc_blind {D : va_G} {cA : Nat → ClassId} {ro : Nat → MC → Prop} {sv : Nat → Option Nat} {B : Nat} {as : List MV} {h : MH} : FrameBlind (mPc D cA ro sv B as h) := by
  intro a U g mk q
  obtain ⟨q1, q2, ⟨k1, k2, k3, k4, k5, k6, k7, k8, k9, k10⟩, q4⟩ := q
  exact ⟨q1, q2, ⟨va_K.moved (u := U) (U := U.calling g mk a) (Vm.Alike.refl U.vm) k1, fun w hw => va_Nw.same (u := U) (U := U.calling g mk a) (nw_on (List.mem_filter.mp hw).2) rfl (k2 w hw), fun q hq => va_Z.moved (u := U) (U := U.calling g mk a) (Vm.Alike.refl U.vm) (k3 q hq), va_AO.moved (u := U) (U := U.calling g mk a) (Vm.Alike.refl U.vm) k4, va_AO.moved (u := U) (U := U.calling g mk a) (Vm.Alike.refl U.vm) k5, va_AO.moved (u := U) (U := U.calling g mk a) (Vm.Alike.refl U.vm) k6, va_AO2.moved (u := U) (U := U.calling g mk a) (Vm.Alike.refl U.vm) k7, va_Fw.moved (u := U) (U := U.calling g mk a) (by decide) (Vm.Alike.refl U.vm) k8, k9, fun a9 c9 hr => ⟨roAt.moved (u := U) (U := U.calling g mk a) (Vm.Alike.refl U.vm) (k10 a9 c9 hr).1, (k10 a9 c9 hr).2⟩⟩, q4⟩
/-- the entry's locals -/
theorem lg_sl_mv (as : List MV) : lg_sl (as.map mvV) = as.map (fun v => Slot.val (mvV v)) := by
  unfold lg_sl
  induction as with
  | nil => rfl
  | cons a r ih =>
    rw [List.map_cons, List.flatMap_cons, ih, if_neg (by rw [mvV_cat]; decide)]
    rfl
theorem mEntry_LR {M : MRec} {as : List MV} (hl : as.length ≤ rL M) : mLR (rL M) (mEntry M as) ((lg_sl (as.map mvV) ++ List.replicate (rL M - (lg_sl (as.map mvV)).length) Slot.unset).toArray) := by
  have h1 := lv_entry (as.map mvV) (n := rL M) (by rw [lg_sl_mv, List.length_map]; exact hl)
  refine ⟨by simp [mEntry]; omega, h1.1, h1.2.1, fun i v hv => ?_⟩
  rw [lg_sl_mv]
  unfold mEntry at hv
  by_cases hi : i < as.length
  · rw [List.getElem?_append_left (by rw [List.length_map]; exact hi), List.getElem?_map] at hv
    cases ha : as[i]? with
    | none => rw [ha] at hv; cases hv
    | some w =>
      rw [ha] at hv
      have hw : w = v := by simpa using hv
      subst hw
      rw [List.getElem?_toArray, List.getElem?_append_left (by rw [List.length_map]; exact hi), List.getElem?_map, ha]
      rfl
  · rw [List.getElem?_append_right (by rw [List.length_map]; omega), List.getElem?_replicate] at hv
    split at hv <;> cases hv
section SOUND
variable {D : va_G} {cA : Nat → ClassId} {ro : Nat → MC → Prop} {sv : Nat → Option Nat} {B sl0 : Nat} {M : MRec} {p : Program} {l : Launch} {e : Env} {R : Room} {s : State} {m : MethodId} {args : Array Value} {below : List Frame} {meth : Method} {c : Code} {Q : State → Prop} {pc pc' : Nat} {ls ls' : ML} {st st' : List MV} {h h' : MH}
/-- the frame with q thrown over it -/
def mKT (D : va_G) (cA : Nat → ClassId) (ro : Nat → MC → Prop) (B sl0 : Nat) (M : MRec) (p : Program) (l : Launch) (e : Env) (R : Room) (s : State) (m : MethodId) (args : Array Value) (below : List Frame) (meth : Method) (c : Code) (Q : State → Prop) (q : Nat) (pc : Nat) (ls : ML) (h : MH) : Prop :=
  ∀ (H : Heap) (locs : List Loc) (cells slots : Nat) (lr : Array Slot) (rest : List Value) (ce : Cell), mPt D cA ro B sl0 M s ls h H locs cells slots lr → H[q]? = some ce → ce.vm = .none → s.vm.findClass RX6 = some ce.cls → vx_W p l e R s m args below meth c H locs cells slots Q (F0 m pc lr rest) q
theorem vx_keep2 {A0 A1 : Nat → Prop} {H0 H : Heap} {locs : List Loc} {free : Addr → Prop} {st₀ t T' : State} {L : List Loc} (h0 : st₀.heap = H) (e1 : T'.heap = t.heap) (hS : va_S A0 H0 H locs) (hA : ∀ q, q < H.size → A1 q → A0 q) (hf : ∀ q, free q → A0 q) (hL : ∀ q ∈ L, free q.base) (hF : va_F A1 st₀ t) : va_S A0 H0 T'.heap (locs ++ L) := by
  obtain ⟨hz, hk⟩ := hF
  rw [h0] at hz hk
  exact ⟨Nat.le_trans hS.1 (by rw [e1]; exact hz), fun q h1 h2 => by rw [e1, hk q (Nat.lt_of_lt_of_le h1 hS.1) (fun z => h2 (hA q (Nat.lt_of_lt_of_le h1 hS.1) z))]; exact hS.2.1 q h1 h2, fun q hq => by
      rcases List.mem_append.mp hq with h | h
      · exact hS.2.2 q h
      · exact hf _ (hL q h)⟩
theorem toL_map (v : Option MV) (r : List MV) : (v.toList ++ r).map mvV = (v.map mvV).toList ++ r.map mvV := by
  cases v <;> rfl
/-- behind a call: the same end on both sides (len 3 or 5) -/
theorem after_call {len mc ms : Nat} {r : List MV} {st0 : List MV} {rr : Option MV ⊕ Nat} {h2 : MH} {H : Heap} {locs : List Loc} {cells slots : Nat} {lr : Array Slot} {as : Array Value} (P : mPt D cA ro B sl0 M s ls h H locs cells slots lr) (e1 : h.1 + mc = h2.1) (e2 : h.2.1 + ms = h2.2.1)
    (hr : ∀ T : State, T.heap = H → Stand p l e R s m args below meth c T locs cells slots →
    (∃ (v : Option Value) (st₀ t T' : State) (L : List Loc), st₀.heap = H ∧ Stand p l e R s m args below meth c T' (locs ++ L) (cells + mc) (slots + ms) ∧ (∀ q ∈ L, B ≤ q.base) ∧ T'.heap = t.heap ∧ T'.vm = t.vm ∧ mQc D cA ro B rr h2 as st₀ (.returned v) t ∧
      Goes p e below T (F0 m pc lr (st0.map mvV)) T' (F0 m (pc + len) lr (v.toList ++ r.map mvV))) ∨
    (∃ (q : Addr) (st₀ t T' : State) (L : List Loc) (E : String) (ce : Cell), st₀.heap = H ∧ Stand p l e R s m args below meth c T' (locs ++ L) (cells + mc) (slots + ms) ∧ (∀ z ∈ L, B ≤ z.base) ∧ T'.heap = t.heap ∧ T'.vm = t.vm ∧ mXc D cA ro B rr h2 E q st₀ t ∧ t.heap[q]? = some ce ∧ ce.vm = .none ∧ s.vm.findClass E = some ce.cls ∧
      Steps p.tables e below (T.setTop (F0 m pc lr (st0.map mvV))) ((T'.setTop (F0 m pc lr (r.map mvV))).pushFrame (.throwing q))))
    (kN : ∀ v, rr = .inl v → mK D cA ro B sl0 M p l e R s m args below meth c Q (pc + len) ls (v.toList ++ r) h2) (kT : ∀ q, rr = .inr q → mKT D cA ro B sl0 M p l e R s m args below meth c Q q pc ls h2) :
    W p l e R s m args below meth c H locs cells slots Q (F0 m pc lr (st0.map mvV)) := by
  intro T hT X
  rcases hr T hT X with ⟨v, st₀, t, T', L, h0, X', hL, e3, e4, ⟨⟨v2, rv, ov⟩, hHR, hF⟩, go⟩ | ⟨q, st₀, t, T', L, E, ce, h0, X', hL, e3, e4, ⟨rfl, rq, hHR, hF⟩, hce, hcv, hcl, go⟩
  · have P' : mPt D cA ro B sl0 M s ls h2 T'.heap (locs ++ L) (cells + mc) (slots + ms) lr := ⟨P.1, by rw [e3]; exact hHR, vx_keep2 h0 e3 P.2.2.1 (fun q _ hq => hq) (free := fun q => B ≤ q) (fun q hq => hq) hL hF, by rw [← e1, P.2.2.2.1]; omega, by rw [← e2, P.2.2.2.2.1]; omega, P.2.2.2.2.2⟩
    obtain ⟨t9, a1, b1⟩ := kN v2 rv T'.heap (locs ++ L) _ _ lr P' T' rfl X'
    have ev : v = v2.map mvV := by cases ov; rfl
    refine ⟨t9, go t9 ?_, b1⟩
    rw [ev, ← toL_map]
    exact a1
  · have P' : mPt D cA ro B sl0 M s ls h2 T'.heap (locs ++ L) (cells + mc) (slots + ms) lr := ⟨P.1, by rw [e3]; exact hHR, vx_keep2 h0 e3 P.2.2.1 (fun q _ hq => hq) (free := fun q => B ≤ q) (fun q hq => hq) hL hF, by rw [← e1, P.2.2.2.1]; omega, by rw [← e2, P.2.2.2.2.1]; omega, P.2.2.2.2.2⟩
    obtain ⟨t9, a1, b1⟩ := kT q rq T'.heap (locs ++ L) _ _ lr (r.map mvV) ce P' (by rw [e3]; exact hce) hcv hcl T' rfl X'
    exact ⟨t9, go.trans a1, b1⟩
theorem hFind_none : ∀ {hh : List (Nat × Nat × Nat × Nat)} {pc : Nat}, hFind hh pc = some none → ∀ x ∈ tableOf hh, covers x pc = false
  | [], _, _ => fun x hx => by cases hx
  | (a, b, t, cc) :: r, pc, h => by
    unfold hFind at h
    split at h
    · split at h <;> cases h
    · rename_i hn
      intro x hx
      rcases List.mem_cons.mp (show x ∈ (⟨a, b, t, cc⟩ : ExceptionTableEntry) :: tableOf r from hx) with rfl | hx
      · show (decide (a ≤ pc) && decide (pc < b)) = false
        by_cases h1 : a ≤ pc
        · have h2 : ¬ pc < b := fun q => hn ⟨h1, q⟩
          simp [h2]
        · simp [h1]
      · exact hFind_none h x hx
theorem hFind_some : ∀ {hh : List (Nat × Nat × Nat × Nat)} {pc t : Nat}, hFind hh pc = some (some t) → ∃ (pre suf : List ExceptionTableEntry) (a b cc : Nat), tableOf hh = pre ++ ⟨a, b, t, cc⟩ :: suf ∧ (∀ z ∈ pre, covers z pc = false) ∧ covers ⟨a, b, t, cc⟩ pc = true ∧ cc ≠ 0 ∧ (a, b, t, cc) ∈ hh
  | [], _, _, h => by cases h
  | (a, b, t0, cc) :: r, pc, t, h => by
    unfold hFind at h
    split at h
    · rename_i hn
      split at h
      · cases h
      · rename_i hc
        cases h
        exact ⟨[], tableOf r, a, b, cc, rfl, fun z hz => (by cases hz), (by show (decide (a ≤ pc) && decide (pc < b)) = true; simp [hn.1, hn.2]), hc, List.mem_cons_self⟩
    · rename_i hn
      obtain ⟨pre, suf, a2, b2, c2, h1, h2, h3, h4, h5⟩ := hFind_some h
      refine ⟨⟨a, b, t0, cc⟩ :: pre, suf, a2, b2, c2, by show _ :: tableOf r = _; rw [h1]; rfl, fun z hz => ?_, h3, h4, List.mem_cons_of_mem _ h5⟩
      rcases List.mem_cons.mp hz with rfl | hz
      · show (decide (a ≤ pc) && decide (pc < b)) = false
        by_cases h1 : a ≤ pc
        · have h2 : ¬ pc < b := fun q => hn ⟨h1, q⟩
          simp [h2]
        · simp [h1]
      · exact h2 z hz
/-- a throw goes to the caller -/
theorem throw_out {q mc ms : Nat} (C : mCtx D cA ro sv B M p l s m args meth c) (hf : hFind (rH M) pc = some none) (e1 : s.heap.size + mc = h.1) (e2 : sl0 + ms = h.2.1) : mKT D cA ro B sl0 M p l e R s m args below meth c (vx_MQ below (mQc D cA ro B (.inr q) h) (mXc D cA ro B (.inr q) h) args s mc ms (fun q => B ≤ q)) q pc ls h := by
  intro H locs cells slots lr rest ce P hce hcv hcl
  refine vx_outP (E := RX6) C.2.2.2.1 C.2.2.2.2.2.2.2.1 (fun z hz => Or.inl (hFind_none hf z (by rw [← C.2.2.2.2.2.2.2.2.2]; exact hz))) hce hcv hcl (fun t ht _ => ⟨rfl, rfl, by rw [ht]; exact P.2.1, P.2.2.1.F ht⟩) P.2.2.1.2.2 ?_ ?_
  · have := P.2.2.2.1; omega
  · have := P.2.2.2.2.1; omega
/-- a throw is caught here -/
theorem throw_in {q t : Nat} (C : mCtx D cA ro sv B M p l s m args meth c) (hM : MOK M) (hf : hFind (rH M) pc = some (some t)) (k : mK D cA ro B sl0 M p l e R s m args below meth c Q t ls [.inr (some q)] h) : mKT D cA ro B sl0 M p l e R s m args below meth c Q q pc ls h := by
  intro H locs cells slots lr rest ce P hce hcv hcl
  obtain ⟨pre, suf, a, b, cc, h1, h2, h3, h4, h5⟩ := hFind_some hf
  exact vx_catch (E := RX6) (name := RX6) C.2.2.2.1 pre ⟨a, b, t, cc⟩ suf (by rw [C.2.2.2.2.2.2.2.2.2]; exact h1) (fun z hz => Or.inl (h2 z hz)) h3 h4 (C.2.2.2.2.1 _ (hM.2.2.2 _ h5 h4)) (va_Nw.use rfl (C.2.2.2.2.2.1.2.1 _ (nw_q q554 rfl))) hce hcv hcl (k H locs cells slots lr P)
/-- ireturn, areturn, return -/
theorem step_ret {i : Instr} {len mc ms : Nat} {v : Option MV} {h1 : MH} (C : mCtx D cA ro sv B M p l s m args meth c) (hd : decode (rC M) pc = .ok (i, len)) (hl : mLen i len = true) (hx : ex B sv M pc ls st h i = some (.inr (.inr (.inl (v, h1))))) (e1 : s.heap.size + mc = h1.1) (e2 : sl0 + ms = h1.2.1) : mK D cA ro B sl0 M p l e R s m args below meth c (vx_MQ below (mQc D cA ro B (.inl v) h1) (mXc D cA ro B (.inl v) h1) args s mc ms (fun q => B ≤ q)) pc ls st h := by
  have fin_ : ∀ {H : Heap} {locs : List Loc} {cells slots : Nat} {lr : Array Slot} {v : Option MV}, mPt D cA ro B sl0 M s ls h H locs cells slots lr → ∀ t : State, t.heap = H → s.WarmedH t.vm → mQc D cA ro B (.inl v) h args s (.returned (v.map mvV)) t := fun P t ht _ => ⟨⟨_, rfl, rfl⟩, by rw [ht]; exact P.2.1, P.2.2.1.F ht⟩
  cases i with
  | ireturn =>
    replace hd := len_of hd hl
    replace hx : xRet (rR M) st h = _ := hx
    unfold xRet at hx
    split at hx
    · rename_i x hty
      cases hx
      intro H locs cells slots lr P
      have z1 : cells = mc := by have := P.2.2.2.1; omega
      have z2 : slots = ms := by have := P.2.2.2.2.1; omega
      subst z1 z2
      exact vx_ret (W.zret (v := x) (ty := .int) C.1 C.2.1 (by rw [C.2.2.2.2.2.2.1]; exact hty) rfl (fun t ht hW => fin_ (v := some (.inl x)) P t ht hW) P.2.2.1.2.2 hd (hlocks := C.2.2.2.2.2.2.2.1))
    · rename_i x hty
      split at hx
      · rename_i hb
        cases hx
        intro H locs cells slots lr P
        have z1 : cells = mc := by have := P.2.2.2.1; omega
        have z2 : slots = ms := by have := P.2.2.2.2.1; omega
        subst z1 z2
        exact vx_ret (W.zret (v := x) (ty := .boolean) C.1 C.2.1 (by rw [C.2.2.2.2.2.2.1]; exact hty) (by rcases hb with rfl | rfl <;> decide) (fun t ht hW => fin_ (v := some (.inl x)) P t ht hW) P.2.2.1.2.2 hd (hlocks := C.2.2.2.2.2.2.2.1))
      · cases hx
    · cases hx
  | areturn =>
    replace hd := len_of hd hl
    replace hx : xAret (rR M) st h = _ := hx
    unfold xAret at hx
    have rf : ∀ x : Option Nat, mvV (.inr x) = .null ∨ ∃ a, mvV (.inr x) = .ref a := fun x => by
      cases x with
      | none => exact Or.inl rfl
      | some a => exact Or.inr ⟨a, rfl⟩
    split at hx
    · rename_i nm x hty
      cases hx
      intro H locs cells slots lr P
      have z1 : cells = mc := by have := P.2.2.2.1; omega
      have z2 : slots = ms := by have := P.2.2.2.2.1; omega
      subst z1 z2
      exact vx_ret (W.aret (v := mvV (.inr x)) (rt := .object nm) C.1 C.2.1 (by rw [C.2.2.2.2.2.2.1]; exact hty) (Or.inl ⟨_, rfl⟩) (rf x) (fun t ht hW => fin_ (v := some (.inr x)) P t ht hW) P.2.2.1.2.2 hd (hlocks := C.2.2.2.2.2.2.2.1))
    · rename_i nm x hty
      cases hx
      intro H locs cells slots lr P
      have z1 : cells = mc := by have := P.2.2.2.1; omega
      have z2 : slots = ms := by have := P.2.2.2.2.1; omega
      subst z1 z2
      exact vx_ret (W.aret (v := mvV (.inr x)) (rt := .array nm) C.1 C.2.1 (by rw [C.2.2.2.2.2.2.1]; exact hty) (Or.inr ⟨_, rfl⟩) (rf x) (fun t ht hW => fin_ (v := some (.inr x)) P t ht hW) P.2.2.1.2.2 hd (hlocks := C.2.2.2.2.2.2.2.1))
    · cases hx
  | return_ =>
    replace hd := len_of hd hl
    replace hx : xVret (rR M) st h = _ := hx
    unfold xVret at hx
    split at hx
    · rename_i hty
      cases hx
      intro H locs cells slots lr P
      have z1 : cells = mc := by have := P.2.2.2.1; omega
      have z2 : slots = ms := by have := P.2.2.2.2.1; omega
      subst z1 z2
      exact vx_ret (W.vret C.1 C.2.1 (by rw [C.2.2.2.2.2.2.1]; exact hty) (fun t ht hW => fin_ (v := none) P t ht hW) P.2.2.1.2.2 hd (hlocks := C.2.2.2.2.2.2.2.1))
    · cases hx
  | _ => exact nomatch (show false = true from (ex_kind hx).1 rfl)
end SOUND
