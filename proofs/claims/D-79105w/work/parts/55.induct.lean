/-! SOUNDNESS OF A WHOLE RUN, the induction -/
set_option maxRecDepth 100000
/-- the tables of calls, row by row -/
def CALLS : Prop := (∀ q ∈ tV, COKV q.1 q.2.1 q.2.2.1 q.2.2.2 ∧ MOK q.2.1 ∧ q.2.2.1 + 1 ≤ rL q.2.1) ∧ (∀ q ∈ tF5, COKF q.1 q.2.1 q.2.2.1 q.2.2.2 ∧ MOK q.2.1 ∧ q.2.2.1 + 1 ≤ rL q.2.1) ∧ (∀ q ∈ tI, COKI q.1 q.2.1 q.2.2 ∧ MOK q.2.1 ∧ q.2.2 + 1 ≤ rL q.2.1) ∧ (∀ q ∈ tSt, COKS q.1 q.2.1 q.2.2 ∧ MOK q.2.1 ∧ q.2.2 ≤ rL q.2.1)
theorem xCallV_inv {q : Option (MRec × Nat × Nat)} {len pc : Nat} {st : List MV} {h : MH} {M' : MRec} {as r : List MV} {pc' : Nat} {h1 : MH} (hx : xCallV q len pc st h = some (.inr (.inl (M', as, pc', r, h1)))) : ∃ (n ci : Nat) (b : Nat) (fs : List MV), q = some (M', n, ci) ∧ as = .inr (some b) :: (st.take n).reverse ∧ (st.take n).length = n ∧ st = st.take n ++ .inr (some b) :: r ∧ r.length ≤ 8 ∧ hG h b = some (.inr (.inr (ci, fs))) ∧ pc' = pc + len ∧ h1 = h := by
  unfold xCallV at hx
  cases q with
  | none => cases hx
  | some q =>
    obtain ⟨M2, n, ci⟩ := q
    dsimp only at hx
    split at hx
    · rename_i hn
      rcases hdr : st.drop n with _ | ⟨x | (_ | b), r2⟩ <;> rw [hdr] at hx <;> try dsimp only at hx
      · cases hx
      · cases hx
      · cases hx
      · rcases hg : hG h b with _ | (c1 | (c1 | ⟨c2, fs⟩)) <;> rw [hg] at hx <;> try dsimp only at hx
        · cases hx
        · cases hx
        · cases hx
        · split at hx
          · rename_i hc
            cases hx
            subst hc
            have h9 := hn.2
            rw [hdr, List.length_cons] at h9
            refine ⟨n, c2, b, fs, rfl, rfl, by rw [List.length_take]; omega, ?_, by omega, hg, rfl, rfl⟩
            rw [← hdr]
            exact (List.take_append_drop n st).symm
          · cases hx
    · cases hx
theorem xCallI_inv {q : Option (MRec × Nat)} {pc : Nat} {st : List MV} {h : MH} {M' : MRec} {as r : List MV} {pc' : Nat} {h1 : MH} (hx : xCallI q pc st h = some (.inr (.inl (M', as, pc', r, h1)))) : ∃ (n : Nat) (b : Nat), q = some (M', n) ∧ as = .inr (some b) :: (st.take n).reverse ∧ (st.take n).length = n ∧ st = st.take n ++ .inr (some b) :: r ∧ r.length ≤ 8 ∧ pc' = pc + 3 ∧ h1 = h := by
  unfold xCallI at hx
  cases q with
  | none => cases hx
  | some q =>
    obtain ⟨M2, n⟩ := q
    dsimp only at hx
    split at hx
    · rename_i hn
      rcases hdr : st.drop n with _ | ⟨x | (_ | b), r2⟩ <;> rw [hdr] at hx <;> try dsimp only at hx
      · cases hx
      · cases hx
      · cases hx
      · rcases hg : hG h b with _ | (c1 | (c1 | c1)) <;> rw [hg] at hx <;> try dsimp only at hx
        · cases hx
        · cases hx
        · cases hx
        · cases hx
          have h9 := hn.2
          rw [hdr, List.length_cons] at h9
          refine ⟨n, b, rfl, rfl, by rw [List.length_take]; omega, ?_, by omega, rfl, rfl⟩
          rw [← hdr]
          exact (List.take_append_drop n st).symm
    · cases hx
theorem xCallS_inv {q : Option (MRec × Nat)} {pc : Nat} {st : List MV} {h : MH} {M' : MRec} {as r : List MV} {pc' : Nat} {h1 : MH} (hx : xCallS q pc st h = some (.inr (.inl (M', as, pc', r, h1)))) : ∃ (n : Nat), q = some (M', n) ∧ as = (st.take n).reverse ∧ (st.take n).length = n ∧ st = st.take n ++ r ∧ r.length ≤ 8 ∧ pc' = pc + 3 ∧ h1 = h := by
  unfold xCallS at hx
  cases q with
  | none => cases hx
  | some q =>
    obtain ⟨M2, n⟩ := q
    dsimp only at hx
    split at hx
    · rename_i hn
      cases hx
      refine ⟨n, rfl, rfl, by rw [List.length_take]; omega, (List.take_append_drop n st).symm, hn.2, rfl, rfl⟩
    · cases hx
theorem args_rev (st : List MV) (n : Nat) : (((st.take n).reverse).map mvV).reverse = (st.take n).map mvV := by
  rw [List.map_reverse, List.reverse_reverse]
theorem st_split {st r : List MV} {n b : Nat} (h : st = st.take n ++ .inr (some b) :: r) : st.map mvV = (((st.take n).reverse).map mvV).reverse ++ Value.ref b :: r.map mvV := by
  rw [args_rev]
  have h2 := congrArg (List.map mvV) h
  rw [List.map_append] at h2
  exact h2
theorem st_split2 {st r : List MV} {n : Nat} (h : st = st.take n ++ r) : st.map mvV = (((st.take n).reverse).map mvV).reverse ++ r.map mvV := by
  rw [args_rev]
  have h2 := congrArg (List.map mvV) h
  rw [List.map_append] at h2
  exact h2
theorem xThrow_inv {B : Nat} {sv : Nat → Option Nat} {M : MRec} {pc : Nat} {ls : ML} {st : List MV} {h h1 : MH} {i : Instr} {q : Nat} (hx : ex B sv M pc ls st h i = some (.inr (.inr (.inr (q, h1))))) : ∃ fs, i = .athrow ∧ h1 = h ∧ hG h1 q = some (.inr (.inr (6, fs))) ∧ ∃ rest, st = .inr (some q) :: rest := by
  cases i with
  | athrow =>
    replace hx : xThrow st h = _ := hx
    rcases st with _ | ⟨x | (_ | a), r2⟩
    · cases hx
    · cases hx
    · cases hx
    · unfold xThrow at hx
      dsimp only at hx
      rcases hg : hG h a with _ | (c1 | (c1 | ⟨c2, fs⟩)) <;> rw [hg] at hx <;> try dsimp only at hx
      · cases hx
      · cases hx
      · cases hx
      · split at hx
        · rename_i hc
          subst hc
          cases hx
          exact ⟨fs, rfl, rfl, hg, r2, rfl⟩
        · cases hx
  | _ => exact nomatch (show false = true from (ex_kind hx).2.1 rfl)
/-- what the induction carries -/
def Snd (B : Nat) (sv : Nat → Option Nat) (n : Nat) : Prop :=
  ∀ (d : Nat) (M : MRec) (pc : Nat) (ls : ML) (st : List MV) (h : MH) (r : Option MV ⊕ Nat) (h' : MH), mRun B sv n d M (pc, ls, st, h) = some (r, h') → MOK M →
  ∀ {D : va_G} {cA : Nat → ClassId} {ro : Nat → MC → Prop} {sl0 : Nat} {p : Program} {l : Launch} {e : Env} {R : Room} {s : State} {m : MethodId} {args : Array Value} {below : List Frame} {meth : Method} {c : Code} {mc ms : Nat},
    mCtx D cA ro sv B M p l s m args meth c → d + 1 ≤ R.frames → 64 * (d + 1) ≤ R.locals → s.heap.size + mc = h'.1 → sl0 + ms = h'.2.1 → mc ≤ R.cells → ms ≤ R.slots →
    mK D cA ro B sl0 M p l e R s m args below meth c (vx_MQ below (mQc D cA ro B r h') (mXc D cA ro B r h') args s mc ms (fun q => B ≤ q)) pc ls st h
/-- a callee's contract -/
theorem snd_met {B n d : Nat} {sv : Nat → Option Nat} (ih : Snd B sv n) {M' : MRec} {as : List MV} {h h2 : MH} {rr : Option MV ⊕ Nat} (hr : mRun B sv n d M' (0, mEntry M' as, [], h) = some (rr, h2)) (hM : MOK M') (hl : as.length ≤ rL M') {D : va_G} {cA : Nat → ClassId} {ro : Nat → MC → Prop} {l : Launch} {mc ms : Nat} (e1 : h.1 + mc = h2.1) (e2 : h.2.1 + ms = h2.2.1) :
    vx_Met l (rN M') (wsM M') ({ frames := d + 1, cells := mc, slots := ms, locals := 64 * (d + 1) }) (mPc D cA ro sv B as h) (mQc D cA ro B rr h2) (mXc D cA ro B rr h2) mc ms (fun q => B ≤ q) := by
  have fin_ : ∀ {p : Program} {e : Env} {s : State} {m : MethodId} {args : Array Value} {below : List Frame} {meth : Method} {c : Code}, mCtx D cA ro sv B M' p l s m args meth c → mPc D cA ro sv B as h args s → W p l e (headSpec (wsM M') ({ frames := d + 1, cells := mc, slots := ms, locals := 64 * (d + 1) })).room s m args below meth c s.heap [] 0 0 (vx_MQ below (mQc D cA ro B rr h2) (mXc D cA ro B rr h2) args s mc ms (fun q => B ≤ q)) (entryFrame m args (rL M')) := by
    intro p e s m args below meth c C hP
    obtain ⟨ha, hHR, -, hB⟩ := hP
    have hs : h.1 = s.heap.size := hHR.1
    have hk := ih d M' 0 (mEntry M' as) [] h rr h2 hr hM (sl0 := h.2.1) (e := e) (R := (headSpec (wsM M') ({ frames := d + 1, cells := mc, slots := ms, locals := 64 * (d + 1) })).room) (below := below) C (Nat.le_refl _) (Nat.le_refl _) (by rw [← hs]; exact e1) e2 (Nat.le_refl _) (Nat.le_refl _)
    have := hk s.heap [] 0 0 _ ⟨mEntry_LR hl, hHR, va_S.rf, by rw [hs]; rfl, rfl, hB⟩
    subst ha
    rw [lg_entry_eq]
    exact this
  cases hh : rH M' with
  | nil =>
    refine vx_ofW (cc := rC M') (maxL := rL M') (ret := rR M') hM.1 (ws' := lw_all) (by unfold wsM; rw [hh]) ?_
    intro p e s m args below meth c s₁ Bd hml hex hP
    refine fin_ ⟨Bd.exec, Bd.bytes, hml, findClass_of_methodNamed Bd.named, fun w hw => atoms_spec (ws := wsM M') Bd.pre w (by unfold wsM; rw [hh]; exact List.mem_cons_of_mem _ hw), hP.2.2.1, Bd.returns, Bd.notSynchronized, (name_of_methodNamed Bd.named Bd.method).1, ?_⟩ hP
    rw [hh]
    cases hq : c.exceptionTable.toList with
    | nil => rfl
    | cons a b => exact (hex a (by rw [hq]; exact List.mem_cons_self)).elim
  | cons q qr =>
    refine vx_ofWH (cc := rC M') (maxL := rL M') (ret := rR M') (hh := q :: qr) hM.1 (ws' := lw_all) (by unfold wsM; rw [hh]) ?_
    intro p e s m args below meth c s₁ Bd hml hP
    have hpre : ∀ w ∈ wsM M', w.before args s = true := atoms_spec (ws := wsM M') Bd.pre
    refine fin_ ⟨Bd.exec, Bd.bytes, hml, findClass_of_methodNamed Bd.named, fun w hw => hpre w (by unfold wsM; rw [hh]; exact List.mem_cons_of_mem _ hw), hP.2.2.1, Bd.returns, Bd.notSynchronized, (name_of_methodNamed Bd.named Bd.method).1, ?_⟩ hP
    rw [hh]
    exact vx_table (x := rN M') Bd (hpre (Cond.codeWith (rN M') (rC M') (rL M') (rR M') (q :: qr)) (by unfold wsM; rw [hh]; exact List.mem_cons_self))
