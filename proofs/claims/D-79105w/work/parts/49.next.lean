/-! SOUNDNESS OF A STEP: constants, mirrors, and all together -/
set_option maxRecDepth 100000
/-- what the tables ask of the words -/
def TOK : Prop := (∀ q ∈ tF, FOK q) ∧ (∀ q ∈ tS, SOK q) ∧ (∀ q ∈ tK, KOK q) ∧ (∀ q ∈ tN, NOK q) ∧ (∀ q ∈ tA, AOK q) ∧ (∀ q ∈ tX, XOK q) ∧ (∀ q ∈ tCopy, CPOK q) ∧ (∀ q ∈ tMulti, MUOK q) ∧ (∀ q ∈ tObj, OBOK q) ∧ (∀ q ∈ tMath, MAOK q)
section STEPALL
variable {D : va_G} {cA : Nat → ClassId} {ro : Nat → MC → Prop} {sv : Nat → Option Nat} {B sl0 : Nat} {M : MRec} {p : Program} {l : Launch} {e : Env} {R : Room} {s : State} {m : MethodId} {args : Array Value} {below : List Frame} {meth : Method} {c : Code} {Q : State → Prop} {pc pc' : Nat} {ls ls' : ML} {st st' : List MV} {h h' : MH}
theorem k_ldc {i : Nat} (C : mCtx D cA ro sv B M p l s m args meth c) (hF : ∀ q ∈ tK, KOK q) (ho : (rN M).cls = cpN (rP M)) (hd : decode (rC M) pc = .ok (.ldc i, 2)) (hx : xConst M sv i pc ls st h = some (.inl (pc', ls', st', h'))) (k : mK D cA ro B sl0 M p l e R s m args below meth c Q pc' ls' st' h') : mK D cA ro B sl0 M p l e R s m args below meth c Q pc ls st h := by
  unfold xConst at hx
  cases hq : mLk tK M i with
  | some v =>
    rw [hq] at hx
    obtain ⟨rfl, rfl, rfl, rfl⟩ := mNx_inj hx
    obtain ⟨key, hm, e1, e2⟩ := mLk_mem hq
    have hl := hF _ hm
    unfold KOK at hl
    dsimp only at hl
    rw [e1, e2, ← ho] at hl
    exact fun H locs cells slots lr P => lv_ldc C.1 C.2.1 C.2.2.2.1 (C.2.2.2.2.1 _ hl) hd (k H locs cells slots lr P)
  | none =>
    rw [hq] at hx
    dsimp only at hx
    split at hx
    · rename_i h25
      obtain ⟨h25, rfl⟩ := h25
      obtain ⟨rfl, rfl, rfl, rfl⟩ := mNx_inj hx
      intro H locs cells slots lr P T hT X
      obtain ⟨a, ha, hev⟩ := va_Mir.use (args := args) C.2.2.2.2.2.1.2.2.2.2.2.2.2.2.1
      have ho' : (rN M).cls = "java/util/Arrays" := by rw [ho, h25]; rfl
      have hown := C.2.2.2.1
      rw [ho'] at hown
      obtain ⟨vm', X', step⟩ := X.ldcMirror C.1 hown (C.2.2.2.2.1 _ q413) hev (g := F0 m pc lr (st.map mvV)) rfl (by rw [C.2.1]; exact hd)
      obtain ⟨t9, a1, b1⟩ := k H locs cells slots lr P (T.setVm vm') hT X'
      refine ⟨t9, step t9 ?_, b1⟩
      have e1 : (Sum.inr (sv 100) :: st : List MV).map mvV = .ref a :: st.map mvV := by rw [ha]; rfl
      rw [e1] at a1
      exact a1
    · cases hx
theorem k_mirror {i : Nat} (C : mCtx D cA ro sv B M p l s m args meth c) (hRf : 1 ≤ R.frames) (hRl : 64 ≤ R.locals) (ho : (rN M).cls = cpN (rP M)) (h25 : rP M = 25 ∧ i = 86) (hd : decode (rC M) pc = .ok (.invokevirtual i, 3)) (hx : xMirror sv pc ls st h = some (.inl (pc', ls', st', h'))) (k : mK D cA ro B sl0 M p l e R s m args below meth c Q pc' ls' st' h') : mK D cA ro B sl0 M p l e R s m args below meth c Q pc ls st h := by
  rcases st with _ | ⟨x | (_ | a), r⟩
  · cases hx
  · cases hx
  · cases hx
  · unfold xMirror at hx
    dsimp only at hx
    split at hx
    · rename_i hr
      rcases hg : hG h a with _ | (c1 | (⟨t, n, f⟩ | c1)) <;> rw [hg] at hx <;> try dsimp only at hx
      · cases hx
      · cases hx
      · match t, hg, hx with
        | 0, hg, hx =>
          obtain ⟨rfl, rfl, rfl, rfl⟩ := mNx_inj hx
          obtain ⟨h25, rfl⟩ := h25
          intro H locs cells slots lr P T hT X
          have hts := C.2.2.2.2.1
          have hKK := C.2.2.2.2.2.1
          obtain ⟨q, hq, hev⟩ := va_Mir.use (args := args) hKK.2.2.2.2.2.2.2.2.1
          have ho' : (rN M).cls = "java/util/Arrays" := by rw [ho, h25]; rfl
          have hown := C.2.2.2.1
          rw [ho'] at hown
          have hc0 : H[a]? = some (vp_cell (cA 3) (n, .inr (.inr (.inr (.inr f))))) := mAt1 P.2.1 hg
          have hf3 : s.vm.findClass "[Ljava/lang/Object;" = some (cA 3) := by
            obtain ⟨_, _, _, _, _, h4⟩ := (hKK.1.2 3 _ rfl).2
            exact h4
          obtain ⟨vm', X', step⟩ := X.getClass C.1 hown (hts _ q394) (hts _ q396) (hts _ q409) (hts _ q395) (hts _ q1497) (a := a) (mir := q) (by rw [hT]; exact hc0) (fun k h => by cases h) hf3 hev (g := F0 m pc lr (.ref a :: r.map mvV)) rfl (by show lr.size = _; rw [P.1.2.1, C.2.2.1]) (rest := r.map mvV) rfl (by rw [C.2.1]; exact hd) hRf (by show 2 * 0 + _ + _ ≤ _; rw [mvV_sum]; omega)
          obtain ⟨t9, a1, b1⟩ := k H locs cells slots lr P (T.setVm vm') hT X'
          refine ⟨t9, step t9 ?_, b1⟩
          have e1 : (Sum.inr (sv 100) :: r : List MV).map mvV = .ref q :: r.map mvV := by rw [hq]; rfl
          rw [e1] at a1
          exact a1
        | t + 1, hg, hx => cases hx
      · cases hx
    · cases hx
theorem xCallV_no {q : Option (MRec × Nat × Nat)} {len pc : Nat} {st : List MV} {h : MH} {F : MF} (hx : xCallV q len pc st h = some (.inl F)) : False := by
  unfold xCallV at hx
  repeat' split at hx
  all_goals cases hx
theorem xCallI_no {q : Option (MRec × Nat)} {pc : Nat} {st : List MV} {h : MH} {F : MF} (hx : xCallI q pc st h = some (.inl F)) : False := by
  unfold xCallI at hx
  repeat' split at hx
  all_goals cases hx
theorem xCallS_no {q : Option (MRec × Nat)} {pc : Nat} {st : List MV} {h : MH} {F : MF} (hx : xCallS q pc st h = some (.inl F)) : False := by
  unfold xCallS at hx
  repeat' split at hx
  all_goals cases hx
theorem xRet_no {q : Option FieldType} {st : List MV} {h : MH} {F : MF} (hx : xRet q st h = some (.inl F)) : False := by
  unfold xRet at hx
  repeat' split at hx
  all_goals cases hx
theorem xAret_no {q : Option FieldType} {st : List MV} {h : MH} {F : MF} (hx : xAret q st h = some (.inl F)) : False := by
  unfold xAret at hx
  repeat' split at hx
  all_goals cases hx
theorem xVret_no {q : Option FieldType} {st : List MV} {h : MH} {F : MF} (hx : xVret q st h = some (.inl F)) : False := by
  unfold xVret at hx
  repeat' split at hx
  all_goals cases hx
theorem xThrow_no {st : List MV} {h : MH} {F : MF} (hx : xThrow st h = some (.inl F)) : False := by
  unfold xThrow at hx
  repeat' split at hx
  all_goals cases hx
theorem len_of {α : Type} {x : Except DecodeError (α × Nat)} {i : α} {a b : Nat} (h : x = .ok (i, a)) (e : (a == b) = true) : x = .ok (i, b) := by rw [h, eq_of_beq e]
set_option maxHeartbeats 4000000 in
/-- a step that goes on in the frame -/
theorem step_next {i : Instr} {len : Nat} (C : mCtx D cA ro sv B M p l s m args meth c) (hT : TOK) (ho : (rN M).cls = cpN (rP M)) (hRf : 1 ≤ R.frames) (hRl : 64 ≤ R.locals) (hd : decode (rC M) pc = .ok (i, len)) (hl : mLen i len = true) (hx : ex B sv M pc ls st h i = some (.inl (pc', ls', st', h'))) (hr1 : h'.1 ≤ s.heap.size + R.cells) (hr2 : h'.2.1 ≤ sl0 + R.slots) (k : mK D cA ro B sl0 M p l e R s m args below meth c Q pc' ls' st' h') : mK D cA ro B sl0 M p l e R s m args below meth c Q pc ls st h := by
  obtain ⟨tF_, tS_, tK_, tN_, tA_, tX_, tC_, tM_, tO_, tMa_⟩ := hT
  cases i with
  | aconst_null => exact k_null C (len_of hd hl) hx k
  | iconst n => exact k_iconst C (len_of hd hl) hx k
  | bipush n => exact k_bipush C (len_of hd hl) hx k
  | sipush n => exact k_sipush C (len_of hd hl) hx k
  | ldc n => exact k_ldc C tK_ ho (len_of hd hl) hx k
  | iload_n n => exact k_iload_n C (len_of hd hl) hx k
  | iload n => exact k_iload C (len_of hd hl) hx k
  | aload_n n => exact k_aload_n C (len_of hd hl) hx k
  | aload n => exact k_aload C (len_of hd hl) hx k
  | istore_n n => exact k_istore_n C (len_of hd hl) hx k
  | istore n => exact k_istore C (len_of hd hl) hx k
  | astore_n n => exact k_astore_n C (len_of hd hl) hx k
  | astore n => exact k_astore C (len_of hd hl) hx k
  | iinc n q => exact k_iinc C (len_of hd hl) hx k
  | iadd => exact k_iadd C (len_of hd hl) hx k
  | isub => exact k_isub C (len_of hd hl) hx k
  | imul => exact k_imul C (len_of hd hl) hx k
  | iand => exact k_iand C (len_of hd hl) hx k
  | ior => exact k_ior C (len_of hd hl) hx k
  | ixor => exact k_ixor C (len_of hd hl) hx k
  | ishl => exact k_ishl C (len_of hd hl) hx k
  | ishr => exact k_ishr C (len_of hd hl) hx k
  | iushr => exact k_iushr C (len_of hd hl) hx k
  | idiv => exact k_idiv C (len_of hd hl) hx k
  | irem => exact k_irem C (len_of hd hl) hx k
  | ineg => exact k_ineg C (len_of hd hl) hx k
  | i2b => exact k_i2b C (len_of hd hl) hx k
  | dup => exact k_dup C (len_of hd hl) hx k
  | dup2 => exact k_dup2 C (len_of hd hl) hx k
  | dup_x1 => exact k_dup_x1 C (len_of hd hl) hx k
  | pop => exact k_pop C (len_of hd hl) hx k
  | iaload => exact k_iaload C (len_of hd hl) hx k
  | baload => exact k_baload C (len_of hd hl) hx k
  | aaload => exact k_aaload C (len_of hd hl) hx k
  | iastore => exact k_iastore C (len_of hd hl) hx k
  | bastore => exact k_bastore C (len_of hd hl) hx k
  | aastore => exact k_aastore C (len_of hd hl) hx k
  | arraylength => exact k_alen C (len_of hd hl) hx k
  | ifCond a b => exact k_if C (len_of hd hl) hx k
  | if_icmp a b => exact k_icmp C (len_of hd hl) hx k
  | if_acmp a b => exact k_acmp C (len_of hd hl) hx k
  | ifnull b => exact k_ifnull C (len_of hd hl) hx k
  | ifnonnull b => exact k_ifnonnull C (len_of hd hl) hx k
  | goto b => exact k_goto C (len_of hd hl) hx k
  | tableswitch a b f g => exact k_tsw C hd hx k
  | lookupswitch a b => exact k_lsw C hd hx k
  | newarray t =>
    cases t with
    | int => exact k_newa_int C (len_of hd hl) hx hr1 hr2 k
    | boolean => exact k_newa_boolean C (len_of hd hl) hx hr1 hr2 k
    | byte => exact k_newa_byte C (len_of hd hl) hx hr1 hr2 k
    | _ => exact nomatch (show (none : Option MS) = some _ from hx)
  | anewarray n => exact k_anewa C tA_ ho (len_of hd hl) hx hr1 hr2 k
  | multianewarray n q =>
    by_cases h2 : q = 2
    · subst h2
      exact k_multi C tM_ ho (len_of hd hl) hx hr1 hr2 k
    · exfalso
      unfold ex at hx
      split at hx <;> first | (rename_i hh; cases hh; exact h2 rfl) | (rename_i hh; cases hh; done) | cases hx
  | getfield n => exact k_getf C tF_ ho (len_of hd hl) hx k
  | putfield n => exact k_putf C tF_ ho (len_of hd hl) hx k
  | getstatic n => exact k_getstatic C tS_ ho (len_of hd hl) hx k
  | new n => exact k_new C tN_ ho (len_of hd hl) hx hr1 hr2 k
  | checkcast n => exact k_cast C tX_ ho (len_of hd hl) hx k
  | invokevirtual n =>
    unfold ex at hx
    dsimp only at hx
    split at hx
    · rename_i h25
      exact k_mirror C hRf hRl ho h25 (len_of hd hl) hx k
    · exact (xCallV_no hx).elim
  | invokestatic n =>
    unfold ex at hx
    dsimp only at hx
    split at hx
    · rename_i hc
      exact k_copy C hRf hRl tC_ ho (len_of hd hl) hc hx k
    · split at hx
      · rename_i b hb
        exact k_math C hRf hRl tMa_ ho (len_of hd hl) hb hx hr1 hr2 k
      · exact (xCallS_no hx).elim
  | invokespecial n =>
    unfold ex at hx
    dsimp only at hx
    split at hx
    · rename_i hc
      exact k_obj C hRf hRl tO_ ho (len_of hd hl) hc hx k
    · exact (xCallI_no hx).elim
  | invokeinterface n q => exact (xCallV_no hx).elim
  | ireturn => exact (xRet_no hx).elim
  | areturn => exact (xAret_no hx).elim
  | return_ => exact (xVret_no hx).elim
  | athrow => exact (xThrow_no hx).elim
  | _ => exact nomatch (show (none : Option MS) = some _ from hx)
end STEPALL
