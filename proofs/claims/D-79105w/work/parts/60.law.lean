/-! THE CLAIM OUT OF 'LawOK' (rows of SKELETON.whole.lean.txt, with the walk taken from the mini machine's run) -/
set_option maxRecDepth 100000
def R_law : String := "SwarmPlannerLaw"
def lw_P (b : Addr) (xs : List Int32) (args : Array Value) (s : State) : Prop := args = #[.ref b] ∧ s.IntsAt b xs ∧ xs.length ≤ 168 ∧ (Jvm.Cond.and given_1 narrow_1).before args s = true
def lw_Q (_ : Array Value) (s : State) (o : Outcome) (t : State) : Prop := o = .returned (some (.int 1)) ∧ Framed s o t [] 1200048 5501818
def lw_Z (below : List Frame) (a : Array Value) (s : State) : State → Prop := fun t => ∃ o, t.status = .running ∧ Ended t below o ∧ lw_Q a s o t
theorem plain_law : plainName (rN rL_law).cls = true := by decide +kernel
theorem law_MOK : MOK rL_law := ⟨plain_law, rfl, by decide, fun q hq => by cases hq⟩
/-- the cells of the start stand in both heaps -/
theorem start_HR {D : va_G} {cA : Nat → ClassId} {ro : Nat → MC → Prop} {b e0 e1 d0 L : Nat} {xs : Nat → Int32} {H : Heap} (h1 : ro b (.inl (3, L, xs)) ∧ ro e0 (.inl (3, 4, eastF)) ∧ ro e1 (.inl (3, 4, southF)) ∧ ro d0 (.inr (.inl (4, 0, fun _ => none)))) (h2 : b < H.size ∧ e0 < H.size ∧ e1 < H.size ∧ d0 < H.size) : mHR D cA ro (mStart H.size b e0 e1 d0 L xs) H := by
  refine ⟨rfl, fun a c h => Or.inr ?_⟩
  simp only [mStart] at h
  split at h
  · rename_i q; subst q; cases h
    exact ⟨rfl, h1.1, h2.1⟩
  · split at h
    · rename_i q; subst q; cases h
      exact ⟨rfl, h1.2.1, h2.2.1⟩
    · split at h
      · rename_i q; subst q; cases h
        exact ⟨rfl, h1.2.2.1, h2.2.2.1⟩
      · split at h
        · rename_i q; subst q; cases h
          exact ⟨rfl, h1.2.2.2, h2.2.2.2⟩
        · cases h
set_option maxHeartbeats 4000000 in
theorem lw_walk (HL : LawOK) (l : Launch) (hflags : l.flags = flags0) (b : Addr) (xs : List Int32) : MetFree l x (headSpec (Jvm.Cond.code x code maxLocals ret :: tables_1) room_1) (lw_P b xs) (fun _ _ _ _ _ => True) lw_Q := by
  refine MetFree.of_bodyS (code := code) (maxLocals := maxLocals) (ret := ret) (by decide) ?_ ?_
  · intro args s m h hn
    obtain ⟨meth, c, h1, h2, h3, h4, h5, h6, -, -⟩ := Cond.code_spec hn (atoms_spec (ws := Jvm.Cond.code x code maxLocals ret :: tables_1) h _ List.mem_cons_self)
    exact ⟨meth, c, h1, h2, h3, h4, h5, h6⟩
  · intro p e s m args below meth c s₁ B hml0 hP _
    obtain ⟨rfl, hx, hbd, hgv⟩ := hP
    obtain ⟨scr, harrAt, hlist, hof, hsmall⟩ := hx
    obtain ⟨hcb, hkn, -, -⟩ := State.arrayAt?_spec harrAt
    have hown : s.vm.findClass R_law = some m.cls := findClass_of_methodNamed B.named
    have hts0 : ∀ c ∈ (Jvm.Cond.code x code maxLocals ret :: tables_1), c.before #[Value.ref b] s = true := atoms_spec (ws := Jvm.Cond.code x code maxLocals ret :: tables_1) B.pre
    have hts : ∀ w ∈ lw_tbl, w.before #[Value.ref b] s = true := k2_hts_sels lw_privs (fun w hw => hts0 w (List.mem_cons_of_mem _ hw)) lw_privs_ok
    have X₀ : Stand p l e room_1 s m #[Value.ref b] below meth c s₁ [] 0 0 := Stand.of_body B
    have hh0 : s₁.heap = s.heap := by rw [B.state]; rfl
    have hsz : scr.slots.size = xs.length := by rw [← Array.length_toList, hlist, List.length_map]
    have hval : ∀ j : Nat, j < xs.length → scr.slots[j]? = some (.int (xs.getD j 0)) := fun j hj => by
      rw [← Array.getElem?_toList, hlist]
      simp [hj]
    have hX : va_X b xs.length (fun j => xs.getD j 0) s s.heap := ⟨scr, hcb, hof, hkn, hsz, hval⟩
    have hex : c.exceptionTable.toList = [] := by
      obtain ⟨meth9, c9, h1, h2, -, -, -, -, h7, -⟩ := Cond.code_spec B.named (hts0 _ List.mem_cons_self)
      cases Option.some.inj (h1.symm.trans B.method)
      cases Option.some.inj (h2.symm.trans (Stand.of_body B).code)
      rw [Array.isEmpty_iff.mp h7]
    obtain ⟨D, cA, ro, sv, e0, e1, d0, mir, hKS, hro, ⟨l1, l2, l3, l4⟩, ⟨n1, n2, n3, n4, n5, n6⟩, ⟨v1, v2, v3, v4⟩⟩ := start_KS hts hX hgv
    obtain ⟨n, h', hrun, hc, hs⟩ := HL s.heap.size sv b e0 e1 d0 mir xs.length (fun j => xs.getD j 0) hbd l1 l2 l3 l4 n1 n2 n3 n4 n5 n6 v1 v2 v3 v4
    have C : mCtx D cA ro sv s.heap.size rL_law p l s m #[Value.ref b] meth c := ⟨B.exec, B.bytes, hml0, hown, fun w hw => hts w (lw_all_tbl hw), hKS, B.returns, B.notSynchronized, (name_of_methodNamed B.named B.method).1, hex⟩
    have hge : s.heap.size ≤ h'.1 := (run_le _ _ _ _ _ _ _ _ _ hrun).1
    obtain ⟨mc, hmc⟩ : ∃ mc, s.heap.size + mc = h'.1 := ⟨h'.1 - s.heap.size, by omega⟩
    have K0 := snd_run n 1000 rL_law 0 (mEntry rL_law [.inr (some b)]) [] (mStart s.heap.size b e0 e1 d0 xs.length (fun j => xs.getD j 0)) _ h' hrun law_MOK (sl0 := 0) (e := e) (R := room_1) (below := below) (ms := h'.2.1) C (by decide) (by decide) hmc (by omega) (by show mc ≤ 1200048; omega) hs
    have K1 := K0 s.heap [] 0 0 _ ⟨mEntry_LR (as := [.inr (some b)]) (show 1 ≤ 4 by decide), start_HR hro ⟨l1, l2, l3, l4⟩, va_S.rf, rfl, rfl, Nat.le_refl _⟩
    have K : W p l e room_1 s m #[Value.ref b] below meth c s₁.heap [] 0 0 (vx_MQ below (mQc D cA ro s.heap.size (.inl (some (.inl 1))) h') (mXc D cA ro s.heap.size (.inl (some (.inl 1))) h') #[Value.ref b] s mc h'.2.1 (fun q => s.heap.size ≤ q)) (entryFrame m ([Value.ref b] : List Value).toArray 4) := by
      rw [hh0, lg_entry_eq]
      exact K1
    obtain ⟨t, a1, o, b1, b2, b3⟩ := K s₁ rfl X₀
    refine ⟨t, o, a1, b1, b2, ?_⟩
    rcases b3 with ⟨⟨⟨v, hv, ho⟩, -, -⟩, Lo, ⟨hret, hW, hsm⟩, hfree⟩ | ⟨q, -, E, ce, L2, ⟨-, hq, -⟩, -⟩
    · cases hv
      exact ⟨ho, ⟨_, ho⟩, hW, (State.sameButNew.drop_fresh (L := []) (J := Lo) hsm hfree).mono (by omega) hs⟩
    · cases hq
theorem lw_pre_spec {args : Array Value} {s : State} (h : (Jvm.Cond.and given_1 narrow_1).before args s = true) (hr : rest_1_c.before args s = true) : ∃ (b : Addr) (xs : List Int32), lw_P b xs args s := by
  have hs := flat_of_before _ h
  have hq := flat_of_before _ hr
  have hc : (Cond.count 1).before args s = true := hs _ (by decide +kernel)
  have harr : (Cond.arrayOf (.arg 0) .int).before args s = true := hs _ (by decide +kernel)
  have hle : (Cond.le (.length (.arg 0)) (.int 168)).before args s = true := hs _ (by decide +kernel)
  have hlen : (Cond.isInt (.length (.arg 0))).before args s = true := hq _ (by decide +kernel)
  have hall : (Cond.all (.arg 0) (.isInt (.elem (.arg 0) (.index 0)))).before args s = true := hq _ (by decide +kernel)
  obtain ⟨b, xs, hb, hx⟩ := State.ints_of_pre rfl harr hlen hall
  have hsm : xs.length < 2 ^ 31 := hx.choose_spec.2.2.2
  have hev : (Term.length (.arg 0)).eval args s none [] s = some (.int xs.length.toInt32) := hx.length_eval hb
  have hv := Cond.le_ints hev (show (Term.int 168).eval args s none [] s = some (.int 168) from rfl)
  have hd : xs.length.toInt32 ≤ 168 := by
    simpa [Cond.before, Cond.holds, hv] using hle
  have hN : xs.length ≤ 168 := (Int32.ofNat_le_ofNat hsm (by decide)).mp (show Int32.ofNat xs.length ≤ Int32.ofNat 168 from hd)
  exact ⟨b, xs, Cond.one_arg hc (show args[0]? = some (.ref b) from hb), hx, hN, h⟩
theorem lw_comes (HL : LawOK) (l : Launch) (hflags : l.flags = flags0) : Comes l x (Jvm.Cond.code x code maxLocals ret :: tables_1) room_1 (fun tb e args s => Calls_1 tb e args s ∧ rest_1 tb e args s ∧ Pre_1 tb e args s)
    (fun _ _ args s o t => lw_Q args s o t) := by
  intro p e ha hc hk s m args below hf hfit hheap happ hpre
  obtain ⟨b, xs, hP⟩ := lw_pre_spec hpre.2.2 hpre.2.1
  obtain ⟨k, o, h1, h2, h3, hQ⟩ := lw_walk HL l hflags b xs p e ha hc hk s m args below hf ((Spec.applies_iff_loose hf).mp happ).1 hP trivial
  exact ⟨k, o, h1, h2, h3, hQ⟩
theorem lw_frame {s t : State} {o : Outcome} {args : Array Value} (h : Framed s o t [] 1200048 5501818) :
    Framed s o t (fieldLocs frame_1_writes args s ++ arrayLocs frame_1_arrays args s ++ staticLocs frame_1_statics s) 1200048 5501818 := h
theorem lw_limb (HL : LawOK) (L : Cond) (hL : ∀ (args : Array Value) (s t : State), L.after args s (.returned (some (.int 1))) t = true) :
    ArmFor flags0 classFile x code maxLocals ret World_1 tables_1 room_1 Calls_1 rest_1 Pre_1
      (fun tb e a s o t => postC L tb e a s o t ∧ Framed s o t (fieldLocs frame_1_writes a s ++ arrayLocs frame_1_arrays a s ++ staticLocs frame_1_statics s) 1200048 5501818) := by
  intro l hflags _ _ p e ha hc hk s m args below hf hfit hheap happ hpre
  obtain ⟨k, o, h1, h2, h3, rfl, hF⟩ := lw_comes HL l hflags p e ha hc hk s m args below hf hfit hheap happ hpre
  exact ⟨k, _, h1, h2, h3, hL args s _, lw_frame hF⟩
