/-! SOUNDNESS OF A STEP: new cells, casts, statics, constants, System.arraycopy -/
set_option maxRecDepth 100000
section NEWK
variable {D : va_G} {cA : Nat → ClassId} {ro : Nat → MC → Prop} {sv : Nat → Option Nat} {B sl0 : Nat} {M : MRec} {p : Program} {l : Launch} {e : Env} {R : Room} {s : State} {m : MethodId} {args : Array Value} {below : List Frame} {meth : Method} {c : Code} {Q : State → Prop} {pc pc' : Nat} {ls ls' : ML} {st st' : List MV} {h h' : MH}
theorem va_S.push {A : Nat → Prop} {H0 H H1 : Heap} {locs : List Loc} (hS : va_S A H0 H locs) (z : H1.size = H.size + 1) (o : ∀ q : Nat, q < H.size → H1[q]? = H[q]?) : va_S A H0 H1 locs :=
  ⟨Nat.le_trans hS.1 (by omega), fun x h1 h2 => (o x (Nat.lt_of_lt_of_le h1 hS.1)).trans (hS.2.1 x h1 h2), hS.2.2⟩
/-- a cell more on both sides -/
theorem mPt.push {H H1 : Heap} {locs : List Loc} {cells slots n : Nat} {lr : Array Slot} {cl : MC} (P : mPt D cA ro B sl0 M s ls h H locs cells slots lr) (z : H1.size = H.size + 1) (o : ∀ q : Nat, q < H.size → H1[q]? = H[q]?) (ee : va_at D clM (H.size, mCell cA cl) H1) (hc : mOkC cl) : mPt D cA ro B sl0 M s ls (hN h n cl) H1 locs (cells + 1) (slots + n) lr :=
  ⟨P.1, P.2.1.push z o ee hc, va_S.push P.2.2.1 z o, by show h.1 + 1 = _; rw [P.2.2.2.1]; omega, by show h.2.1 + n = _; rw [P.2.2.2.2.1]; omega, P.2.2.2.2.2⟩
theorem k_getstatic {i : Nat} (C : mCtx D cA ro sv B M p l s m args meth c) (hF : ∀ q ∈ tS, SOK q) (ho : (rN M).cls = cpN (rP M)) (hd : decode (rC M) pc = .ok (.getstatic i, 3)) (hx : xStat M sv i pc ls st h = some (.inl (pc', ls', st', h'))) (k : mK D cA ro B sl0 M p l e R s m args below meth c Q pc' ls' st' h') : mK D cA ro B sl0 M p l e R s m args below meth c Q pc ls st h := by
  unfold xStat at hx
  cases hq : mLk tS M i with
  | none => rw [hq] at hx; cases hx
  | some j =>
    rw [hq] at hx
    obtain ⟨rfl, rfl, rfl, rfl⟩ := mNx_inj hx
    obtain ⟨key, hm, e1, e2⟩ := mLk_mem hq
    obtain ⟨Cn, n, d, hz, hl⟩ := hF _ hm
    dsimp only at hl
    rw [e1, e2, ← ho] at hl
    exact fun H locs cells slots lr P => va_gets C.1 C.2.1 (C.2.2.2.2.2.1.2.2.1 _ hz) P.2.2.1 C.2.2.2.1 (C.2.2.2.2.1 _ hl) (fun x hx => hx) hd (k H locs cells slots lr P)
theorem k_new {i : Nat} (C : mCtx D cA ro sv B M p l s m args meth c) (hF : ∀ q ∈ tN, NOK q) (ho : (rN M).cls = cpN (rP M)) (hd : decode (rC M) pc = .ok (.new i, 3)) (hx : xNew (mLk tN M i) pc ls st h = some (.inl (pc', ls', st', h'))) (hr1 : h'.1 ≤ s.heap.size + R.cells) (hr2 : h'.2.1 ≤ sl0 + R.slots) (k : mK D cA ro B sl0 M p l e R s m args below meth c Q pc' ls' st' h') : mK D cA ro B sl0 M p l e R s m args below meth c Q pc ls st h := by
  unfold xNew at hx
  cases hq : mLk tN M i with
  | none => rw [hq] at hx; cases hx
  | some q =>
    obtain ⟨ci, fs⟩ := q
    rw [hq] at hx
    obtain ⟨rfl, rfl, rfl, rfl⟩ := mNx_inj hx
    obtain ⟨key, hm, e1, e2⟩ := mLk_mem hq
    obtain ⟨Cn, T, N, ty0, ⟨hc, hin, hty, hnm⟩, hcl, hins, hini, hfl, hfs⟩ := hF _ hm
    dsimp only at hcl hfl hfs hc
    rw [e1, e2, ← ho] at hcl
    subst hfl
    intro H locs cells slots lr P
    have hts := C.2.2.2.2.1
    have hKn := C.2.2.2.2.2.1.1.1 ci _ hc
    have hr1 : h.1 + 1 ≤ s.heap.size + R.cells := hr1
    have hr2 : h.2.1 + fs.length ≤ sl0 + R.slots := hr2
    rw [P.2.2.2.1] at hr1
    rw [P.2.2.2.2.1] at hr2
    refine W.newcK C.1 C.2.1 C.2.2.2.1 (hts _ hcl) (hts _ hins) (hts _ hini) rfl hd (by omega) (by omega) hKn.2.1 rfl fun H1 kC hkC ee z o => ?_
    have hk := k H1 locs (cells + 1) (slots + fs.length) lr (P.push z o ⟨_, hc, (u_born ty0 hts hin hKn hkC ee hty).to hfs⟩ trivial)
    rw [show h.1 = H.size from P.2.1.1] at hk
    exact hk
theorem ret_nat {P : Nat → Prop} {a b : Nat} (e : a = b) (h : P a) : P b := e ▸ h
theorem k_newa_int (C : mCtx D cA ro sv B M p l s m args meth c) (hd : decode (rC M) pc = .ok (.newarray .int, 2)) (hx : xNewa .int pc ls st h = some (.inl (pc', ls', st', h'))) (hr1 : h'.1 ≤ s.heap.size + R.cells) (hr2 : h'.2.1 ≤ sl0 + R.slots) (k : mK D cA ro B sl0 M p l e R s m args below meth c Q pc' ls' st' h') : mK D cA ro B sl0 M p l e R s m args below meth c Q pc ls st h := by
  rcases st with _ | ⟨n | q, r⟩
  · cases hx
  · unfold xNewa at hx
    dsimp only at hx
    split at hx
    · cases hx
    · rename_i hn
      split at hx
      · rename_i hN
        obtain ⟨rfl, rfl, rfl, rfl⟩ := mNx_inj hx
        intro H locs cells slots lr P
        have hr1 : h.1 + 1 ≤ s.heap.size + R.cells := hr1
        have hr2 : h.2.1 + n.toNatClampNeg ≤ sl0 + R.slots := hr2
        rw [P.2.2.2.1] at hr1
        rw [P.2.2.2.2.1] at hr2
        refine va_newaK (atype := .int) (N := n.toNatClampNeg) C.1 C.2.1 (C.2.2.2.2.1 _ q181) rfl hd rfl hn rfl (Nat.le_trans (Nat.mul_le_mul_right _ hN) (by decide)) (by omega) (by omega) rfl fun H1 cN ee z o hAr hNm => ?_
        have hcN : cN = cA 0 := Option.some.inj (hNm.symm.trans (C.2.2.2.2.2.1.1.2 0 _ rfl).2)
        subst hcN
        have hk := k H1 locs (cells + 1) (slots + n.toNatClampNeg) lr (P.push (cl := .inl (0, n.toNatClampNeg, fun _ => 0)) z o ee (by decide : 0 < 3))
        rw [show h.1 = H.size from P.2.1.1] at hk
        exact hk
      · cases hx
  · cases hx
theorem k_newa_boolean (C : mCtx D cA ro sv B M p l s m args meth c) (hd : decode (rC M) pc = .ok (.newarray .boolean, 2)) (hx : xNewa .boolean pc ls st h = some (.inl (pc', ls', st', h'))) (hr1 : h'.1 ≤ s.heap.size + R.cells) (hr2 : h'.2.1 ≤ sl0 + R.slots) (k : mK D cA ro B sl0 M p l e R s m args below meth c Q pc' ls' st' h') : mK D cA ro B sl0 M p l e R s m args below meth c Q pc ls st h := by
  rcases st with _ | ⟨n | q, r⟩
  · cases hx
  · unfold xNewa at hx
    dsimp only at hx
    split at hx
    · cases hx
    · rename_i hn
      split at hx
      · rename_i hN
        obtain ⟨rfl, rfl, rfl, rfl⟩ := mNx_inj hx
        intro H locs cells slots lr P
        have hr1 : h.1 + 1 ≤ s.heap.size + R.cells := hr1
        have hr2 : h.2.1 + n.toNatClampNeg ≤ sl0 + R.slots := hr2
        rw [P.2.2.2.1] at hr1
        rw [P.2.2.2.2.1] at hr2
        refine va_newaK (atype := .boolean) (N := n.toNatClampNeg) C.1 C.2.1 (C.2.2.2.2.1 _ q182) rfl hd rfl hn rfl (Nat.le_trans (Nat.mul_le_mul_right _ hN) (by decide)) (by omega) (by omega) rfl fun H1 cN ee z o hAr hNm => ?_
        have hcN : cN = cA 1 := Option.some.inj (hNm.symm.trans (C.2.2.2.2.2.1.1.2 1 _ rfl).2)
        subst hcN
        have hk := k H1 locs (cells + 1) (slots + n.toNatClampNeg) lr (P.push (cl := .inl (1, n.toNatClampNeg, fun _ => 0)) z o ee (by decide : 1 < 3))
        rw [show h.1 = H.size from P.2.1.1] at hk
        exact hk
      · cases hx
  · cases hx
theorem k_newa_byte (C : mCtx D cA ro sv B M p l s m args meth c) (hd : decode (rC M) pc = .ok (.newarray .byte, 2)) (hx : xNewa .byte pc ls st h = some (.inl (pc', ls', st', h'))) (hr1 : h'.1 ≤ s.heap.size + R.cells) (hr2 : h'.2.1 ≤ sl0 + R.slots) (k : mK D cA ro B sl0 M p l e R s m args below meth c Q pc' ls' st' h') : mK D cA ro B sl0 M p l e R s m args below meth c Q pc ls st h := by
  rcases st with _ | ⟨n | q, r⟩
  · cases hx
  · unfold xNewa at hx
    dsimp only at hx
    split at hx
    · cases hx
    · rename_i hn
      split at hx
      · rename_i hN
        obtain ⟨rfl, rfl, rfl, rfl⟩ := mNx_inj hx
        intro H locs cells slots lr P
        have hr1 : h.1 + 1 ≤ s.heap.size + R.cells := hr1
        have hr2 : h.2.1 + n.toNatClampNeg ≤ sl0 + R.slots := hr2
        rw [P.2.2.2.1] at hr1
        rw [P.2.2.2.2.1] at hr2
        refine va_newaK (atype := .byte) (N := n.toNatClampNeg) C.1 C.2.1 (C.2.2.2.2.1 _ q292) rfl hd rfl hn rfl (Nat.le_trans (Nat.mul_le_mul_right _ hN) (by decide)) (by omega) (by omega) rfl fun H1 cN ee z o hAr hNm => ?_
        have hcN : cN = cA 2 := Option.some.inj (hNm.symm.trans (C.2.2.2.2.2.1.1.2 2 _ rfl).2)
        subst hcN
        have hk := k H1 locs (cells + 1) (slots + n.toNatClampNeg) lr (P.push (cl := .inl (2, n.toNatClampNeg, fun _ => 0)) z o ee (by decide : 2 < 3))
        rw [show h.1 = H.size from P.2.1.1] at hk
        exact hk
      · cases hx
  · cases hx
theorem k_anewa {i : Nat} (C : mCtx D cA ro sv B M p l s m args meth c) (hF : ∀ q ∈ tA, AOK q) (ho : (rN M).cls = cpN (rP M)) (hd : decode (rC M) pc = .ok (.anewarray i, 3)) (hx : xAnewa (mLk tA M i) pc ls st h = some (.inl (pc', ls', st', h'))) (hr1 : h'.1 ≤ s.heap.size + R.cells) (hr2 : h'.2.1 ≤ sl0 + R.slots) (k : mK D cA ro B sl0 M p l e R s m args below meth c Q pc' ls' st' h') : mK D cA ro B sl0 M p l e R s m args below meth c Q pc ls st h := by
  cases hq : mLk tA M i with
  | none => rw [hq] at hx; exact nomatch (show (none : Option MS) = some _ from hx)
  | some t =>
    rw [hq] at hx
    obtain ⟨key, hm, e1, e2⟩ := mLk_mem hq
    obtain ⟨hcl, ht⟩ := hF _ hm
    dsimp only at hcl ht
    rw [e1, e2, ← ho] at hcl
    rcases st with _ | ⟨n | q, r⟩
    · cases hx
    · unfold xAnewa at hx
      dsimp only at hx
      split at hx
      · cases hx
      · rename_i hn
        split at hx
        · rename_i hN
          obtain ⟨rfl, rfl, rfl, rfl⟩ := mNx_inj hx
          intro H locs cells slots lr P
          have hr1 : h.1 + 1 ≤ s.heap.size + R.cells := hr1
          have hr2 : h.2.1 + n.toNatClampNeg ≤ sl0 + R.slots := hr2
          rw [P.2.2.2.1] at hr1
          rw [P.2.2.2.2.1] at hr2
          have hAO : va_AO (elT t) s := by
            have : t = 0 ∨ t = 1 ∨ t = 2 := by omega
            rcases this with rfl | rfl | rfl
            · exact C.2.2.2.2.2.1.2.2.2.1
            · exact C.2.2.2.2.2.1.2.2.2.2.1
            · exact C.2.2.2.2.2.1.2.2.2.2.2.1
          refine W.anew C.1 C.2.1 C.2.2.2.1 (C.2.2.2.2.1 _ hcl) (va_AO.use hAO) rfl hd rfl hn (Nat.le_trans (Nat.mul_le_mul_right _ hN) (by decide)) (by omega) (by omega) fun cN kA comp f1 f2 f3 f4 => ?_
          obtain ⟨kA2, comp2, g1, g2, g3, g4⟩ := (C.2.2.2.2.2.1.1.2 (3 + t) _ (tys_q ht)).2
          have hcN : cN = cA (3 + t) := Option.some.inj (f1.symm.trans g4)
          subst hcN
          have hk := k _ locs (cells + 1) (slots + n.toNatClampNeg) lr (P.push (cl := .inr (.inl (t, n.toNatClampNeg, fun _ => none))) (H1 := H.push ({ cls := cA (3 + t), slots := Array.replicate n.toNatClampNeg .null, vm := .none } : Cell)) (by rw [Array.size_push]) (fun q hq => by rw [Array.getElem?_push, if_neg (Nat.ne_of_lt hq)]) (by
            show (H.push _)[H.size]? = some (vp_cell _ _)
            rw [vp_cell_q, Array.getElem?_push_size, ← arrV_new]
            rfl) (show t < 4 by omega))
          rw [show h.1 = H.size from P.2.1.1] at hk
          exact hk
        · cases hx
    · cases hx
theorem k_cast {i : Nat} (C : mCtx D cA ro sv B M p l s m args meth c) (hF : ∀ q ∈ tX, XOK q) (ho : (rN M).cls = cpN (rP M)) (hd : decode (rC M) pc = .ok (.checkcast i, 3)) (hx : xCast (mLk tX M i) pc ls st h = some (.inl (pc', ls', st', h'))) (k : mK D cA ro B sl0 M p l e R s m args below meth c Q pc' ls' st' h') : mK D cA ro B sl0 M p l e R s m args below meth c Q pc ls st h := by
  cases hq : mLk tX M i with
  | none => rw [hq] at hx; exact nomatch (show (none : Option MS) = some _ from hx)
  | some ci =>
    rw [hq] at hx
    obtain ⟨key, hm, e1, e2⟩ := mLk_mem hq
    obtain ⟨Cn, T, N, hc, hcl⟩ := hF _ hm
    dsimp only at hcl hc
    rw [e1, e2, ← ho] at hcl
    rcases st with _ | ⟨x | (_ | a), r⟩
    · cases hx
    · cases hx
    · obtain ⟨rfl, rfl, rfl, rfl⟩ := mNx_inj (show mNx (pc + 3) ls (.inr none :: r) h = _ from hx)
      exact fun H locs cells slots lr P => lv_castN C.1 C.2.1 hd (k H locs cells slots lr P)
    · unfold xCast at hx
      dsimp only at hx
      rcases hg : hG h a with _ | (c1 | (c1 | ⟨c2, fs⟩)) <;> rw [hg] at hx <;> dsimp only at hx
      · cases hx
      · cases hx
      · cases hx
      · split at hx
        · rename_i hci
          subst hci
          obtain ⟨rfl, rfl, rfl, rfl⟩ := mNx_inj hx
          intro H locs cells slots lr P
          exact va_castS C.1 C.2.1 C.2.2.2.1 (C.2.2.2.2.1 _ hcl) (C.2.2.2.2.2.1.1.1 _ _ hc).2 (va_recv C.2.2.2.2.2.1.1 (mP1 P.2.1 hg) (q0 := 0) hc rfl) hd (k H locs cells slots lr P)
        · cases hx
theorem outer_eq (c : ClassId) (N h0 : Nat) : ∀ i : Nat, Jvm.Free.Multi.outerC c N h0 i = arrV c N (fun j => if j < i then .ref (h0 + 1 + j) else .null)
  | 0 => by
    show ({ cls := c, slots := Array.replicate N .null, vm := .none } : Cell) = _
    rw [arrV_new]
    rfl
  | i + 1 => by
    show (Jvm.Free.Multi.outerC c N h0 i).setSlot i (.ref (h0 + 1 + i)) = _
    rw [outer_eq c N h0 i, arrV_store]
    congr 1
    funext j
    unfold updV
    by_cases hj : j = i
    · subst hj; simp
    · have : (j < i + 1) = (j < i) := by apply propext; omega
      simp only [hj, if_false, this]
end NEWK
