/-! SOUNDNESS OF A STEP: System.arraycopy, int[][], constants -/
set_option maxRecDepth 100000
def CPOK (q : Nat × Unit) : Prop := Cond.methodLink (cpN (q.1 / 65536)) (q.1 % 65536) arraycopyName ∈ lw_all
def OBOK (q : Nat × Unit) : Prop := Cond.methodLink (cpN (q.1 / 65536)) (q.1 % 65536) Lib.objectInit ∈ lw_all
def MAOK (q : Nat × Bool) : Prop := match q.2 with
  | true => Cond.methodLink (cpN (q.1 / 65536)) (q.1 % 65536) Lib.Math.min.name ∈ lw_all
  | false => Cond.methodLink (cpN (q.1 / 65536)) (q.1 % 65536) Lib.Math.max.name ∈ lw_all
def MUOK (q : Nat × Unit) : Prop := Cond.classLink (cpN (q.1 / 65536)) (q.1 % 65536) "[[I" ∈ lw_all
section COPYK
variable {D : va_G} {cA : Nat → ClassId} {ro : Nat → MC → Prop} {sv : Nat → Option Nat} {B sl0 : Nat} {M : MRec} {p : Program} {l : Launch} {e : Env} {R : Room} {s : State} {m : MethodId} {args : Array Value} {below : List Frame} {meth : Method} {c : Code} {Q : State → Prop} {pc pc' : Nat} {ls ls' : ML} {st st' : List MV} {h h' : MH}
theorem nn_of : ∀ z : Int32, ¬ z < 0 → z.toInt = (z.toNatClampNeg : Int) := by
  intro z hz
  have hz0 : (0 : Int) ≤ z.toInt := by
    have := Int32.not_lt.mp hz
    simpa using Int32.le_iff_toInt_le.mp this
  show z.toInt = ((z.toInt.toNat : Nat) : Int)
  omega
theorem cp_words {n L : Nat} (h : n ≤ 8) (hL : 64 ≤ L) : 2 * 0 + n + (nativeFrameWords "java/lang/System" "arraycopy" 5 + 11) ≤ L := by
  have : nativeFrameWords "java/lang/System" "arraycopy" 5 + 11 ≤ 50 := by decide +kernel
  omega
/-- behind a copy: the cell at a is new, all else is as it was -/
theorem copy_end {H : Heap} {locs : List Loc} {cells slots : Nat} {lr : Array Slot} {a : Nat} {cl : MC} {ee : va_E} (P : mPt D cA ro B sl0 M s ls h H locs cells slots lr) (hB : B ≤ a) (hl : a < H.size) {cc : Cell} (hc : va_at D clM (a, mCell cA cl) (H.setIfInBounds a cc)) (hok : mOkC cl) (L : List Loc) (hL : ∀ q ∈ L, q.base = a) : mPt D cA ro B sl0 M s ls (hS h a cl) (H.setIfInBounds a cc) (locs ++ L) cells slots lr := by
  have oq : ∀ q : Nat, q ≠ a → (H.setIfInBounds a cc)[q]? = H[q]? := fun q hq => by simp [Array.getElem?_setIfInBounds, Ne.symm hq]
  refine ⟨P.1, P.2.1.set (by simp) oq hc hok, ⟨by simp; exact P.2.2.1.1, fun q g1 g2 => ?_, fun q hq => ?_⟩, P.2.2.2⟩
  · rw [oq q (fun x => g2 (by rw [x]; exact hB))]
    exact P.2.2.1.2.1 q g1 g2
  · rcases List.mem_append.mp hq with h1 | h1
    · exact P.2.2.1.2.2 q h1
    · show B ≤ q.base
      rw [hL q h1]
      exact hB
theorem mBits_of {f : Nat → Int32} {sp n : Nat} (hb : mBits f sp n = true) : ∀ i, i < n → fits .boolean (.int (f (sp + i))) = true := by
  intro i hi
  have h1 := List.all_eq_true.mp hb i (List.mem_range.mpr hi)
  rcases of_decide_eq_true h1 with h2 | h2 <;> rw [h2] <;> decide
theorem k_copyI {i : Nat} (C : mCtx D cA ro sv B M p l s m args meth c) (hRf : 1 ≤ R.frames) (hRl : 64 ≤ R.locals) (hcp : Cond.methodLink (rN M).cls i arraycopyName ∈ lw_all) (hd : decode (rC M) pc = .ok (.invokestatic i, 3)) {n dp sp : Int32} {a a0 t n0 n1 : Nat} {r : List MV} {f g : Nat → Int32} (hB : B ≤ a) (h1 : ¬ sp < 0) (h2 : ¬ dp < 0) (h3 : ¬ n < 0) (hr : r.length ≤ 8) (hg0 : hG h a0 = some (.inl (t, n0, f))) (hg1 : hG h a = some (.inl (t, n1, g))) (h4 : sp.toNatClampNeg + n.toNatClampNeg ≤ n0) (h5 : dp.toNatClampNeg + n.toNatClampNeg ≤ n1) (hbt : t = 0 ∨ (t = 1 ∧ mBits f sp.toNatClampNeg n.toNatClampNeg = true)) (k : mK D cA ro B sl0 M p l e R s m args below meth c Q (pc + 3) ls r (hS h a (.inl (t, n1, va_cpy f g sp.toNatClampNeg dp.toNatClampNeg n.toNatClampNeg)))) : mK D cA ro B sl0 M p l e R s m args below meth c Q pc ls (.inl n :: .inl dp :: .inr (some a) :: .inl sp :: .inr (some a0) :: r) h := by
  intro H locs cells slots lr P T hT X
  have hts := C.2.2.2.2.1
  have ht3 : t < 3 := by
    rcases hbt with rfl | ⟨rfl, -⟩ <;> decide
  have hro : ∀ (n : Nat) (f : Nat → Int32), roTag (.inl (t, n, f)) = false := fun n f => okC_ro (c := .inl (t, n, f)) ht3
  obtain ⟨ty, hty, hprim, hfit⟩ : ∃ ty : FieldType, (tysM cA)[t]? = some (cA t, ty) ∧ refKind ty = false ∧ ∀ i, i < n.toNatClampNeg → fits ty (.int (f (sp.toNatClampNeg + i))) = true := by
    rcases hbt with rfl | ⟨rfl, hb⟩
    · exact ⟨.int, rfl, rfl, fun i _ => rfl⟩
    · exact ⟨.boolean, rfl, rfl, mBits_of hb⟩
  have hc0 : H[a0]? = some (vp_cell (cA t) (n0, .inl f)) := mAt1 P.2.1 hg0 (hro _ _)
  have hc1 : H[a]? = some (vp_cell (cA t) (n1, .inl g)) := mAt1 P.2.1 hg1 (hro _ _)
  obtain ⟨-, k0, hk0, cm0, hkk0⟩ := (C.2.2.2.2.2.1.1.2 t _ hty).1 n0 (fun j => .int (f j))
  obtain ⟨-, k1, hk1, cm1, hkk1⟩ := (C.2.2.2.2.2.1.1.2 t _ hty).1 n1 (fun j => .int (g j))
  obtain ⟨vm', X', step⟩ := X.arraycopy C.1 C.2.2.2.1 (hts _ hcp) (hts _ q322) (hts _ q321) (hts _ q111) (src := a0) (dst := a) (cs := vp_cell (cA t) (n0, .inl f)) (cd := vp_cell (cA t) (n1, .inl g)) (srcPos := sp) (destPos := dp) (n := n) (by rw [hT]; exact hc0) (by rw [hT]; exact hc1)
    (fun _ h => by cases h) (fun _ h => by cases h) (fun h => by cases h) (fun h => by cases h) hk0 hk1 hkk0 hkk1 (by simp [hprim]) h1 h2 h3
    (by rw [nn_of sp h1, nn_of n h3]; show ¬ _ > ((arrV (cA t) n0 (fun j => .int (f j))).slots.size : Int); rw [arrV_size]; omega)
    (by rw [nn_of dp h2, nn_of n h3]; show ¬ _ > ((arrV (cA t) n1 (fun j => .int (g j))).slots.size : Int); rw [arrV_size]; omega)
    (fun vm₁ _ i hi => by
      have ee : (vp_cell (cA t) (n0, .inl f)).slots.getD (sp.toNatClampNeg + i) .null = .int (f (sp.toNatClampNeg + i)) := by
        show (arrV (cA t) n0 (fun j => .int (f j))).slots.getD _ _ = _
        rw [Array.getD_eq_getD_getElem?, arrV_read _ _ (by omega)]
        rfl
      refine ⟨?_, ?_⟩
      · rw [ee]
        exact hfit i hi
      · rw [ee]
        exact trivial)
    (g := F0 m pc lr (.int n :: .int dp :: .ref a :: .int sp :: .ref a0 :: r.map mvV)) rfl (by show lr.size = _; rw [P.1.2.1, C.2.2.1]) (rest := r.map mvV) rfl (by rw [C.2.1]; exact hd) hRf (by show 2 * 0 + _ + _ ≤ _; rw [mvV_sum]; exact cp_words hr hRl)
  have e1 : copied (vp_cell (cA t) (n0, .inl f)) (vp_cell (cA t) (n1, .inl g)) sp dp n = vp_cell (cA t) (n1, .inl (va_cpy f g sp.toNatClampNeg dp.toNatClampNeg n.toNatClampNeg)) := va_copied (fun z => .int z) (cA t) (cA t) f g h4
  rw [e1] at X' step
  have hl : a < H.size := (Array.getElem?_eq_some_iff.mp hc1).1
  have hheap : ((T.setVm vm').setCell a (vp_cell (cA t) (n1, .inl (va_cpy f g sp.toNatClampNeg dp.toNatClampNeg n.toNatClampNeg)))).heap = H.setIfInBounds a (vp_cell (cA t) (n1, .inl (va_cpy f g sp.toNatClampNeg dp.toNatClampNeg n.toNatClampNeg))) := by rw [← hT]; rfl
  obtain ⟨t9, a1, b1⟩ := k _ _ cells slots lr (copy_end (ee := .inr (0, [])) P hB hl (cl := .inl (t, n1, va_cpy f g sp.toNatClampNeg dp.toNatClampNeg n.toNatClampNeg)) (by show (H.setIfInBounds a _)[a]? = some (vp_cell _ _); simp [Array.getElem?_setIfInBounds, hl]) ht3 _ (fun q hq => by
    obtain ⟨z, -, hz⟩ := List.mem_map.mp hq
    rw [← hz])) _ hheap X'
  exact ⟨t9, step t9 a1, b1⟩
theorem mAllOf_of {f : Nat → Option Nat} {sp n ci : Nat} (hb : mAllOf h f sp n ci = true) {i : Nat} (hi : i < n) {y : Nat} (hy : f (sp + i) = some y) : ∃ fs, hG h y = some (.inr (.inr (ci, fs))) := by
  have h1 := List.all_eq_true.mp hb i (List.mem_range.mpr hi)
  rw [hy] at h1
  dsimp only at h1
  rcases hg : hG h y with _ | (c1 | (c1 | ⟨c2, fs⟩)) <;> rw [hg] at h1 <;> dsimp only at h1
  · cases h1
  · cases h1
  · cases h1
  · have : c2 = ci := eq_of_beq h1
    exact ⟨fs, by rw [this]⟩
theorem k_copyQ {i : Nat} (C : mCtx D cA ro sv B M p l s m args meth c) (hRf : 1 ≤ R.frames) (hRl : 64 ≤ R.locals) (hcp : Cond.methodLink (rN M).cls i arraycopyName ∈ lw_all) (hd : decode (rC M) pc = .ok (.invokestatic i, 3)) {n dp sp : Int32} {a a0 t n0 n1 ci : Nat} {r : List MV} {f g : Nat → Option Nat} (hB : B ≤ a) (h1 : ¬ sp < 0) (h2 : ¬ dp < 0) (h3 : ¬ n < 0) (hr : r.length ≤ 8) (hg0 : hG h a0 = some (.inr (.inl (t, n0, f)))) (hg1 : hG h a = some (.inr (.inl (t, n1, g)))) (h4 : sp.toNatClampNeg + n.toNatClampNeg ≤ n0) (h5 : dp.toNatClampNeg + n.toNatClampNeg ≤ n1) (hf : mFit t ci = true) (hall : mAllOf h f sp.toNatClampNeg n.toNatClampNeg ci = true) (k : mK D cA ro B sl0 M p l e R s m args below meth c Q (pc + 3) ls r (hS h a (.inr (.inl (t, n1, va_cpy f g sp.toNatClampNeg dp.toNatClampNeg n.toNatClampNeg))))) : mK D cA ro B sl0 M p l e R s m args below meth c Q pc ls (.inl n :: .inl dp :: .inr (some a) :: .inl sp :: .inr (some a0) :: r) h := by
  intro H locs cells slots lr P T hT X
  have hts := C.2.2.2.2.1
  have ht3 : t < 3 := fit_lt hf
  have hro : ∀ (n : Nat) (f : Nat → Option Nat), roTag (.inr (.inl (t, n, f))) = false := fun n f => okC_ro (c := .inr (.inl (t, n, f))) (show t < 4 by omega)
  have hKK := C.2.2.2.2.2.1
  obtain ⟨rr, hrr, hasg⟩ := fit_assign hKK hf
  have hc0 : H[a0]? = some (vp_cell (cA (3 + t)) (n0, .inr (.inr (.inr (.inr f))))) := mAt1 P.2.1 hg0 (hro _ _)
  have hc1 : H[a]? = some (vp_cell (cA (3 + t)) (n1, .inr (.inr (.inr (.inr g))))) := mAt1 P.2.1 hg1 (hro _ _)
  obtain ⟨-, k0, hk0, cm0, hkk0⟩ := (hKK.1.2 (3 + t) _ (tys_q ht3)).1 n0 (fun j => va_rf (f j))
  obtain ⟨-, k1, hk1, cm1, hkk1⟩ := (hKK.1.2 (3 + t) _ (tys_q ht3)).1 n1 (fun j => va_rf (g j))
  obtain ⟨vm', X', step⟩ := X.arraycopy C.1 C.2.2.2.1 (hts _ hcp) (hts _ q322) (hts _ q321) (hts _ q111) (src := a0) (dst := a) (cs := vp_cell (cA (3 + t)) (n0, .inr (.inr (.inr (.inr f))))) (cd := vp_cell (cA (3 + t)) (n1, .inr (.inr (.inr (.inr g))))) (srcPos := sp) (destPos := dp) (n := n) (by rw [hT]; exact hc0) (by rw [hT]; exact hc1)
    (fun _ h => by cases h) (fun _ h => by cases h) (fun h => by cases h) (fun h => by cases h) hk0 hk1 hkk0 hkk1 rfl h1 h2 h3
    (by rw [nn_of sp h1, nn_of n h3]; show ¬ _ > ((arrV (cA (3 + t)) n0 (fun j => va_rf (f j))).slots.size : Int); rw [arrV_size]; omega)
    (by rw [nn_of dp h2, nn_of n h3]; show ¬ _ > ((arrV (cA (3 + t)) n1 (fun j => va_rf (g j))).slots.size : Int); rw [arrV_size]; omega)
    (fun vm₁ hal i hi => by
      have ee : (vp_cell (cA (3 + t)) (n0, .inr (.inr (.inr (.inr f))))).slots.getD (sp.toNatClampNeg + i) .null = va_rf (f (sp.toNatClampNeg + i)) := by
        show (arrV (cA (3 + t)) n0 (fun j => va_rf (f j))).slots.getD _ _ = _
        rw [Array.getD_eq_getD_getElem?, arrV_read _ _ (by omega)]
        rfl
      rw [ee]
      cases hy : f (sp.toNatClampNeg + i) with
      | none => exact ⟨rfl, trivial⟩
      | some y =>
        obtain ⟨fs, hfs⟩ := mAllOf_of hall hi hy
        obtain ⟨cellV, g1, g2, g3⟩ := va_recv hKK.1 (mP1 P.2.1 hfs) (q0 := 0) hrr rfl
        obtain ⟨kA, comp, r1, r2, r3, -⟩ := (hKK.1.2 (3 + t) _ (tys_q ht3)).2
        cases hk1.symm.trans r1
        cases hkk1.symm.trans r2
        obtain ⟨kC, hkC, -⟩ := Vm.findClass_spec g3
        obtain ⟨kE, hkE, -⟩ := Vm.findClass_spec r3
        obtain ⟨kC', hkC', -⟩ := hal.2.2 _ _ hkC
        obtain ⟨kE', hkE', -⟩ := hal.2.2 _ _ hkE
        refine ⟨rfl, cellV, (show T.heap[y]? = some cellV by rw [hT]; exact g1), (fun q h => by rw [h] at g2; cases g2), ⟨kC', hkC'⟩, ?_, ?_⟩
        · exact ⟨kE', hkE'⟩
        · show vm₁.assignable _ _ = true
          rw [hal.assignable]
          exact hasg _ _ r3 g3)
    (g := F0 m pc lr (.int n :: .int dp :: .ref a :: .int sp :: .ref a0 :: r.map mvV)) rfl (by show lr.size = _; rw [P.1.2.1, C.2.2.1]) (rest := r.map mvV) rfl (by rw [C.2.1]; exact hd) hRf (by show 2 * 0 + _ + _ ≤ _; rw [mvV_sum]; exact cp_words hr hRl)
  have e1 : copied (vp_cell (cA (3 + t)) (n0, .inr (.inr (.inr (.inr f))))) (vp_cell (cA (3 + t)) (n1, .inr (.inr (.inr (.inr g))))) sp dp n = vp_cell (cA (3 + t)) (n1, .inr (.inr (.inr (.inr (va_cpy f g sp.toNatClampNeg dp.toNatClampNeg n.toNatClampNeg))))) := by
    rw [vp_cell_q, vp_cell_q, vp_cell_q]
    exact va_copied (fun z => va_rf z) (cA (3 + t)) (cA (3 + t)) f g h4
  rw [e1] at X' step
  have hl : a < H.size := (Array.getElem?_eq_some_iff.mp hc1).1
  have hheap : ((T.setVm vm').setCell a (vp_cell (cA (3 + t)) (n1, .inr (.inr (.inr (.inr (va_cpy f g sp.toNatClampNeg dp.toNatClampNeg n.toNatClampNeg))))))).heap = H.setIfInBounds a (vp_cell (cA (3 + t)) (n1, .inr (.inr (.inr (.inr (va_cpy f g sp.toNatClampNeg dp.toNatClampNeg n.toNatClampNeg)))))) := by rw [← hT]; rfl
  obtain ⟨t9, a1, b1⟩ := k _ _ cells slots lr (copy_end (ee := .inr (0, [])) P hB hl (cl := .inr (.inl (t, n1, va_cpy f g sp.toNatClampNeg dp.toNatClampNeg n.toNatClampNeg))) (by show (H.setIfInBounds a _)[a]? = some (vp_cell _ _); simp [Array.getElem?_setIfInBounds, hl]) (show t < 4 by omega) _ (fun q hq => by
    obtain ⟨z, -, hz⟩ := List.mem_map.mp hq
    rw [← hz])) _ hheap X'
  exact ⟨t9, step t9 a1, b1⟩
theorem k_copy {i : Nat} (C : mCtx D cA ro sv B M p l s m args meth c) (hRf : 1 ≤ R.frames) (hRl : 64 ≤ R.locals) (hF : ∀ q ∈ tCopy, CPOK q) (ho : (rN M).cls = cpN (rP M)) (hd : decode (rC M) pc = .ok (.invokestatic i, 3)) (hc : (mLk tCopy M i).isSome = true) (hx : xCopy B pc ls st h = some (.inl (pc', ls', st', h'))) (k : mK D cA ro B sl0 M p l e R s m args below meth c Q pc' ls' st' h') : mK D cA ro B sl0 M p l e R s m args below meth c Q pc ls st h := by
  obtain ⟨u, hu⟩ := Option.isSome_iff_exists.mp hc
  obtain ⟨key, hm, e1, e2⟩ := mLk_mem hu
  have hcp := hF _ hm
  unfold CPOK at hcp
  dsimp only at hcp
  rw [e1, e2, ← ho] at hcp
  unfold xCopy at hx
  split at hx
  · split at hx
    · rename_i n dp a sp a0 r hh
      obtain ⟨hB, h1, h2, h3, hr⟩ := hh
      split at hx
      · rename_i t0 n0 f t1 n1 g hg0 hg1
        split at hx
        · rename_i hh2
          obtain ⟨rfl, h4, h5, hbt⟩ := hh2
          obtain ⟨rfl, rfl, rfl, rfl⟩ := mNx_inj hx
          exact k_copyI C hRf hRl hcp hd hB h1 h2 h3 hr hg0 hg1 h4 h5 hbt k
        · cases hx
      · rename_i t0 n0 f t1 n1 g hg0 hg1
        split at hx
        · rename_i hh2
          obtain ⟨rfl, h4, h5, hbt⟩ := hh2
          obtain ⟨rfl, rfl, rfl, rfl⟩ := mNx_inj hx
          rcases hbt with ⟨hf, hall⟩ | ⟨hf, hall⟩ | ⟨hf, hall⟩ | ⟨hf, hall⟩
          · exact k_copyQ C hRf hRl hcp hd hB h1 h2 h3 hr hg0 hg1 h4 h5 hf hall k
          · exact k_copyQ C hRf hRl hcp hd hB h1 h2 h3 hr hg0 hg1 h4 h5 hf hall k
          · exact k_copyQ C hRf hRl hcp hd hB h1 h2 h3 hr hg0 hg1 h4 h5 hf hall k
          · exact k_copyQ C hRf hRl hcp hd hB h1 h2 h3 hr hg0 hg1 h4 h5 hf hall k
        · cases hx
      · cases hx
    · cases hx
  · cases hx
theorem k_multi {i : Nat} (C : mCtx D cA ro sv B M p l s m args meth c) (hF : ∀ q ∈ tMulti, MUOK q) (ho : (rN M).cls = cpN (rP M)) (hd : decode (rC M) pc = .ok (.multianewarray i 2, 4)) (hx : xMulti (mLk tMulti M i).isSome pc ls st h = some (.inl (pc', ls', st', h'))) (hr1 : h'.1 ≤ s.heap.size + R.cells) (hr2 : h'.2.1 ≤ sl0 + R.slots) (k : mK D cA ro B sl0 M p l e R s m args below meth c Q pc' ls' st' h') : mK D cA ro B sl0 M p l e R s m args below meth c Q pc ls st h := by
  unfold xMulti at hx
  split at hx
  · split at hx
    · rename_i k2 n r hc
      split at hx
      · cases hx
      · rename_i hneg
        split at hx
        · rename_i hsm
          obtain ⟨u, hu⟩ := Option.isSome_iff_exists.mp hc
          obtain ⟨key, hm, e1, e2⟩ := mLk_mem hu
          have hcl := hF _ hm
          unfold MUOK at hcl
          dsimp only at hcl
          rw [e1, e2, ← ho] at hcl
          obtain ⟨rfl, rfl, rfl, rfl⟩ := mNx_inj hx
          intro H locs cells slots lr P T hT X
          have hts := C.2.2.2.2.1
          have hKK := C.2.2.2.2.2.1
          have hr1 : h.1 + 1 + n.toNatClampNeg ≤ s.heap.size + R.cells := hr1
          have hr2 : h.2.1 + n.toNatClampNeg + n.toNatClampNeg * k2.toNatClampNeg ≤ sl0 + R.slots := hr2
          rw [P.2.2.2.1] at hr1
          rw [P.2.2.2.2.1] at hr2
          obtain ⟨vm₁, cX, comp, hW, hfA, hfC, hO, hI, X1, step⟩ := X.multianewarray2F (ty := .int) C.1 C.2.2.2.1 (hts _ hcl) (show (Cond.arrayOver (.array .int)).before args s = true from va_AO2.use hKK.2.2.2.2.2.2.1) (hts _ q181) (g := F0 m pc lr (.int k2 :: .int n :: r.map mvV)) rfl (by rw [C.2.1]; exact hd) (rest := r.map mvV) rfl (fun q => hneg (Or.inl q)) (fun q => hneg (Or.inr q)) (Nat.le_trans (Nat.mul_le_mul_right _ hsm.1) (by decide)) (Nat.le_trans (Nat.mul_le_mul_right _ hsm.2) (by decide)) (Nat.le_trans hsm.2 (by decide)) rfl rfl (by omega) (by omega)
          have hcX : cX = cA 6 := Option.some.inj (hfA.symm.trans (hKK.1.2 6 _ rfl).2)
          have hcm : comp = cA 0 := Option.some.inj (hfC.symm.trans (hKK.1.2 0 _ rfl).2)
          subst hcX
          subst hcm
          generalize hTf : Jvm.Free.Multi.fill (T.setVm vm₁) (cA 6) (cA 0) n.toNatClampNeg k2.toNatClampNeg (defaultValue .int) n.toNatClampNeg = Tf at X1 step
          have hTs : (T.setVm vm₁).heap = H := hT
          obtain ⟨f1, f2, -, -⟩ := Jvm.Free.Multi.fill_facts (T.setVm vm₁) (cA 6) (cA 0) n.toNatClampNeg k2.toNatClampNeg (defaultValue .int) n.toNatClampNeg
          have f3 : ∀ {a : Nat}, a < H.size → Tf.heap[a]? = H[a]? := fun {a} ha => by rw [← hTf, Jvm.Free.Multi.fill_old _ _ _ _ _ _ (by rw [hTs]; exact ha), hTs]
          have f4 : ∀ j, j < n.toNatClampNeg → Tf.heap[H.size + 1 + j]? = some (vp_cell (cA 0) (k2.toNatClampNeg, .inl (fun _ => 0))) := fun j hj => by
            have := Jvm.Free.Multi.fill_inner (T.setVm vm₁) (cA 6) (cA 0) n.toNatClampNeg k2.toNatClampNeg (defaultValue .int) n.toNatClampNeg j hj
            rw [hTs, hTf] at this
            rw [this, vp_cell_i]
            show some ({ cls := cA 0, slots := Array.replicate k2.toNatClampNeg (.int 0), vm := .none } : Cell) = _
            rw [arrV_new]
          rw [hTf, hTs] at f1 f2
          rw [outer_eq] at f2
          have hz : h.1 = H.size := P.2.1.1
          have P1 : mPt D cA ro B sl0 M s ls (hGrid h n.toNatClampNeg k2.toNatClampNeg) Tf.heap locs (cells + 1 + n.toNatClampNeg) (slots + n.toNatClampNeg + n.toNatClampNeg * k2.toNatClampNeg) lr := by
            refine ⟨P.1, ⟨by show h.1 + 1 + _ = _; rw [f1, hz], fun b d hb => ?_⟩, ⟨Nat.le_trans P.2.2.1.1 (by omega), fun q g1 g2 => (f3 (Nat.lt_of_lt_of_le g1 P.2.2.1.1)).trans (P.2.2.1.2.1 q g1 g2), P.2.2.1.2.2⟩, by show h.1 + 1 + _ = _; rw [P.2.2.2.1]; omega, by show h.2.1 + _ + _ = _; rw [P.2.2.2.2.1]; omega, P.2.2.2.2.2⟩
            unfold hGrid at hb
            dsimp only at hb
            split at hb
            · rename_i hbq
              cases hb
              refine Or.inl ⟨rfl, ?_, (by decide : 3 < 4)⟩
              show Tf.heap[b]? = some (vp_cell _ _)
              rw [hbq, hz, f2, vp_cell_q]
              congr 1
              unfold arrV
              congr 1
              apply congrArg
              funext j
              exact if_pos j.isLt
            · split at hb
              · rename_i hbq hb2
                cases hb
                refine Or.inl ⟨rfl, ?_, (by decide : 0 < 3)⟩
                show Tf.heap[b]? = some (vp_cell _ _)
                rw [hz] at hb2
                have := f4 (b - (H.size + 1)) (by omega)
                rw [show H.size + 1 + (b - (H.size + 1)) = b by omega] at this
                exact this
              · rcases P.2.1.2 b d hb with ⟨k0, k1, k2'⟩ | ⟨k0, k1, k2'⟩
                · exact Or.inl ⟨k0, k1.kept (f3 (mHR.lt P.2.1 hb)), k2'⟩
                · exact Or.inr ⟨k0, k1, by rw [f1]; omega⟩
          obtain ⟨t9, a1, b1⟩ := k Tf.heap locs _ _ lr P1 Tf rfl X1
          refine ⟨t9, step t9 ?_, b1⟩
          rw [hT]
          rw [show h.1 = H.size from hz] at a1
          exact a1
        · cases hx
    · cases hx
  · cases hx
theorem k_obj {i : Nat} (C : mCtx D cA ro sv B M p l s m args meth c) (hRf : 1 ≤ R.frames) (hRl : 64 ≤ R.locals) (hF : ∀ q ∈ tObj, OBOK q) (ho : (rN M).cls = cpN (rP M)) (hd : decode (rC M) pc = .ok (.invokespecial i, 3)) (hc : (mLk tObj M i).isSome = true) (hx : xObj pc ls st h = some (.inl (pc', ls', st', h'))) (k : mK D cA ro B sl0 M p l e R s m args below meth c Q pc' ls' st' h') : mK D cA ro B sl0 M p l e R s m args below meth c Q pc ls st h := by
  obtain ⟨u, hu⟩ := Option.isSome_iff_exists.mp hc
  obtain ⟨key, hm, e1, e2⟩ := mLk_mem hu
  have hcp := hF _ hm
  unfold OBOK at hcp
  dsimp only at hcp
  rw [e1, e2, ← ho] at hcp
  unfold xObj at hx
  split at hx
  · split at hx
    · rename_i hr
      obtain ⟨rfl, rfl, rfl, rfl⟩ := mNx_inj hx
      intro H locs cells slots lr P
      exact W.objInit C.1 C.2.1 C.2.2.2.1 (C.2.2.2.2.1 _ hcp) (C.2.2.2.2.1 _ q133) (C.2.2.2.2.1 _ q134) rfl (show lr.size = _ by rw [P.1.2.1, C.2.2.1]) rfl hd hRf (by show 2 * 0 + _ + _ ≤ _; rw [mvV_sum]; omega) (k H locs cells slots lr P)
    · cases hx
  · cases hx
theorem k_math {i : Nat} {mn : Bool} (C : mCtx D cA ro sv B M p l s m args meth c) (hRf : 1 ≤ R.frames) (hRl : 64 ≤ R.locals) (hF : ∀ q ∈ tMath, MAOK q) (ho : (rN M).cls = cpN (rP M)) (hd : decode (rC M) pc = .ok (.invokestatic i, 3)) (hc : mLk tMath M i = some mn) (hx : xMath mn pc ls st h = some (.inl (pc', ls', st', h'))) (hr1 : h'.1 ≤ s.heap.size + R.cells) (hr2 : h'.2.1 ≤ sl0 + R.slots) (k : mK D cA ro B sl0 M p l e R s m args below meth c Q pc' ls' st' h') : mK D cA ro B sl0 M p l e R s m args below meth c Q pc ls st h := by
  obtain ⟨key, hm, e1, e2⟩ := mLk_mem hc
  have hcp := hF _ hm
  unfold xMath at hx
  split at hx
  · split at hx
    · rename_i hr
      split at hx
      · obtain ⟨rfl, rfl, rfl, rfl⟩ := mNx_inj hx
        have hcp : Cond.methodLink (cpN (key / 65536)) (key % 65536) Lib.Math.min.name ∈ lw_all := hcp
        rw [e1, e2, ← ho] at hcp
        intro H locs cells slots lr P
        have f1 := P.2.2.2.1
        have f2 := P.2.2.2.2.1
        exact va_mmin C.1 C.2.1 (show _ = lr.size by rw [P.1.2.1, C.2.2.1]) C.2.2.2.1 (C.2.2.2.2.1 _ hcp) (C.2.2.2.2.1 _ q417) (C.2.2.2.2.1 _ q114) (C.2.2.2.2.1 _ q418) hRf (by rw [mvV_sum]; omega) (by omega) (by omega) hd (k H locs cells slots lr P)
      · obtain ⟨rfl, rfl, rfl, rfl⟩ := mNx_inj hx
        have hcp : Cond.methodLink (cpN (key / 65536)) (key % 65536) Lib.Math.max.name ∈ lw_all := hcp
        rw [e1, e2, ← ho] at hcp
        intro H locs cells slots lr P
        have f1 := P.2.2.2.1
        have f2 := P.2.2.2.2.1
        exact va_mmax C.1 C.2.1 (show _ = lr.size by rw [P.1.2.1, C.2.2.1]) C.2.2.2.1 (C.2.2.2.2.1 _ hcp) (C.2.2.2.2.1 _ q385) (C.2.2.2.2.1 _ q114) (C.2.2.2.2.1 _ q386) hRf (by rw [mvV_sum]; omega) (by omega) (by omega) hd (k H locs cells slots lr P)
    · cases hx
  · cases hx
end COPYK
