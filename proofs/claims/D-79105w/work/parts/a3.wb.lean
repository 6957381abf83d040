/-! THE CLASS'S JUDGEMENT, 4: calls, answers, throws, copies, switches -/
set_option maxRecDepth 100000
section WCC
variable {T : Nat → Option CK} {d : Nat} {M : MRec} {pc : Nat} {ls : AL} {st st0 : List AV} {τ : CT} {Q : CO → CT → Prop} {Q' : Option AV → CT → Prop} {QX : CO → CT → Prop} {k : Nat} {e a b : Int} {x y n t ci : Nat} {fs : List FK}
theorem cs_ret {rf : Nat → Option Nat} (v : Option AV) (st : List AV) : cs rf (v.toList ++ st) = (v.map (cv rf)).toList ++ cs rf st := by cases v <;> rfl
/-- a call, whatever its kind; it may throw -/
theorem wc_callX {op : Instr} {len pc' : Nat} {M' : MRec} {as : List AV} (hd : decode (rC M) pc = .ok (op, len)) (hl : mLen op len = true) (hc : CtX T k M' as τ QX) (hk : k < d) (hx : ∀ E h, Rep T E τ h → ex E.B E.sv M pc (cl E.rf ls) (cs E.rf st0) h op = some (.inr (.inl (M', cs E.rf as, pc', cs E.rf st, h))))
    (KV : ∀ v t, QX (.inl v) t → Wc T d M pc' ls (v.toList ++ st) t Q) (KT : ∀ q t, QX (.inr q) t → (hFind (rH M) pc = some none ∧ Q (.inr q) t) ∨ ∃ tg, hFind (rH M) pc = some (some tg) ∧ Wc T d M tg ls [.inr q] t Q) : Wc T d M pc ls st0 τ Q := fun E h R => by
  refine wp_call hd hl (hx E h R) hk (d0 := k) (Q1 := fun r h' => ∃ (v : CO) (τ' : CT), outC E.rf r v ∧ Rep T E τ' h' ∧ QX v τ') ?_ (fun v h2 ⟨w, t, e1, e2, q⟩ => ?_) (fun q h2 ⟨w, t, e1, e2, qq⟩ => ?_)
  · have h9 := hc k (Nat.le_refl _) E h R
    rw [cl_en] at h9
    exact h9
  · rcases w with w | w
    · have ev : v = w.map (cv E.rf) := by cases e1; rfl
      subst ev
      have h9 := KV w t q E h2 e2
      rw [cs_ret] at h9
      exact h9
    · obtain ⟨a, -, e3⟩ := e1
      cases e3
  · rcases w with w | w
    · cases e1
    · obtain ⟨a, ha, e3⟩ := e1
      cases e3
      rcases KT w t qq with ⟨hf, hq⟩ | ⟨tg, hf, hw⟩
      · exact Or.inl ⟨hf, .inr w, t, ⟨q, ha, rfl⟩, e2, hq⟩
      · refine Or.inr ⟨tg, hf, ?_⟩
        have h9 := hw E h2 e2
        rw [show cs E.rf [.inr w] = [.inr (some q)] from congrArg (fun z => [(.inr z : MV)]) ha] at h9
        exact h9
theorem wc_call {op : Instr} {len pc' : Nat} {M' : MRec} {as : List AV} (hd : decode (rC M) pc = .ok (op, len)) (hl : mLen op len = true) (hc : Ct T k M' as τ Q') (hk : k < d) (hx : ∀ E h, Rep T E τ h → ex E.B E.sv M pc (cl E.rf ls) (cs E.rf st0) h op = some (.inr (.inl (M', cs E.rf as, pc', cs E.rf st, h))))
    (K : ∀ v t, Q' v t → Wc T d M pc' ls (v.toList ++ st) t Q) : Wc T d M pc ls st0 τ Q := wc_callX hd hl hc hk hx K (fun _ _ h => h.elim)
/-- the frozen names stay -/
theorem wc_callZ {op : Instr} {len pc' : Nat} {M' : MRec} {as : List AV} (hd : decode (rC M) pc = .ok (op, len)) (hl : mLen op len = true) (hc : Ct T k M' as τ Q') (hk : k < d) (hx : ∀ E h, Rep T E τ h → ex E.B E.sv M pc (cl E.rf ls) (cs E.rf st0) h op = some (.inr (.inl (M', cs E.rf as, pc', cs E.rf st, h))))
    (K : ∀ v t, Q' v t ∧ Fz τ t → Wc T d M pc' ls (v.toList ++ st) t Q) : Wc T d M pc ls st0 τ Q := wc_call hd hl hc.fz hk hx K
theorem cs_split {rf : Nat → Option Nat} {as : List AV} : cs rf (as.reverse ++ st) = (cs rf as).reverse ++ cs rf st := by
  unfold cs
  rw [List.map_append, List.map_reverse]
theorem hx_S {i : Nat} {M' : MRec} {as : List AV} (hq : mLk tSt M i = some (M', n)) (hp : ((mLk tCopy M i).isSome || (mLk tMath M i).isSome) = false) (hst : st0 = as.reverse ++ st) (hn : (as.length == n && decide (st.length ≤ 8)) = true) : ∀ (E : CE) (h : MH), Rep T E τ h → ex E.B E.sv M pc (cl E.rf ls) (cs E.rf st0) h (.invokestatic i) = some (.inr (.inl (M', cs E.rf as, pc + 3, cs E.rf st, h))) := fun E h _ => by
  subst hst
  obtain ⟨h1, h2⟩ := (Bool.and_eq_true _ _).mp hn |>.imp (fun h => eq_of_beq h) (fun h => of_decide_eq_true h)
  subst h1
  have l1 : (cs E.rf as).length = as.length := by simp [cs]
  have l2 : (cs E.rf st).length = st.length := by simp [cs]
  rw [cs_split]
  show (if (mLk tCopy M i).isSome = true then _ else match mLk tMath M i with | some b => _ | none => _) = _
  rcases hc1 : mLk tCopy M i with _ | c1
  · rcases hc2 : mLk tMath M i with _ | c2
    · dsimp only
      rw [hq]
      unfold xCallS
      dsimp only
      have hdr : ((cs E.rf as).reverse ++ cs E.rf st).drop as.length = cs E.rf st := List.drop_left' (by rw [List.length_reverse, l1])
      have htk : ((cs E.rf as).reverse ++ cs E.rf st).take as.length = (cs E.rf as).reverse := List.take_left' (by rw [List.length_reverse, l1])
      rw [if_neg (by simp), hdr, htk, if_pos ⟨by rw [List.length_append, List.length_reverse, l1]; omega, by rw [l2]; exact h2⟩, List.reverse_reverse]
    · rw [hc1, hc2] at hp; cases hp
  · rw [hc1] at hp; cases hp
theorem hx_VI {q : Option (MRec × Nat × Nat)} {M' : MRec} {as : List AV} {len : Nat} {E : CE} {h : MH} (R : Rep T E τ h) (hq : q = some (M', n, ci)) (hk : kd T τ x = some (ckO ci fs)) (hst : st0 = as.reverse ++ .inr x :: st) (hn : (as.length == n && decide (st.length ≤ 8)) = true) : xCallV q len pc (cs E.rf st0) h = some (.inr (.inl (M', cs E.rf (.inr x :: as), pc + len, cs E.rf st, h))) := by
  subst hst
  subst hq
  obtain ⟨h1, h2⟩ := (Bool.and_eq_true _ _).mp hn |>.imp (fun h => eq_of_beq h) (fun h => of_decide_eq_true h)
  subst h1
  have l1 : (cs E.rf as).length = as.length := by simp [cs]
  have l2 : (cs E.rf st).length = st.length := by simp [cs]
  obtain ⟨b, hb, hc⟩ := R.cell hk
  rw [cs_split]
  unfold xCallV
  dsimp only
  have hdr : ((cs E.rf as).reverse ++ cs E.rf (.inr x :: st)).drop as.length = .inr (some b) :: cs E.rf st := by
    rw [List.drop_left' (by rw [List.length_reverse, l1]), ← hb]
    rfl
  have htk : ((cs E.rf as).reverse ++ cs E.rf (.inr x :: st)).take as.length = (cs E.rf as).reverse := List.take_left' (by rw [List.length_reverse, l1])
  rw [hdr, htk, if_pos ⟨by rw [List.length_append, List.length_reverse, l1]; omega, by rw [List.length_cons, l2]; omega⟩]
  dsimp only
  rw [hc]
  dsimp only [cel]
  rw [if_pos rfl, List.reverse_reverse, ← hb]
  rfl
theorem hx_V {i : Nat} {M' : MRec} {as : List AV} (hq : mLk tV M i = some (M', n, ci)) (hp : decide (rP M = 25 ∧ i = 86) = false) (hk : kd T τ x = some (ckO ci fs)) (hst : st0 = as.reverse ++ .inr x :: st) (hn : (as.length == n && decide (st.length ≤ 8)) = true) : ∀ (E : CE) (h : MH), Rep T E τ h → ex E.B E.sv M pc (cl E.rf ls) (cs E.rf st0) h (.invokevirtual i) = some (.inr (.inl (M', cs E.rf (.inr x :: as), pc + 3, cs E.rf st, h))) := fun E h R => by
  show (if rP M = 25 ∧ i = 86 then _ else xCallV (mLk tV M i) 3 pc _ _) = _
  rw [if_neg (of_decide_eq_false hp)]
  exact hx_VI R hq hk hst hn
theorem hx_F {i c : Nat} {M' : MRec} {as : List AV} (hq : mLk tF5 M i = some (M', n, ci)) (hk : kd T τ x = some (ckO ci fs)) (hst : st0 = as.reverse ++ .inr x :: st) (hn : (as.length == n && decide (st.length ≤ 8)) = true) : ∀ (E : CE) (h : MH), Rep T E τ h → ex E.B E.sv M pc (cl E.rf ls) (cs E.rf st0) h (.invokeinterface i c) = some (.inr (.inl (M', cs E.rf (.inr x :: as), pc + 5, cs E.rf st, h))) := fun E h R => hx_VI R hq hk hst hn
theorem hx_I {i : Nat} {M' : MRec} {as : List AV} (hq : mLk tI M i = some (M', n)) (hp : (mLk tObj M i).isSome = false) (hk : kd T τ x = some (ckO ci fs)) (hst : st0 = as.reverse ++ .inr x :: st) (hn : (as.length == n && decide (st.length ≤ 8)) = true) : ∀ (E : CE) (h : MH), Rep T E τ h → ex E.B E.sv M pc (cl E.rf ls) (cs E.rf st0) h (.invokespecial i) = some (.inr (.inl (M', cs E.rf (.inr x :: as), pc + 3, cs E.rf st, h))) := fun E h R => by
  subst hst
  obtain ⟨h1, h2⟩ := (Bool.and_eq_true _ _).mp hn |>.imp (fun h => eq_of_beq h) (fun h => of_decide_eq_true h)
  subst h1
  have l1 : (cs E.rf as).length = as.length := by simp [cs]
  have l2 : (cs E.rf st).length = st.length := by simp [cs]
  obtain ⟨b, hb, hc⟩ := R.cell hk
  show (if (mLk tObj M i).isSome = true then _ else xCallI (mLk tI M i) pc _ _) = _
  rw [if_neg (by rw [hp]; decide), hq, cs_split]
  unfold xCallI
  dsimp only
  have hdr : ((cs E.rf as).reverse ++ cs E.rf (.inr x :: st)).drop as.length = .inr (some b) :: cs E.rf st := by
    rw [List.drop_left' (by rw [List.length_reverse, l1]), ← hb]
    rfl
  have htk : ((cs E.rf as).reverse ++ cs E.rf (.inr x :: st)).take as.length = (cs E.rf as).reverse := List.take_left' (by rw [List.length_reverse, l1])
  rw [hdr, htk, if_pos ⟨by rw [List.length_append, List.length_reverse, l1]; omega, by rw [List.length_cons, l2]; omega⟩]
  dsimp only
  rw [hc]
  dsimp only [cel]
  rw [List.reverse_reverse, ← hb]
  rfl
/-- Object.<init> -/
theorem wc_obj {i : Nat} (hd : decode (rC M) pc = .ok (.invokespecial i, 3)) (hp : (mLk tObj M i).isSome = true) (hk : (kd T τ x).isSome = true) (hn : decide (st.length ≤ 8) = true) (K : Wc T d M (pc + 3) ls st τ Q) : Wc T d M pc ls (.inr x :: st) τ Q := fun E h R => by
  obtain ⟨q, hq⟩ := Option.isSome_iff_exists.mp hk
  obtain ⟨b, hb, -⟩ := R.cell hq
  refine wp_next hd rfl ?_ (K E h R)
  show (if (mLk tObj M i).isSome = true then xObj pc _ (.inr (E.rf x) :: _) _ else _) = _
  rw [if_pos hp, hb]
  unfold xObj
  dsimp only
  rw [if_pos (by have := of_decide_eq_true hn; simpa [cs] using this)]
  rfl
theorem wc_getClass {i : Nat} {g : Option (Nat → Nat)} (hd : decode (rC M) pc = .ok (.invokevirtual i, 3)) (hp : rP M = 25 ∧ i = 86) (hk : kd T τ x = some (.inr (.inl (0, n, g)))) (hn : decide (st.length ≤ 8) = true) (K : Wc T d M (pc + 3) ls (.inr 4 :: st) τ Q) : Wc T d M pc ls (.inr x :: st) τ Q := fun E h R => by
  obtain ⟨b, hb, hc⟩ := R.cell hk
  refine wp_next hd rfl ?_ (K E h R)
  show (if rP M = 25 ∧ i = 86 then xMirror E.sv pc _ (.inr (E.rf x) :: _) _ else _) = mNx _ _ (.inr (E.rf 4) :: _) _
  rw [if_pos hp, hb]
  unfold xMirror
  dsimp only
  rw [if_pos (by have := of_decide_eq_true hn; simpa [cs] using this), hc, R.stat (i := 100) (Or.inr rfl)]
  rcases g with _ | g <;> rfl
theorem wc_ireturn (hd : decode (rC M) pc = .ok (.ireturn, 1)) (hr : rR M = some .int) (K : Q (.inl (some (.inl e))) τ) : Wc T d M pc ls [.inl e] τ Q := fun E h R => wp_ret hd rfl (v := some (.inl (cI e))) (h' := h) (by show xRet (rR M) [.inl (cI e)] _ = _; rw [hr]; rfl) ⟨.inl (some (.inl e)), τ, rfl, R, K⟩
theorem wc_breturn (hd : decode (rC M) pc = .ok (.ireturn, 1)) (hr : rR M = some .boolean) (hb : e = 0 ∨ e = 1) (K : Q (.inl (some (.inl e))) τ) : Wc T d M pc ls [.inl e] τ Q := fun E h R => wp_ret hd rfl (v := some (.inl (cI e))) (h' := h) (by show xRet (rR M) [.inl (cI e)] _ = _; rw [hr]; unfold xRet; dsimp only; rw [if_pos (by rcases hb with rfl | rfl <;> decide)]) ⟨.inl (some (.inl e)), τ, rfl, R, K⟩
theorem wc_vreturn (hd : decode (rC M) pc = .ok (.return_, 1)) (hr : rR M = none) (K : Q (.inl none) τ) : Wc T d M pc ls [] τ Q := fun E h R => wp_ret hd rfl (v := none) (h' := h) (by show xVret (rR M) [] _ = _; rw [hr]; rfl) ⟨.inl none, τ, rfl, R, K⟩
def isRef : Option FieldType → Bool
  | some (.object _) => true
  | some (.array _) => true
  | _ => false
theorem wc_areturn (hd : decode (rC M) pc = .ok (.areturn, 1)) (hr : isRef (rR M) = true) (K : Q (.inl (some (.inr x))) τ) : Wc T d M pc ls [.inr x] τ Q := fun E h R => wp_ret hd rfl (v := some (.inr (E.rf x))) (h' := h) (by
  show xAret (rR M) [.inr (E.rf x)] _ = _
  rcases hM : rR M with _ | ty
  · rw [hM] at hr; cases hr
  · rw [hM] at hr
    cases ty <;> first | rfl | cases hr) ⟨.inl (some (.inr x)), τ, rfl, R, K⟩
theorem wc_athrow (hd : decode (rC M) pc = .ok (.athrow, 1)) (hk : kd T τ x = some (ckO 6 fs)) (hf : hFind (rH M) pc = some none) (K : Q (.inr x) τ) : Wc T d M pc ls (.inr x :: st) τ Q := fun E h R => by
  obtain ⟨b, hb, hc⟩ := R.cell hk
  refine wp_throw hd rfl (q := b) (h' := h) ?_ hf ⟨.inr x, τ, ⟨b, hb, rfl⟩, R, K⟩
  show xThrow (.inr (E.rf x) :: _) _ = _
  rw [hb]
  unfold xThrow
  dsimp only
  rw [hc]
  rfl
theorem wc_min {i : Nat} (hd : decode (rC M) pc = .ok (.invokestatic i, 3)) (hp : (mLk tCopy M i).isSome = false) (hq : mLk tMath M i = some true) (ha : rng a) (hb : rng b) (hn : decide (st.length ≤ 8) = true) (K : Wc T d M (pc + 3) ls (.inl (if b < a then b else a) :: st) τ Q) : Wc T d M pc ls (.inl b :: .inl a :: st) τ Q := fun E h R => by
  refine wp_next hd rfl ?_ (K E h R)
  show (if (mLk tCopy M i).isSome = true then _ else match mLk tMath M i with | some mn => xMath mn pc _ (.inl (cI b) :: .inl (cI a) :: _) _ | none => _) = mNx _ _ (.inl (cI (if b < a then b else a)) :: _) _
  rw [if_neg (by rw [hp]; decide), hq]
  dsimp only
  unfold xMath
  dsimp only
  rw [if_pos (by have := of_decide_eq_true hn; simpa [cs] using this)]
  by_cases hlt : b < a
  · rw [if_pos hlt, if_pos ((cI_lt hb ha).mpr hlt)]
  · rw [if_neg hlt, if_neg (fun q => hlt ((cI_lt hb ha).mp q))]
theorem wc_max {i : Nat} (hd : decode (rC M) pc = .ok (.invokestatic i, 3)) (hp : (mLk tCopy M i).isSome = false) (hq : mLk tMath M i = some false) (ha : rng a) (hb : rng b) (hn : decide (st.length ≤ 8) = true) (K : Wc T d M (pc + 3) ls (.inl (if a < b then b else a) :: st) τ Q) : Wc T d M pc ls (.inl b :: .inl a :: st) τ Q := fun E h R => by
  refine wp_next hd rfl ?_ (K E h R)
  show (if (mLk tCopy M i).isSome = true then _ else match mLk tMath M i with | some mn => xMath mn pc _ (.inl (cI b) :: .inl (cI a) :: _) _ | none => _) = mNx _ _ (.inl (cI (if a < b then b else a)) :: _) _
  rw [if_neg (by rw [hp]; decide), hq]
  dsimp only
  unfold xMath
  dsimp only
  rw [if_pos (by have := of_decide_eq_true hn; simpa [cs] using this)]
  by_cases hlt : a < b
  · rw [if_pos hlt, if_pos ((cI_lt ha hb).mpr hlt)]
  · rw [if_neg hlt, if_neg (fun q => hlt ((cI_lt ha hb).mp q))]
/-- copied: n entries of x from s on to y from p on -/
def cpC (τ : CT) (x y s p n : Nat) : CT := (τ.1, τ.2.1, fun a i => if a = y ∧ p ≤ i ∧ i < p + n then τ.2.2 x (s + (i - p)) else τ.2.2 a i)
theorem cpy_cI {f g : Nat → Int} {s p n : Nat} {α : Type} (F : Int → α) : va_cpy (fun i => F (f i)) (fun i => F (g i)) s p n = fun i => F (if p ≤ i ∧ i < p + n then f (s + (i - p)) else g i) := by
  funext i
  unfold va_cpy
  by_cases hi : p ≤ i ∧ i < p + n
  · rw [if_pos hi, if_pos hi]
  · rw [if_neg hi, if_neg hi]
theorem wc_cpyI {i n0 n1 : Nat} {c : Int} (hd : decode (rC M) pc = .ok (.invokestatic i, 3)) (hp : (mLk tCopy M i).isSome = true) (hx : kd T τ x = some (ckI t n0)) (hy : kd T τ y = some (ckI t n1)) (hw : wrC τ y) (ht : t = 0 ∨ t = 1 ∧ ∀ j, j < c.toNat → sg τ x (a.toNat + j) = 0 ∨ sg τ x (a.toNat + j) = 1) (hn : decide (st.length ≤ 8) = true) (ha : 0 ≤ a) (hb : 0 ≤ b) (hc : 0 ≤ c) (h0 : a + c ≤ (n0 : Int)) (h1 : b + c ≤ (n1 : Int)) (hm : (n0 : Int) < 2147483648 ∧ (n1 : Int) < 2147483648) (K : Wc T d M (pc + 3) ls st (cpC τ x y a.toNat b.toNat c.toNat) Q) : Wc T d M pc ls (.inl c :: .inl b :: .inr y :: .inl a :: .inr x :: st) τ Q := fun E h R => by
  obtain ⟨ax, hax, hcx⟩ := R.cell hx
  obtain ⟨ay, hay, hB, hcy⟩ := R.wr hy hw
  have R' : Rep T E (cpC τ x y a.toNat b.toNat c.toNat) (hS h ay (cel E.rf (ckI t n1) (sg (cpC τ x y a.toNat b.toNat c.toNat) y))) := R.set hy hw hay rfl rfl (fun w hw => by unfold cpC sg; funext j; simp [hw]) rfl
  refine wp_next hd rfl ?_ (K E _ R')
  show (if (mLk tCopy M i).isSome = true then xCopy E.B pc _ (.inl (cI c) :: .inl (cI b) :: .inr (E.rf y) :: .inl (cI a) :: .inr (E.rf x) :: cs E.rf st) h else _) = _
  rw [if_pos hp, hax, hay]
  unfold xCopy
  dsimp only
  rw [if_pos ⟨hB, cI_nlt ha (by omega), cI_nlt hb (by omega), cI_nlt hc (by omega), by have := of_decide_eq_true hn; simpa [cs] using this⟩, hcx, hcy]
  dsimp only [cel]
  have hcond : t = 0 ∨ t = 1 ∧ mBits (fun i => cI (sg τ x i)) a.toNat c.toNat = true := by
    rcases ht with ht | ⟨ht, h01⟩
    · exact Or.inl ht
    · refine Or.inr ⟨ht, ?_⟩
      unfold mBits
      rw [List.all_eq_true]
      intro j hj
      rw [decide_eq_true_eq]
      dsimp only
      rcases h01 j (List.mem_range.mp hj) with q | q <;> rw [q]
      · exact Or.inl rfl
      · exact Or.inr rfl
  rw [cI_idx ha (by omega), cI_idx hb (by omega), cI_idx hc (by omega), if_pos ⟨rfl, by omega, by omega, hcond⟩, cpy_cI]
  · refine congrArg (fun z => mNx _ _ _ (hS h ay (.inl (t, n1, z)))) (funext fun j => congrArg cI ?_)
    unfold cpC sg
    simp
theorem mAll_of {E : CE} {h : MH} (R : Rep T E τ h) {s c : Nat} {f : Nat → Int} (hf : ∀ j, j < c → (f (s + j)).toNat = 0 ∨ ∃ fs, kd T τ (f (s + j)).toNat = some (ckO ci fs)) : mAllOf h (fun i => E.rf (f i).toNat) s c ci = true := by
  unfold mAllOf
  rw [List.all_eq_true]
  intro j hj
  have hj := List.mem_range.mp hj
  rcases hf j hj with q | ⟨fs, q⟩
  · dsimp only
    rw [q, R.null]
  · obtain ⟨b, hb, hcb⟩ := R.cell q
    dsimp only
    rw [hb]
    dsimp only
    rw [hcb]
    dsimp only [cel]
    exact beq_self_eq_true ci
theorem wc_cpyR {i n0 n1 : Nat} {c : Int} (hd : decode (rC M) pc = .ok (.invokestatic i, 3)) (hp : (mLk tCopy M i).isSome = true) (hx : kd T τ x = some (ckR t n0)) (hy : kd T τ y = some (ckR t n1)) (hw : wrC τ y) (ci : Nat) (hci : (mFit t ci && (ci == 1 || ci == 4 || ci == 7 || ci == 9)) = true) (ht : ∀ j, j < c.toNat → (sg τ x (a.toNat + j)).toNat = 0 ∨ ∃ fs, kd T τ (sg τ x (a.toNat + j)).toNat = some (ckO ci fs)) (hn : decide (st.length ≤ 8) = true) (ha : 0 ≤ a) (hb : 0 ≤ b) (hc : 0 ≤ c) (h0 : a + c ≤ (n0 : Int)) (h1 : b + c ≤ (n1 : Int)) (hm : (n0 : Int) < 2147483648 ∧ (n1 : Int) < 2147483648) (K : Wc T d M (pc + 3) ls st (cpC τ x y a.toNat b.toNat c.toNat) Q) : Wc T d M pc ls (.inl c :: .inl b :: .inr y :: .inl a :: .inr x :: st) τ Q := fun E h R => by
  obtain ⟨ax, hax, hcx⟩ := R.cell hx
  obtain ⟨ay, hay, hB, hcy⟩ := R.wr hy hw
  have hall := mAll_of R (s := a.toNat) (c := c.toNat) ht
  have R' : Rep T E (cpC τ x y a.toNat b.toNat c.toNat) (hS h ay (cel E.rf (ckR t n1) (sg (cpC τ x y a.toNat b.toNat c.toNat) y))) := R.set hy hw hay rfl rfl (fun w hw => by unfold cpC sg; funext j; simp [hw]) rfl
  refine wp_next hd rfl ?_ (K E _ R')
  show (if (mLk tCopy M i).isSome = true then xCopy E.B pc _ (.inl (cI c) :: .inl (cI b) :: .inr (E.rf y) :: .inl (cI a) :: .inr (E.rf x) :: cs E.rf st) h else _) = _
  rw [if_pos hp, hax, hay]
  unfold xCopy
  dsimp only
  rw [if_pos ⟨hB, cI_nlt ha (by omega), cI_nlt hb (by omega), cI_nlt hc (by omega), by have := of_decide_eq_true hn; simpa [cs] using this⟩, hcx, hcy]
  dsimp only [cel]
  have hcond : mFit t 1 = true ∧ mAllOf h (fun i => E.rf (sg τ x i).toNat) a.toNat c.toNat 1 = true ∨ mFit t 4 = true ∧ mAllOf h (fun i => E.rf (sg τ x i).toNat) a.toNat c.toNat 4 = true ∨ mFit t 7 = true ∧ mAllOf h (fun i => E.rf (sg τ x i).toNat) a.toNat c.toNat 7 = true ∨ mFit t 9 = true ∧ mAllOf h (fun i => E.rf (sg τ x i).toNat) a.toNat c.toNat 9 = true := by
    obtain ⟨g1, g2⟩ := (Bool.and_eq_true _ _).mp hci
    rw [Bool.or_eq_true, Bool.or_eq_true, Bool.or_eq_true] at g2
    rcases g2 with ((g2 | g2) | g2) | g2
    · have := eq_of_beq g2; subst this; exact Or.inl ⟨g1, hall⟩
    · have := eq_of_beq g2; subst this; exact Or.inr (Or.inl ⟨g1, hall⟩)
    · have := eq_of_beq g2; subst this; exact Or.inr (Or.inr (Or.inl ⟨g1, hall⟩))
    · have := eq_of_beq g2; subst this; exact Or.inr (Or.inr (Or.inr ⟨g1, hall⟩))
  rw [cI_idx ha (by omega), cI_idx hb (by omega), cI_idx hc (by omega), if_pos ⟨rfl, by omega, by omega, hcond⟩, cpy_cI (fun z : Int => E.rf z.toNat)]
  · refine congrArg (fun z => mNx _ _ _ (hS h ay (.inr (.inl (t, n1, z))))) (funext fun j => congrArg (fun z : Int => E.rf z.toNat) ?_)
    unfold cpC sg
    simp
/-- switches, the value known -/
def tswO (dflt lo hi : Int) (offs : Array Int) (x : Int) : Option Int := if x < lo ∨ hi < x then some dflt else offs[(x - lo).toNat]?
theorem wc_tsw {dflt lo hi off : Int} {offs : Array Int} {len : Nat} (hd : decode (rC M) pc = .ok (.tableswitch dflt lo hi offs, len)) (hr : rng e) (ho : tswO dflt lo hi offs e = some off) (tg : Nat) (ht : (pc : Int) + off = (tg : Int)) (K : Wc T d M tg ls st τ Q) : Wc T d M pc ls (.inl e :: st) τ Q := fun E h R => by
  refine wp_next hd rfl ?_ (K E h R)
  show xTsw dflt lo hi offs pc _ (.inl (cI e) :: cs E.rf st) _ = _
  unfold xTsw
  unfold tswO at ho
  dsimp only
  rw [cI_toInt hr]
  have hg : ∀ off, (pc : Int) + off = (tg : Int) → mGo pc off (cl E.rf ls) (cs E.rf st) h = mNx tg (cl E.rf ls) (cs E.rf st) h := fun off ht => by
    unfold mGo
    rw [ht, if_pos (Int.natCast_nonneg tg)]
    rfl
  split at ho
  · cases ho
    rename_i hlt
    rw [if_pos hlt]
    exact hg _ ht
  · rename_i hlt
    rw [if_neg hlt, ho]
    exact hg _ ht
theorem wc_lsw {dflt off : Int} {ps : Array (Int × Int)} {len : Nat} (hd : decode (rC M) pc = .ok (.lookupswitch dflt ps, len)) (hs : (ps.toList.zip (ps.toList.drop 1)).all (fun (a, next) => a.1 < next.1) = true) (hr : rng e) (ho : Op.lookupswitch.offset ps.toList dflt e = off) (tg : Nat) (ht : (pc : Int) + off = (tg : Int)) (K : Wc T d M tg ls st τ Q) : Wc T d M pc ls (.inl e :: st) τ Q := fun E h R => by
  refine wp_next hd rfl ?_ (K E h R)
  show xLsw dflt ps pc _ (.inl (cI e) :: cs E.rf st) _ = _
  unfold xLsw
  dsimp only
  rw [if_pos hs, cI_toInt hr, ho]
  unfold mGo
  rw [ht, if_pos (Int.natCast_nonneg tg)]
  rfl
theorem wc_acmpeq {off : Int} (hd : decode (rC M) pc = .ok (.if_acmp .eq off, 3)) (tg : Nat) (ht : (pc : Int) + off = (tg : Int)) (K : Wc T d M tg ls st τ Q) : Wc T d M pc ls (.inr y :: .inr y :: st) τ Q := fun E h R => wp_next hd rfl (by show xAcmp .eq off pc _ (.inr (E.rf y) :: .inr (E.rf y) :: _) _ = _; unfold xAcmp; dsimp only; rw [ht, if_pos (Int.natCast_nonneg tg), if_pos rfl]; rfl) (K E h R)
end WCC
