/-! THE MODEL'S METHODS OVER A STORE OF INTEGERS: one object with int fields and int arrays; values are integers (mod 2^32 at the bottom) or addresses -/
set_option maxRecDepth 100000
abbrev AV : Type := Int ⊕ Nat
abbrev AL : Type := List (Option AV)
/-- the store: int fields by their places, int arrays by the places of their fields -/
abbrev MT : Type := (Nat → Int) × (Nat → Nat → Int)
def cI (e : Int) : Int32 := Int32.ofInt e
def cv (rf : Nat → Option Nat) : AV → MV
  | .inl e => .inl (cI e)
  | .inr a => .inr (rf a)
def cl (rf : Nat → Option Nat) (ls : AL) : ML := ls.map (Option.map (cv rf))
def cs (rf : Nat → Option Nat) (st : List AV) : List MV := st.map (cv rf)
abbrev rng (e : Int) : Prop := -2147483648 ≤ e ∧ e < 2147483648
theorem cI_add (a b : Int) : cI a + cI b = cI (a + b) := (Int32.ofInt_add a b).symm
theorem cI_sub (a b : Int) : cI a - cI b = cI (a - b) := (Int32.ofInt_sub a b).symm
theorem cI_mul (a b : Int) : cI a * cI b = cI (a * b) := (Int32.ofInt_mul a b).symm
theorem cI_neg (a : Int) : - cI a = cI (-a) := (Int32.ofInt_neg a).symm
theorem cI_toInt {a : Int} (h : rng a) : (cI a).toInt = a := Int32.toInt_ofInt_of_le h.1 h.2
theorem toInt_cI (x : Int32) : cI x.toInt = x := Int32.ofInt_toInt x
theorem rng_toInt (x : Int32) : rng x.toInt := ⟨Int32.le_toInt x, Int32.toInt_lt x⟩
theorem cI_lt {a b : Int} (ha : rng a) (hb : rng b) : cI a < cI b ↔ a < b := by
  rw [Int32.lt_iff_toInt_lt, cI_toInt ha, cI_toInt hb]
theorem cI_le {a b : Int} (ha : rng a) (hb : rng b) : cI a ≤ cI b ↔ a ≤ b := by
  rw [Int32.le_iff_toInt_le, cI_toInt ha, cI_toInt hb]
theorem cI_eq {a b : Int} (ha : rng a) (hb : rng b) : cI a = cI b ↔ a = b := by
  rw [← Int32.toInt_inj, cI_toInt ha, cI_toInt hb]
theorem cI_idx {a : Int} (ha : 0 ≤ a) (hb : a < 2147483648) : (cI a).toNatClampNeg = a.toNat := by
  have := cI_toInt (a := a) ⟨by omega, hb⟩
  show (cI a).toInt.toNat = _
  rw [this]
theorem cI_in {a : Int} {n : Nat} (ha : 0 ≤ a) (hb : a < n) (hn : n ≤ 100000) : ¬ mOut (cI a) n := by
  intro h
  rcases h with h | h
  · have h0 : cI a < cI 0 := h
    rw [cI_lt ⟨by omega, by omega⟩ ⟨by omega, by omega⟩] at h0
    omega
  · rw [cI_idx ha (by omega)] at h
    omega
theorem mLd_cl {rf : Nat → Option Nat} {ls : AL} {k : Nat} {v : AV} (h : ls[k]? = some (some v)) : mLd (cl rf ls) k = some (cv rf v) := by
  unfold mLd cl
  rw [List.getElem?_map, h]
  rfl
theorem cl_set {rf : Nat → Option Nat} {ls : AL} {k : Nat} {v : AV} : (cl rf ls).set k (some (cv rf v)) = cl rf (ls.set k (some v)) := by
  unfold cl
  rw [List.map_set]
  rfl
theorem cl_len {rf : Nat → Option Nat} {ls : AL} {k : Nat} (h : (ls[k]?).isSome = true) : k < (cl rf ls).length := by
  unfold cl
  rw [List.length_map]
  rcases hq : ls[k]? with _ | v
  · rw [hq] at h; cases h
  · exact (List.getElem?_eq_some_iff.mp hq).1
/-- lengths of the arrays -/
def lenM : Nat → Option Nat
  | 0 => some 2838
  | 3 => some 1440
  | 4 => some 120
  | 5 => some 10
  | 6 => some 11264
  | 7 => some 10
  | 10 => some 100
  | 11 => some 10
  | 12 => some 10
  | 13 => some 10
  | 14 => some 60
  | 18 => some 22
  | 19 => some 180
  | _ => none
theorem lenM_le {j n : Nat} (h : lenM j = some n) : n ≤ 100000 := by
  unfold lenM at h
  split at h <;> cases h <;> decide
theorem lenM_lt {j n : Nat} (h : lenM j = some n) : j < 25 := by
  unfold lenM at h
  split at h <;> first | (cases h; done) | decide
/-- where the model stands: what may be written, the statics, the object's address, the rest of the heap -/
abbrev ME : Type := {x : Nat × (Nat → Option Nat) × Nat × MH // x.1 ≤ x.2.2.1}
abbrev ME.B (E : ME) : Nat := E.1.1
abbrev ME.sv (E : ME) : Nat → Option Nat := E.1.2.1
abbrev ME.A (E : ME) : Nat := E.1.2.2.1
abbrev ME.H (E : ME) : MH := E.1.2.2.2
theorem ME.hB (E : ME) : E.B ≤ E.A := E.2
/-- arrays in the order in which they are made -/
def rkM : Nat → Nat
  | 0 => 1
  | 3 => 2
  | 4 => 3
  | 5 => 4
  | 6 => 5
  | 7 => 6
  | 10 => 7
  | 11 => 8
  | 12 => 9
  | 13 => 10
  | 14 => 11
  | 18 => 12
  | 19 => 13
  | _ => 0
def ivM : Nat → Option Nat
  | 0 => some 0
  | 1 => some 3
  | 2 => some 4
  | 3 => some 5
  | 4 => some 6
  | 5 => some 7
  | 6 => some 10
  | 7 => some 11
  | 8 => some 12
  | 9 => some 13
  | 10 => some 14
  | 11 => some 18
  | 12 => some 19
  | _ => none
theorem ivM_rk {j n : Nat} (h : lenM j = some n) : ∃ i, rkM j = i + 1 ∧ ivM i = some j := by
  unfold lenM at h
  split at h
  all_goals first | exact ⟨_, rfl, rfl⟩ | cases h
theorem rkM_iv {i j : Nat} (h : ivM i = some j) : rkM j = i + 1 ∧ i < 13 := by
  unfold ivM at h
  split at h
  all_goals first | (cases h; exact ⟨rfl, by decide⟩) | cases h
/-- the names of the model's cells: 1 the object, j + 2 the array of field j -/
def rfM (E : ME) : Nat → Option Nat
  | 0 => none
  | 1 => some E.A
  | j + 2 => some (E.A + rkM j)
def fsM (E : ME) (τ : MT) : List MV := (List.range 25).map fun j => match lenM j with
  | some _ => .inr (some (E.A + rkM j))
  | none => .inl (cI (τ.1 j))
def ceM (E : ME) (τ : MT) : Nat → Option MC
  | 0 => some (.inr (.inr (3, fsM E τ)))
  | i + 1 => match ivM i with
    | some j => some (.inl (0, (lenM j).getD 0, fun k => cI (τ.2 j k)))
    | none => none
def hpM (E : ME) (τ : MT) : MH := (E.H.1, E.H.2.1, fun a => if E.A ≤ a ∧ a < E.A + 14 then ceM E τ (a - E.A) else E.H.2.2 a)
def stI (τ : MT) (j : Nat) (v : Int) : MT := (fun i => if i = j then v else τ.1 i, τ.2)
def stA (τ : MT) (j k : Nat) (v : Int) : MT := (τ.1, fun a i => if a = j ∧ i = k then v else τ.2 a i)
theorem fsM_get (E : ME) (τ : MT) {j : Nat} (hj : j < 25) : (fsM E τ)[j]? = some (match lenM j with
  | some _ => .inr (some (E.A + rkM j))
  | none => .inl (cI (τ.1 j))) := by
  unfold fsM
  rw [List.getElem?_map, List.getElem?_range hj]
  rfl
theorem fsM_len (E : ME) (τ : MT) : (fsM E τ).length = 25 := by simp [fsM]
theorem fsM_stI (E : ME) (τ : MT) {j : Nat} {v : Int} (hj : j < 25) (hl : lenM j = none) : (fsM E τ).set j (.inl (cI v)) = fsM E (stI τ j v) := by
  apply List.ext_getElem?
  intro i
  rw [List.getElem?_set]
  by_cases hi : j = i
  · subst hi
    rw [if_pos rfl, if_pos (by rw [fsM_len]; exact hj), fsM_get _ _ hj, hl]
    simp [stI]
  · rw [if_neg hi]
    by_cases h25 : i < 25
    · rw [fsM_get _ _ h25, fsM_get _ _ h25]
      cases hli : lenM i with
      | some n => rfl
      | none => simp [stI, if_neg (Ne.symm hi)]
    · rw [List.getElem?_eq_none (by rw [fsM_len]; omega), List.getElem?_eq_none (by rw [fsM_len]; omega)]
theorem hpM_stI (E : ME) (τ : MT) {j : Nat} {v : Int} (hj : j < 25) (hl : lenM j = none) : hS (hpM E τ) E.A (.inr (.inr (3, (fsM E τ).set j (.inl (cI v))))) = hpM E (stI τ j v) := by
  rw [fsM_stI E τ hj hl]
  unfold hS hpM
  refine congrArg (fun z => (E.H.1, E.H.2.1, z)) (funext fun b => ?_)
  dsimp only
  by_cases h0 : b = E.A
  · rw [if_pos h0, if_pos (by omega), h0, Nat.sub_self]
    rfl
  · rw [if_neg h0]
    by_cases h1 : E.A ≤ b ∧ b < E.A + 14
    · rw [if_pos h1, if_pos h1]
      obtain ⟨i, hi⟩ : ∃ i, b - E.A = i + 1 := ⟨b - E.A - 1, by omega⟩
      rw [hi]
      rfl
    · rw [if_neg h1, if_neg h1]
theorem hpM_stA (E : ME) (τ : MT) {j n k : Nat} {v : Int} (hl : lenM j = some n) : hS (hpM E τ) (E.A + rkM j) (.inl (0, n, upd (fun k => cI (τ.2 j k)) k (cI v))) = hpM E (stA τ j k v) := by
  obtain ⟨i, hi, hv⟩ := ivM_rk hl
  have h13 := (rkM_iv hv).2
  unfold hS hpM
  refine congrArg (fun z => (E.H.1, E.H.2.1, z)) (funext fun b => ?_)
  dsimp only
  by_cases h0 : b = E.A + rkM j
  · rw [if_pos h0, if_pos (by omega), show b - E.A = i + 1 by omega]
    unfold ceM
    simp only [hv, hl, Option.getD_some, stA, true_and]
    refine congrArg (fun z => some (Sum.inl (0, n, z))) (funext fun i => ?_)
    unfold upd
    by_cases hi : i = k
    · simp [hi]
    · simp [hi]
  · rw [if_neg h0]
    by_cases h1 : E.A ≤ b ∧ b < E.A + 14
    · rw [if_pos h1, if_pos h1]
      rcases hb : b - E.A with _ | i2
      · rfl
      · unfold ceM
        rcases hv2 : ivM i2 with _ | j2
        · simp only [hv2]
        · have h2 := (rkM_iv hv2).1
          have hjj : j2 ≠ j := fun q => by subst q; omega
          simp only [hv2, stA, hjj, false_and, if_false]
    · rw [if_neg h1, if_neg h1]
theorem hpM_1 (E : ME) (τ : MT) : hG (hpM E τ) E.A = some (.inr (.inr (3, fsM E τ))) := by
  unfold hG hpM
  dsimp only
  rw [if_pos (by omega), Nat.sub_self]
  rfl
theorem hpM_a (E : ME) (τ : MT) {j n : Nat} (hl : lenM j = some n) : hG (hpM E τ) (E.A + rkM j) = some (.inl (0, n, fun k => cI (τ.2 j k))) := by
  obtain ⟨i, hi, hv⟩ := ivM_rk hl
  have h13 := (rkM_iv hv).2
  unfold hG hpM
  dsimp only
  rw [if_pos (by omega), show E.A + rkM j - E.A = i + 1 by omega]
  unfold ceM
  simp only [hv, hl, Option.getD_some]
/-- the model's judgement -/
def Wm (d : Nat) (M : MRec) (pc : Nat) (ls : AL) (st : List AV) (τ : MT) (Q : Option Int → MT → Prop) : Prop := ∀ E : ME, Wp E.B E.sv d M pc (cl (rfM E) ls) (cs (rfM E) st) (hpM E τ) (fun r h' => ∃ (v : Option Int) (τ' : MT), r = .inl (v.map fun e => .inl (cI e)) ∧ h' = hpM E τ' ∧ Q v τ')
abbrev enM (M : MRec) (as : List AV) : AL := as.map some ++ List.replicate (rL M - as.length) none
/-- a method's contract -/
def Mt (k : Nat) (M : MRec) (as : List AV) (τ : MT) (Q : Option Int → MT → Prop) : Prop := ∀ d, k ≤ d → Wm d M 0 (enM M as) [] τ Q
/-- a method as a function -/
abbrev Mf (k : Nat) (M : MRec) (as : List AV) (τ : MT) (v : Option Int) (τ' : MT) : Prop := Mt k M as τ (fun r t => v = r ∧ τ' = t)
section WMR
variable {d : Nat} {M : MRec} {pc : Nat} {ls : AL} {st : List AV} {τ : MT} {Q Q' : Option Int → MT → Prop} {k : Nat} {e a b : Int} {x : Nat}
theorem Wm.mono (h : Wm d M pc ls st τ Q') (w : ∀ v t, Q' v t → Q v t) : Wm d M pc ls st τ Q := fun E => Wp.mono (h E) (fun _ _ ⟨v, t, h1, h2, h3⟩ => ⟨v, t, h1, h2, w v t h3⟩)
theorem Mt.mono (h : Mt k M [] τ Q') (w : ∀ v t, Q' v t → Q v t) : Mt k M [] τ Q := fun d hd => (h d hd).mono w
theorem wm_iload (hd : decode (rC M) pc = .ok (.iload k, 2)) (hv : ls[k]? = some (some (.inl e))) (K : Wm d M (pc + 2) ls (.inl e :: st) τ Q) : Wm d M pc ls st τ Q := fun E => wp_next hd rfl (by show xIld k pc 2 _ _ _ = _; unfold xIld; rw [mLd_cl hv]; rfl) (K E)
theorem wm_iload_n {k : Fin 4} (hd : decode (rC M) pc = .ok (.iload_n k, 1)) (hv : ls[k.val]? = some (some (.inl e))) (K : Wm d M (pc + 1) ls (.inl e :: st) τ Q) : Wm d M pc ls st τ Q := fun E => wp_next hd rfl (by show xIld k.val pc 1 _ _ _ = _; unfold xIld; rw [mLd_cl hv]; rfl) (K E)
theorem wm_aload (hd : decode (rC M) pc = .ok (.aload k, 2)) (hv : ls[k]? = some (some (.inr x))) (K : Wm d M (pc + 2) ls (.inr x :: st) τ Q) : Wm d M pc ls st τ Q := fun E => wp_next hd rfl (by show xAld k pc 2 _ _ _ = _; unfold xAld; rw [mLd_cl hv]; rfl) (K E)
theorem wm_aload_n {k : Fin 4} (hd : decode (rC M) pc = .ok (.aload_n k, 1)) (hv : ls[k.val]? = some (some (.inr x))) (K : Wm d M (pc + 1) ls (.inr x :: st) τ Q) : Wm d M pc ls st τ Q := fun E => wp_next hd rfl (by show xAld k.val pc 1 _ _ _ = _; unfold xAld; rw [mLd_cl hv]; rfl) (K E)
theorem wm_istore (hd : decode (rC M) pc = .ok (.istore k, 2)) (hk : (ls[k]?).isSome = true) (K : Wm d M (pc + 2) (ls.set k (some (.inl e))) st τ Q) : Wm d M pc ls (.inl e :: st) τ Q := by
  intro E
  have K := K E
  rw [← cl_set] at K
  exact wp_next hd rfl (by show xIst k pc 2 _ (.inl (cI e) :: _) _ = _; unfold xIst; dsimp only; rw [if_pos (cl_len hk)]; rfl) K
theorem wm_istore_n {k : Fin 4} (hd : decode (rC M) pc = .ok (.istore_n k, 1)) (hk : (ls[k.val]?).isSome = true) (K : Wm d M (pc + 1) (ls.set k.val (some (.inl e))) st τ Q) : Wm d M pc ls (.inl e :: st) τ Q := by
  intro E
  have K := K E
  rw [← cl_set] at K
  exact wp_next hd rfl (by show xIst k.val pc 1 _ (.inl (cI e) :: _) _ = _; unfold xIst; dsimp only; rw [if_pos (cl_len hk)]; rfl) K
theorem wm_iinc {n : Int} (hd : decode (rC M) pc = .ok (.iinc k n, 3)) (hv : ls[k]? = some (some (.inl e))) (K : Wm d M (pc + 3) (ls.set k (some (.inl (e + n)))) st τ Q) : Wm d M pc ls st τ Q := by
  intro E
  have K := K E
  rw [← cl_set] at K
  exact wp_next hd rfl (by show xInc k n pc _ _ _ = _; unfold xInc; rw [mLd_cl hv]; dsimp only [cv]; rw [show cI e + Int32.ofInt n = cI (e + n) from cI_add e n]; rfl) K
theorem wm_iconst {n : Int} (hd : decode (rC M) pc = .ok (.iconst n, 1)) (K : Wm d M (pc + 1) ls (.inl n :: st) τ Q) : Wm d M pc ls st τ Q := fun E => wp_next hd rfl rfl (K E)
theorem wm_bipush {n : Int} (hd : decode (rC M) pc = .ok (.bipush n, 2)) (hn : (Int8.ofInt n).toInt32 = Int32.ofInt n) (K : Wm d M (pc + 2) ls (.inl n :: st) τ Q) : Wm d M pc ls st τ Q := fun E => wp_next hd rfl (by show mNx _ _ (.inl (Int8.ofInt n).toInt32 :: _) _ = _; rw [hn]; rfl) (K E)
theorem wm_sipush {n : Int} (hd : decode (rC M) pc = .ok (.sipush n, 3)) (hn : (Int16.ofInt n).toInt32 = Int32.ofInt n) (K : Wm d M (pc + 3) ls (.inl n :: st) τ Q) : Wm d M pc ls st τ Q := fun E => wp_next hd rfl (by show mNx _ _ (.inl (Int16.ofInt n).toInt32 :: _) _ = _; rw [hn]; rfl) (K E)
theorem wm_iadd (hd : decode (rC M) pc = .ok (.iadd, 1)) (K : Wm d M (pc + 1) ls (.inl (a + b) :: st) τ Q) : Wm d M pc ls (.inl b :: .inl a :: st) τ Q := fun E => wp_next hd rfl (by show mNx _ _ (.inl (cI a + cI b) :: _) _ = _; rw [cI_add]; rfl) (K E)
theorem wm_isub (hd : decode (rC M) pc = .ok (.isub, 1)) (K : Wm d M (pc + 1) ls (.inl (a - b) :: st) τ Q) : Wm d M pc ls (.inl b :: .inl a :: st) τ Q := fun E => wp_next hd rfl (by show mNx _ _ (.inl (cI a - cI b) :: _) _ = _; rw [cI_sub]; rfl) (K E)
theorem wm_imul (hd : decode (rC M) pc = .ok (.imul, 1)) (K : Wm d M (pc + 1) ls (.inl (a * b) :: st) τ Q) : Wm d M pc ls (.inl b :: .inl a :: st) τ Q := fun E => wp_next hd rfl (by show mNx _ _ (.inl (cI a * cI b) :: _) _ = _; rw [cI_mul]; rfl) (K E)
theorem wm_ineg (hd : decode (rC M) pc = .ok (.ineg, 1)) (K : Wm d M (pc + 1) ls (.inl (-a) :: st) τ Q) : Wm d M pc ls (.inl a :: st) τ Q := fun E => wp_next hd rfl (by show mNx _ _ (.inl (- cI a) :: _) _ = _; rw [cI_neg]; rfl) (K E)
theorem cI_div {a b : Int} (ha : 0 ≤ a) (ha2 : a < 2147483648) (hb : 0 < b) (hb2 : b < 2147483648) : cI a / cI b = cI (a / b) := by
  have h := Int.ediv_le_self b ha
  have h0 := Int.ediv_nonneg ha (Int.le_of_lt hb)
  rw [← Int32.toInt_inj, Int32.toInt_div_of_ne_left, cI_toInt ⟨by omega, ha2⟩, cI_toInt ⟨by omega, hb2⟩, cI_toInt ⟨by omega, by omega⟩, Int.tdiv_eq_ediv_of_nonneg ha]
  intro h9
  have := congrArg Int32.toInt h9
  rw [cI_toInt ⟨by omega, ha2⟩] at this
  have hm : (Int32.minValue).toInt = -2147483648 := by decide
  omega
theorem cI_ne0 {b : Int} (hb : 0 < b) (hb2 : b < 2147483648) : ¬ cI b = 0 := by
  intro h
  have := congrArg Int32.toInt h
  rw [cI_toInt ⟨by omega, hb2⟩] at this
  have h0 : (0 : Int32).toInt = 0 := by decide
  omega
theorem wm_idiv (hd : decode (rC M) pc = .ok (.idiv, 1)) (ha : 0 ≤ a ∧ a < 2147483648) (hb : 0 < b ∧ b < 2147483648) (K : Wm d M (pc + 1) ls (.inl (a / b) :: st) τ Q) : Wm d M pc ls (.inl b :: .inl a :: st) τ Q := fun E => wp_next hd rfl (by show x2z (fun x y => x / y) _ _ (.inl (cI b) :: .inl (cI a) :: _) _ = _; unfold x2z; dsimp only; rw [if_neg (cI_ne0 hb.1 hb.2), cI_div ha.1 ha.2 hb.1 hb.2]; rfl) (K E)
theorem wm_irem (hd : decode (rC M) pc = .ok (.irem, 1)) (ha : 0 ≤ a ∧ a < 2147483648) (hb : 0 < b ∧ b < 2147483648) (K : Wm d M (pc + 1) ls (.inl (a % b) :: st) τ Q) : Wm d M pc ls (.inl b :: .inl a :: st) τ Q := fun E => wp_next hd rfl (by show x2z (fun x y => x - x / y * y) _ _ (.inl (cI b) :: .inl (cI a) :: _) _ = _; unfold x2z; dsimp only; rw [if_neg (cI_ne0 hb.1 hb.2), cI_div ha.1 ha.2 hb.1 hb.2, cI_mul, cI_sub, show a - a / b * b = a % b by rw [Int.emod_def, Int.mul_comm]]; rfl) (K E)
/-- bit operations, raw -/
theorem wm_bits {i : Instr} {f : Int32 → Int32 → Int32} (hd : decode (rC M) pc = .ok (i, 1)) (hl : mLen i 1 = true) (hf : ∀ l s (h : MH × Nat × (Nat → Option Nat)), ex h.2.1 h.2.2 M pc l s h.1 i = x2 f pc l s h.1) (K : Wm d M (pc + 1) ls (.inl (f (cI a) (cI b)).toInt :: st) τ Q) : Wm d M pc ls (.inl b :: .inl a :: st) τ Q := by
  intro E
  have e : cs (rfM E) (.inl (f (cI a) (cI b)).toInt :: st) = .inl (f (cI a) (cI b)) :: cs (rfM E) st := by
    show (.inl (cI (f (cI a) (cI b)).toInt) : MV) :: cs (rfM E) st = _
    rw [toInt_cI]
  have K := K E
  rw [e] at K
  exact wp_next hd hl (by rw [hf _ _ (_, _, _)]; rfl) K
theorem wm_goto {off : Int} (hd : decode (rC M) pc = .ok (.goto off, 3)) (t : Nat) (ht : (pc : Int) + off = (t : Int)) (K : Wm d M t ls st τ Q) : Wm d M pc ls st τ Q := fun E => wp_next hd rfl (by show mGo _ _ _ _ _ = _; unfold mGo; rw [ht, if_pos (Int.natCast_nonneg t)]; rfl) (K E)
theorem wm_dup {v : AV} (hd : decode (rC M) pc = .ok (.dup, 1)) (K : Wm d M (pc + 1) ls (v :: v :: st) τ Q) : Wm d M pc ls (v :: st) τ Q := fun E => wp_next hd rfl rfl (K E)
theorem wm_dup2 {v w : AV} (hd : decode (rC M) pc = .ok (.dup2, 1)) (K : Wm d M (pc + 1) ls (v :: w :: v :: w :: st) τ Q) : Wm d M pc ls (v :: w :: st) τ Q := fun E => wp_next hd rfl rfl (K E)
theorem wm_dup_x1 {v w : AV} (hd : decode (rC M) pc = .ok (.dup_x1, 1)) (K : Wm d M (pc + 1) ls (v :: w :: v :: st) τ Q) : Wm d M pc ls (v :: w :: st) τ Q := fun E => wp_next hd rfl rfl (K E)
theorem wm_pop {v : AV} (hd : decode (rC M) pc = .ok (.pop, 1)) (K : Wm d M (pc + 1) ls st τ Q) : Wm d M pc ls (v :: st) τ Q := fun E => wp_next hd rfl rfl (K E)
theorem wm_icmp {c : ClassFile.Cond} {off : Int} {P : Prop} (hd : decode (rC M) pc = .ok (.if_icmp c off, 3)) (hP : cB c (cI a) (cI b) = true ↔ P) (t : Nat) (ht : (pc : Int) + off = (t : Int)) (K1 : P → Wm d M t ls st τ Q) (K2 : ¬ P → Wm d M (pc + 3) ls st τ Q) : Wm d M pc ls (.inl b :: .inl a :: st) τ Q := by
  by_cases h : P
  · exact fun E => wp_next hd rfl (by show xIcmp c off pc _ (.inl (cI b) :: .inl (cI a) :: _) _ = _; unfold xIcmp; dsimp only; rw [ht, if_pos (Int.natCast_nonneg t), if_pos (hP.mpr h)]; rfl) (K1 h E)
  · exact fun E => wp_next hd rfl (by show xIcmp c off pc _ (.inl (cI b) :: .inl (cI a) :: _) _ = _; unfold xIcmp; dsimp only; rw [ht, if_pos (Int.natCast_nonneg t), if_neg (fun q => h (hP.mp q))]; rfl) (K2 h E)
theorem wm_if {c : ClassFile.Cond} {off : Int} {P : Prop} (hd : decode (rC M) pc = .ok (.ifCond c off, 3)) (hP : cB c (cI a) (cI 0) = true ↔ P) (t : Nat) (ht : (pc : Int) + off = (t : Int)) (K1 : P → Wm d M t ls st τ Q) (K2 : ¬ P → Wm d M (pc + 3) ls st τ Q) : Wm d M pc ls (.inl a :: st) τ Q := by
  have h0 : cI 0 = 0 := by decide
  rw [h0] at hP
  by_cases h : P
  · exact fun E => wp_next hd rfl (by show xIf c off pc _ (.inl (cI a) :: _) _ = _; unfold xIf; dsimp only; rw [ht, if_pos (Int.natCast_nonneg t), if_pos (hP.mpr h)]; rfl) (K1 h E)
  · exact fun E => wp_next hd rfl (by show xIf c off pc _ (.inl (cI a) :: _) _ = _; unfold xIf; dsimp only; rw [ht, if_pos (Int.natCast_nonneg t), if_neg (fun q => h (hP.mp q))]; rfl) (K2 h E)
theorem cB_eq (ha : rng a) (hb : rng b) : cB .eq (cI a) (cI b) = true ↔ a = b := by unfold cB; rw [decide_eq_true_iff]; exact cI_eq ha hb
theorem cB_ne (ha : rng a) (hb : rng b) : cB .ne (cI a) (cI b) = true ↔ a ≠ b := by unfold cB; rw [decide_eq_true_iff, cI_eq ha hb]
theorem cB_lt (ha : rng a) (hb : rng b) : cB .lt (cI a) (cI b) = true ↔ a < b := by unfold cB; rw [decide_eq_true_iff]; exact cI_lt ha hb
theorem cB_ge (ha : rng a) (hb : rng b) : cB .ge (cI a) (cI b) = true ↔ b ≤ a := by unfold cB; rw [decide_eq_true_iff]; exact cI_le hb ha
theorem cB_gt (ha : rng a) (hb : rng b) : cB .gt (cI a) (cI b) = true ↔ b < a := by unfold cB; rw [decide_eq_true_iff]; exact cI_lt hb ha
theorem cB_le (ha : rng a) (hb : rng b) : cB .le (cI a) (cI b) = true ↔ a ≤ b := by unfold cB; rw [decide_eq_true_iff]; exact cI_le ha hb
theorem wm_getA {i j n : Nat} {ty : FieldType} {fin : Bool} (hd : decode (rC M) pc = .ok (.getfield i, 3)) (hf : mLk tF M i = some (3, j, ty, fin)) (hl : lenM j = some n) (K : Wm d M (pc + 3) ls (.inr (j + 2) :: st) τ Q) : Wm d M pc ls (.inr 1 :: st) τ Q := fun E => wp_next hd rfl (by show xGetf (mLk tF M i) pc _ (.inr (some E.A) :: _) _ = _; unfold xGetf; rw [hf]; dsimp only; rw [hpM_1]; dsimp only; rw [if_pos rfl, fsM_get _ _ (lenM_lt hl), hl]; rfl) (K E)
theorem wm_getI {i j : Nat} {ty : FieldType} {fin : Bool} (hd : decode (rC M) pc = .ok (.getfield i, 3)) (hf : mLk tF M i = some (3, j, ty, fin)) (hl : lenM j = none) (hj : (decide (j < 25)) = true) (K : Wm d M (pc + 3) ls (.inl (τ.1 j) :: st) τ Q) : Wm d M pc ls (.inr 1 :: st) τ Q := fun E => wp_next hd rfl (by show xGetf (mLk tF M i) pc _ (.inr (some E.A) :: _) _ = _; unfold xGetf; rw [hf]; dsimp only; rw [hpM_1]; dsimp only; rw [if_pos rfl, fsM_get _ _ (of_decide_eq_true hj), hl]; rfl) (K E)
theorem wm_putI {i j : Nat} {ty : FieldType} (hd : decode (rC M) pc = .ok (.putfield i, 3)) (hf : mLk tF M i = some (3, j, ty, false)) (hl : lenM j = none) (hj : (decide (j < 25)) = true) (hty : ty = .int ∨ ty = .boolean ∧ (e = 0 ∨ e = 1)) (K : Wm d M (pc + 3) ls st (stI τ j e) Q) : Wm d M pc ls (.inl e :: .inr 1 :: st) τ Q := by
  have ht : mTyp ty (.inl (cI e)) = true := by
    rcases hty with rfl | ⟨rfl, rfl | rfl⟩ <;> rfl
  intro E
  refine wp_next hd rfl (st' := cs (rfM E) st) (h' := hpM E (stI τ j e)) ?_ (K E)
  show xPutf E.B (rP M) (mLk tF M i) _ pc _ (.inl (cI e) :: .inr (some E.A) :: _) _ = _
  unfold xPutf
  rw [hf]
  dsimp only
  rw [if_pos ⟨E.hB, (fun h => nomatch h), ht⟩, hpM_1]
  dsimp only
  rw [if_pos ⟨rfl, by rw [fsM_len]; exact of_decide_eq_true hj⟩, hpM_stI E τ (of_decide_eq_true hj) hl]
  rfl
theorem wm_iaload {j n : Nat} (hd : decode (rC M) pc = .ok (.iaload, 1)) (hl : lenM j = some n) (h0 : 0 ≤ a ∧ a < (n : Int)) (i : Nat) (hi : a.toNat = i) (K : Wm d M (pc + 1) ls (.inl (τ.2 j i) :: st) τ Q) : Wm d M pc ls (.inl a :: .inr (j + 2) :: st) τ Q := by
  subst hi
  intro E
  refine wp_next hd rfl (st' := cs (rfM E) (.inl (τ.2 j a.toNat) :: st)) ?_ (K E)
  show xArrI _ pc _ (.inl (cI a) :: .inr (some (E.A + rkM j)) :: _) _ = _
  unfold xArrI
  dsimp only
  rw [hpM_a E τ hl]
  dsimp only
  rw [if_pos (show (0 == 0 || 0 == 3) = true from rfl), if_neg (cI_in h0.1 h0.2 (lenM_le hl)), cI_idx h0.1 (by have := lenM_le hl; omega)]
  rfl
theorem wm_iastore {j n : Nat} (hd : decode (rC M) pc = .ok (.iastore, 1)) (hl : lenM j = some n) (h0 : 0 ≤ a ∧ a < (n : Int)) (i : Nat) (hi : a.toNat = i) (K : Wm d M (pc + 1) ls st (stA τ j i e) Q) : Wm d M pc ls (.inl e :: .inl a :: .inr (j + 2) :: st) τ Q := by
  subst hi
  intro E
  refine wp_next hd rfl (st' := cs (rfM E) st) (h' := hpM E (stA τ j a.toNat e)) ?_ (K E)
  show xIastore E.B pc _ (.inl (cI e) :: .inl (cI a) :: .inr (some (E.A + rkM j)) :: _) _ = _
  unfold xIastore
  dsimp only
  rw [if_pos (show E.B ≤ E.A + rkM j by have := E.hB; omega), hpM_a E τ hl]
  show (if mOut (cI a) n then none else mNx (pc + 1) (cl (rfM E) ls) (cs (rfM E) st) (hS (hpM E τ) (E.A + rkM j) (.inl (0, n, upd (fun k => cI (τ.2 j k)) (cI a).toNatClampNeg (cI e))))) = _
  rw [if_neg (cI_in h0.1 h0.2 (lenM_le hl)), cI_idx h0.1 (by have := lenM_le hl; omega), hpM_stA E τ hl]
  rfl
theorem cl_en (rf : Nat → Option Nat) (M : MRec) (as : List AV) : cl rf (enM M as) = mEntry M (cs rf as) := by
  unfold cl enM mEntry cs
  rw [List.map_append, List.map_map, List.map_map, List.map_replicate, List.length_map]
  rfl
/-- a call of one of the model's methods -/
theorem wm_callv {i : Nat} {M' : MRec} {n : Nat} {as : List AV} {st0 : List AV} (hd : decode (rC M) pc = .ok (.invokevirtual i, 3)) (hq : mLk tV M i = some (M', n, 3)) (hp : decide (rP M = 25) = false) (hc : Mt k M' (.inr 1 :: as) τ Q') (hk : k < d) (hst : st0 = as.reverse ++ .inr 1 :: st) (hn : (as.length == n && decide (st.length ≤ 8)) = true)
    (K : ∀ v t, Q' v t → Wm d M (pc + 3) ls (v.toList.map .inl ++ st) t Q) : Wm d M pc ls st0 τ Q := by
  subst hst
  intro E
  obtain ⟨h1, h2⟩ := (Bool.and_eq_true _ _).mp hn |>.imp (fun h => eq_of_beq h) (fun h => of_decide_eq_true h)
  subst h1
  have hlen : (cs (rfM E) (as.reverse ++ .inr 1 :: st)).length = as.length + (st.length + 1) := by simp [cs]
  have hdr : (cs (rfM E) (as.reverse ++ .inr 1 :: st)).drop as.length = .inr (some E.A) :: cs (rfM E) st := by
    unfold cs
    rw [List.map_append, List.drop_left' (by simp)]
    rfl
  have htk : ((cs (rfM E) (as.reverse ++ .inr 1 :: st)).take as.length).reverse = cs (rfM E) as := by
    unfold cs
    rw [List.map_append, List.take_left' (by simp), List.map_reverse, List.reverse_reverse]
  refine wp_call (M' := M') (as := cs (rfM E) (.inr 1 :: as)) (r := cs (rfM E) st) (pc' := pc + 3) (h' := hpM E τ) (Q1 := fun r h' => ∃ (v : Option Int) (τ' : MT), r = .inl (v.map fun e => .inl (cI e)) ∧ h' = hpM E τ' ∧ Q' v τ') hd rfl ?_ hk (d0 := k) ?_ (fun v h2 ⟨w, t, e1, e2, q⟩ => ?_) (fun q h2 ⟨w, t, e1, e2, q⟩ => by cases e1)
  · show (if rP M = 25 ∧ i = 86 then _ else _) = _
    rw [if_neg (fun h => absurd h.1 (of_decide_eq_false hp)), hq]
    unfold xCallV
    dsimp only
    rw [if_pos ⟨by rw [hlen]; omega, by rw [hdr]; simp [cs]; omega⟩, hdr]
    dsimp only
    rw [hpM_1]
    dsimp only
    rw [if_pos rfl, htk]
    rfl
  · have h9 := hc k (Nat.le_refl _) E
    rw [cl_en] at h9
    exact h9
  · have ev : v = w.map fun e => .inl (cI e) := by cases e1; rfl
    subst ev e2
    have h9 := K w t q E
    rw [show (cs (rfM E) (w.toList.map .inl ++ st)) = (w.map fun e => (.inl (cI e) : MV)).toList ++ cs (rfM E) st by cases w <;> rfl] at h9
    exact h9
theorem wm_calls {i : Nat} {M' : MRec} {n : Nat} {as : List AV} {st0 : List AV} (hd : decode (rC M) pc = .ok (.invokestatic i, 3)) (hq : mLk tSt M i = some (M', n)) (hp : ((mLk tCopy M i).isSome || (mLk tMath M i).isSome) = false) (hc : Mt k M' as τ Q') (hk : k < d) (hst : st0 = as.reverse ++ st) (hn : (as.length == n && decide (st.length ≤ 8)) = true)
    (K : ∀ v t, Q' v t → Wm d M (pc + 3) ls (v.toList.map .inl ++ st) t Q) : Wm d M pc ls st0 τ Q := by
  subst hst
  intro E
  obtain ⟨h1, h2⟩ := (Bool.and_eq_true _ _).mp hn |>.imp (fun h => eq_of_beq h) (fun h => of_decide_eq_true h)
  subst h1
  have hlen : (cs (rfM E) (as.reverse ++ st)).length = as.length + st.length := by simp [cs]
  have hdr : (cs (rfM E) (as.reverse ++ st)).drop as.length = cs (rfM E) st := by
    unfold cs
    rw [List.map_append, List.drop_left' (by simp)]
  have htk : ((cs (rfM E) (as.reverse ++ st)).take as.length).reverse = cs (rfM E) as := by
    unfold cs
    rw [List.map_append, List.take_left' (by simp), List.map_reverse, List.reverse_reverse]
  refine wp_call (M' := M') (as := cs (rfM E) as) (r := cs (rfM E) st) (pc' := pc + 3) (h' := hpM E τ) (Q1 := fun r h' => ∃ (v : Option Int) (τ' : MT), r = .inl (v.map fun e => .inl (cI e)) ∧ h' = hpM E τ' ∧ Q' v τ') hd rfl ?_ hk (d0 := k) ?_ (fun v h2 ⟨w, t, e1, e2, q⟩ => ?_) (fun q h2 ⟨w, t, e1, e2, q⟩ => by cases e1)
  · show (if (mLk tCopy M i).isSome = true then _ else match mLk tMath M i with | some b => _ | none => _) = _
    rcases hc1 : mLk tCopy M i with _ | c1
    · rcases hc2 : mLk tMath M i with _ | c2
      · dsimp only
        rw [hq]
        unfold xCallS
        dsimp only
        rw [if_neg (by simp), if_pos ⟨by rw [hlen]; omega, by rw [hdr]; simp [cs]; omega⟩, hdr, htk]
      · rw [hc1, hc2] at hp; cases hp
    · rw [hc1] at hp; cases hp
  · have h9 := hc k (Nat.le_refl _) E
    rw [cl_en] at h9
    exact h9
  · have ev : v = w.map fun e => .inl (cI e) := by cases e1; rfl
    subst ev e2
    have h9 := K w t q E
    rw [show (cs (rfM E) (w.toList.map .inl ++ st)) = (w.map fun e => (.inl (cI e) : MV)).toList ++ cs (rfM E) st by cases w <;> rfl] at h9
    exact h9
theorem wm_ireturn (hd : decode (rC M) pc = .ok (.ireturn, 1)) (hr : rR M = some .int) (K : Q (some e) τ) : Wm d M pc ls [.inl e] τ Q := fun E => wp_ret hd rfl (v := some (.inl (cI e))) (h' := hpM E τ) (by show xRet (rR M) [.inl (cI e)] _ = _; rw [hr]; rfl) ⟨some e, τ, rfl, rfl, K⟩
theorem wm_breturn (hd : decode (rC M) pc = .ok (.ireturn, 1)) (hr : rR M = some .boolean) (hb : e = 0 ∨ e = 1) (K : Q (some e) τ) : Wm d M pc ls [.inl e] τ Q := fun E => wp_ret hd rfl (v := some (.inl (cI e))) (h' := hpM E τ) (by show xRet (rR M) [.inl (cI e)] _ = _; rw [hr]; unfold xRet; dsimp only; rw [if_pos (by rcases hb with rfl | rfl <;> decide)]) ⟨some e, τ, rfl, rfl, K⟩
theorem wm_vreturn (hd : decode (rC M) pc = .ok (.return_, 1)) (hr : rR M = none) (K : Q none τ) : Wm d M pc ls [] τ Q := fun E => wp_ret hd rfl (v := none) (h' := hpM E τ) (by show xVret (rR M) [] _ = _; rw [hr]; rfl) ⟨none, τ, rfl, rfl, K⟩
end WMR
