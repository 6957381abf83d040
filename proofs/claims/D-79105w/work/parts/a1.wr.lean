/-! THE CLASS'S JUDGEMENT, 2: rules -/
set_option maxRecDepth 100000
section WCR
variable {T : Nat → Option CK} {d : Nat} {M : MRec} {pc : Nat} {ls : AL} {st : List AV} {τ : CT} {Q Q' : CO → CT → Prop} {k : Nat} {e a b s : Int} {x y : Nat}
theorem wc_iload (hd : decode (rC M) pc = .ok (.iload k, 2)) (hv : ls[k]? = some (some (.inl e))) (K : Wc T d M (pc + 2) ls (.inl e :: st) τ Q) : Wc T d M pc ls st τ Q := fun E h R => wp_next hd rfl (by show xIld k pc 2 _ _ _ = _; unfold xIld; rw [mLd_cl hv]; rfl) (K E h R)
theorem wc_iload_n {k : Fin 4} (hd : decode (rC M) pc = .ok (.iload_n k, 1)) (hv : ls[k.val]? = some (some (.inl e))) (K : Wc T d M (pc + 1) ls (.inl e :: st) τ Q) : Wc T d M pc ls st τ Q := fun E h R => wp_next hd rfl (by show xIld k.val pc 1 _ _ _ = _; unfold xIld; rw [mLd_cl hv]; rfl) (K E h R)
theorem wc_aload (hd : decode (rC M) pc = .ok (.aload k, 2)) (hv : ls[k]? = some (some (.inr x))) (K : Wc T d M (pc + 2) ls (.inr x :: st) τ Q) : Wc T d M pc ls st τ Q := fun E h R => wp_next hd rfl (by show xAld k pc 2 _ _ _ = _; unfold xAld; rw [mLd_cl hv]; rfl) (K E h R)
theorem wc_aload_n {k : Fin 4} (hd : decode (rC M) pc = .ok (.aload_n k, 1)) (hv : ls[k.val]? = some (some (.inr x))) (K : Wc T d M (pc + 1) ls (.inr x :: st) τ Q) : Wc T d M pc ls st τ Q := fun E h R => wp_next hd rfl (by show xAld k.val pc 1 _ _ _ = _; unfold xAld; rw [mLd_cl hv]; rfl) (K E h R)
theorem wc_istore (hd : decode (rC M) pc = .ok (.istore k, 2)) (hk : (ls[k]?).isSome = true) (K : Wc T d M (pc + 2) (ls.set k (some (.inl e))) st τ Q) : Wc T d M pc ls (.inl e :: st) τ Q := by
  intro E h R
  have K := K E h R
  rw [← cl_set] at K
  exact wp_next hd rfl (by show xIst k pc 2 _ (.inl (cI e) :: _) _ = _; unfold xIst; dsimp only; rw [if_pos (cl_len hk)]; rfl) K
theorem wc_istore_n {k : Fin 4} (hd : decode (rC M) pc = .ok (.istore_n k, 1)) (hk : (ls[k.val]?).isSome = true) (K : Wc T d M (pc + 1) (ls.set k.val (some (.inl e))) st τ Q) : Wc T d M pc ls (.inl e :: st) τ Q := by
  intro E h R
  have K := K E h R
  rw [← cl_set] at K
  exact wp_next hd rfl (by show xIst k.val pc 1 _ (.inl (cI e) :: _) _ = _; unfold xIst; dsimp only; rw [if_pos (cl_len hk)]; rfl) K
theorem wc_iinc {n : Int} (hd : decode (rC M) pc = .ok (.iinc k n, 3)) (hv : ls[k]? = some (some (.inl e))) (K : Wc T d M (pc + 3) (ls.set k (some (.inl (e + n)))) st τ Q) : Wc T d M pc ls st τ Q := by
  intro E h R
  have K := K E h R
  rw [← cl_set] at K
  exact wp_next hd rfl (by show xInc k n pc _ _ _ = _; unfold xInc; rw [mLd_cl hv]; dsimp only [cv]; rw [show cI e + Int32.ofInt n = cI (e + n) from cI_add e n]; rfl) K
theorem wc_iconst {n : Int} (hd : decode (rC M) pc = .ok (.iconst n, 1)) (K : Wc T d M (pc + 1) ls (.inl n :: st) τ Q) : Wc T d M pc ls st τ Q := fun E h R => wp_next hd rfl rfl (K E h R)
theorem wc_bipush {n : Int} (hd : decode (rC M) pc = .ok (.bipush n, 2)) (hn : (Int8.ofInt n).toInt32 = Int32.ofInt n) (K : Wc T d M (pc + 2) ls (.inl n :: st) τ Q) : Wc T d M pc ls st τ Q := fun E h R => wp_next hd rfl (by show mNx _ _ (.inl (Int8.ofInt n).toInt32 :: _) _ = _; rw [hn]; rfl) (K E h R)
theorem wc_sipush {n : Int} (hd : decode (rC M) pc = .ok (.sipush n, 3)) (hn : (Int16.ofInt n).toInt32 = Int32.ofInt n) (K : Wc T d M (pc + 3) ls (.inl n :: st) τ Q) : Wc T d M pc ls st τ Q := fun E h R => wp_next hd rfl (by show mNx _ _ (.inl (Int16.ofInt n).toInt32 :: _) _ = _; rw [hn]; rfl) (K E h R)
theorem wc_iadd (hd : decode (rC M) pc = .ok (.iadd, 1)) (K : Wc T d M (pc + 1) ls (.inl (a + b) :: st) τ Q) : Wc T d M pc ls (.inl b :: .inl a :: st) τ Q := fun E h R => wp_next hd rfl (by show mNx _ _ (.inl (cI a + cI b) :: _) _ = _; rw [cI_add]; rfl) (K E h R)
theorem wc_isub (hd : decode (rC M) pc = .ok (.isub, 1)) (K : Wc T d M (pc + 1) ls (.inl (a - b) :: st) τ Q) : Wc T d M pc ls (.inl b :: .inl a :: st) τ Q := fun E h R => wp_next hd rfl (by show mNx _ _ (.inl (cI a - cI b) :: _) _ = _; rw [cI_sub]; rfl) (K E h R)
theorem wc_imul (hd : decode (rC M) pc = .ok (.imul, 1)) (K : Wc T d M (pc + 1) ls (.inl (a * b) :: st) τ Q) : Wc T d M pc ls (.inl b :: .inl a :: st) τ Q := fun E h R => wp_next hd rfl (by show mNx _ _ (.inl (cI a * cI b) :: _) _ = _; rw [cI_mul]; rfl) (K E h R)
theorem wc_ineg (hd : decode (rC M) pc = .ok (.ineg, 1)) (K : Wc T d M (pc + 1) ls (.inl (-a) :: st) τ Q) : Wc T d M pc ls (.inl a :: st) τ Q := fun E h R => wp_next hd rfl (by show mNx _ _ (.inl (- cI a) :: _) _ = _; rw [cI_neg]; rfl) (K E h R)
theorem wc_idiv (hd : decode (rC M) pc = .ok (.idiv, 1)) (ha : 0 ≤ a ∧ a < 2147483648) (hb : 0 < b ∧ b < 2147483648) (K : Wc T d M (pc + 1) ls (.inl (a / b) :: st) τ Q) : Wc T d M pc ls (.inl b :: .inl a :: st) τ Q := fun E h R => wp_next hd rfl (by show x2z (fun x y => x / y) _ _ (.inl (cI b) :: .inl (cI a) :: _) _ = _; unfold x2z; dsimp only; rw [if_neg (cI_ne0 hb.1 hb.2), cI_div ha.1 ha.2 hb.1 hb.2]; rfl) (K E h R)
theorem wc_irem (hd : decode (rC M) pc = .ok (.irem, 1)) (ha : 0 ≤ a ∧ a < 2147483648) (hb : 0 < b ∧ b < 2147483648) (K : Wc T d M (pc + 1) ls (.inl (a % b) :: st) τ Q) : Wc T d M pc ls (.inl b :: .inl a :: st) τ Q := fun E h R => wp_next hd rfl (by show x2z (fun x y => x - x / y * y) _ _ (.inl (cI b) :: .inl (cI a) :: _) _ = _; unfold x2z; dsimp only; rw [if_neg (cI_ne0 hb.1 hb.2), cI_div ha.1 ha.2 hb.1 hb.2, cI_mul, cI_sub, show a - a / b * b = a % b by rw [Int.emod_def, Int.mul_comm]]; rfl) (K E h R)
theorem wc_bits {i : Instr} {f : Int32 → Int32 → Int32} (hd : decode (rC M) pc = .ok (i, 1)) (hl : mLen i 1 = true) (hf : ∀ l s (h : MH × Nat × (Nat → Option Nat)), ex h.2.1 h.2.2 M pc l s h.1 i = x2 f pc l s h.1) (K : Wc T d M (pc + 1) ls (.inl (f (cI a) (cI b)).toInt :: st) τ Q) : Wc T d M pc ls (.inl b :: .inl a :: st) τ Q := by
  intro E h R
  have e : cs (E.rf) (.inl (f (cI a) (cI b)).toInt :: st) = .inl (f (cI a) (cI b)) :: cs (E.rf) st := by
    show (.inl (cI (f (cI a) (cI b)).toInt) : MV) :: cs (E.rf) st = _
    rw [toInt_cI]
  have K := K E h R
  rw [e] at K
  exact wp_next hd hl (by rw [hf _ _ (_, _, _)]; rfl) K
theorem wc_goto {off : Int} (hd : decode (rC M) pc = .ok (.goto off, 3)) (t : Nat) (ht : (pc : Int) + off = (t : Int)) (K : Wc T d M t ls st τ Q) : Wc T d M pc ls st τ Q := fun E h R => wp_next hd rfl (by show mGo _ _ _ _ _ = _; unfold mGo; rw [ht, if_pos (Int.natCast_nonneg t)]; rfl) (K E h R)
theorem wc_dup {v : AV} (hd : decode (rC M) pc = .ok (.dup, 1)) (K : Wc T d M (pc + 1) ls (v :: v :: st) τ Q) : Wc T d M pc ls (v :: st) τ Q := fun E h R => wp_next hd rfl rfl (K E h R)
theorem wc_dup2 {v w : AV} (hd : decode (rC M) pc = .ok (.dup2, 1)) (K : Wc T d M (pc + 1) ls (v :: w :: v :: w :: st) τ Q) : Wc T d M pc ls (v :: w :: st) τ Q := fun E h R => wp_next hd rfl rfl (K E h R)
theorem wc_dup_x1 {v w : AV} (hd : decode (rC M) pc = .ok (.dup_x1, 1)) (K : Wc T d M (pc + 1) ls (v :: w :: v :: st) τ Q) : Wc T d M pc ls (v :: w :: st) τ Q := fun E h R => wp_next hd rfl rfl (K E h R)
theorem wc_pop {v : AV} (hd : decode (rC M) pc = .ok (.pop, 1)) (K : Wc T d M (pc + 1) ls st τ Q) : Wc T d M pc ls (v :: st) τ Q := fun E h R => wp_next hd rfl rfl (K E h R)
theorem wc_icmp {c : ClassFile.Cond} {off : Int} {P : Prop} (hd : decode (rC M) pc = .ok (.if_icmp c off, 3)) (hP : cB c (cI a) (cI b) = true ↔ P) (t : Nat) (ht : (pc : Int) + off = (t : Int)) (K1 : P → Wc T d M t ls st τ Q) (K2 : ¬ P → Wc T d M (pc + 3) ls st τ Q) : Wc T d M pc ls (.inl b :: .inl a :: st) τ Q := by
  by_cases hp : P
  · exact fun E h R => wp_next hd rfl (by show xIcmp c off pc _ (.inl (cI b) :: .inl (cI a) :: _) _ = _; unfold xIcmp; dsimp only; rw [ht, if_pos (Int.natCast_nonneg t), if_pos (hP.mpr hp)]; rfl) (K1 hp E h R)
  · exact fun E h R => wp_next hd rfl (by show xIcmp c off pc _ (.inl (cI b) :: .inl (cI a) :: _) _ = _; unfold xIcmp; dsimp only; rw [ht, if_pos (Int.natCast_nonneg t), if_neg (fun q => hp (hP.mp q))]; rfl) (K2 hp E h R)
theorem wc_if {c : ClassFile.Cond} {off : Int} {P : Prop} (hd : decode (rC M) pc = .ok (.ifCond c off, 3)) (hP : cB c (cI a) (cI 0) = true ↔ P) (t : Nat) (ht : (pc : Int) + off = (t : Int)) (K1 : P → Wc T d M t ls st τ Q) (K2 : ¬ P → Wc T d M (pc + 3) ls st τ Q) : Wc T d M pc ls (.inl a :: st) τ Q := by
  have h0 : cI 0 = 0 := by decide
  rw [h0] at hP
  by_cases hp : P
  · exact fun E h R => wp_next hd rfl (by show xIf c off pc _ (.inl (cI a) :: _) _ = _; unfold xIf; dsimp only; rw [ht, if_pos (Int.natCast_nonneg t), if_pos (hP.mpr hp)]; rfl) (K1 hp E h R)
  · exact fun E h R => wp_next hd rfl (by show xIf c off pc _ (.inl (cI a) :: _) _ = _; unfold xIf; dsimp only; rw [ht, if_pos (Int.natCast_nonneg t), if_neg (fun q => hp (hP.mp q))]; rfl) (K2 hp E h R)
theorem wc_ifT {c : ClassFile.Cond} {off : Int} (hd : decode (rC M) pc = .ok (.ifCond c off, 3)) (hc : cB c (cI a) (cI 0) = true) (t : Nat) (ht : (pc : Int) + off = (t : Int)) (K : Wc T d M t ls st τ Q) : Wc T d M pc ls (.inl a :: st) τ Q := wc_if hd ⟨fun _ => trivial, fun _ => hc⟩ t ht (fun _ => K) (fun h => absurd trivial h)
theorem wc_ifF {c : ClassFile.Cond} {off : Int} (hd : decode (rC M) pc = .ok (.ifCond c off, 3)) (hc : cB c (cI a) (cI 0) = false) (t : Nat) (ht : (pc : Int) + off = (t : Int)) (K : Wc T d M (pc + 3) ls st τ Q) : Wc T d M pc ls (.inl a :: st) τ Q := wc_if (P := False) hd ⟨(fun h => by rw [hc] at h; cases h), (fun h => h.elim)⟩ t ht (fun h => h.elim) (fun _ => K)
theorem wc_ldc {i : Nat} {v : Int32} (hd : decode (rC M) pc = .ok (.ldc i, 2)) (hv : mLk tK M i = some v) (K : Wc T d M (pc + 2) ls (.inl v.toInt :: st) τ Q) : Wc T d M pc ls st τ Q := fun E h R => wp_next hd rfl (st' := cs (E.rf) (.inl v.toInt :: st)) (by
  show xConst M E.sv i pc _ _ _ = _
  unfold xConst
  rw [hv]
  show mNx _ _ (.inl v :: _) _ = mNx _ _ (.inl (cI v.toInt) :: _) _
  rw [toInt_cI]
  rfl) (K E h R)
theorem wc_shr (hd : decode (rC M) pc = .ok (.ishr, 1)) (ha : 0 ≤ a ∧ a < 1024) (hs : 0 ≤ s ∧ s < 10) (K : Wc T d M (pc + 1) ls (.inl (a / 2 ^ s.toNat) :: st) τ Q) : Wc T d M pc ls (.inl s :: .inl a :: st) τ Q := wc_bits (f := fun x y => x >>> (y &&& 31)) hd rfl (fun _ _ _ => rfl) (by rw [b_shr ha hs]; exact K)
theorem wc_and1 (hd : decode (rC M) pc = .ok (.iand, 1)) (ha : 0 ≤ a ∧ a < 1024) (K : Wc T d M (pc + 1) ls (.inl (a % 2) :: st) τ Q) : Wc T d M pc ls (.inl 1 :: .inl a :: st) τ Q := wc_bits (f := fun x y => x &&& y) hd rfl (fun _ _ _ => rfl) (by rw [b_and1 ha]; exact K)
theorem wc_shl1 (hd : decode (rC M) pc = .ok (.ishl, 1)) (hs : 0 ≤ s ∧ s < 11) (K : Wc T d M (pc + 1) ls (.inl (2 ^ s.toNat) :: st) τ Q) : Wc T d M pc ls (.inl s :: .inl 1 :: st) τ Q := wc_bits (f := fun x y => x <<< (y &&& 31)) hd rfl (fun _ _ _ => rfl) (by rw [b_shl hs]; exact K)
theorem wc_not (hd : decode (rC M) pc = .ok (.ixor, 1)) (hs : 0 ≤ s ∧ s < 10) (K : Wc T d M (pc + 1) ls (.inl (-1 - 2 ^ s.toNat) :: st) τ Q) : Wc T d M pc ls (.inl (-1) :: .inl (2 ^ s.toNat) :: st) τ Q := wc_bits (f := fun x y => x ^^^ y) hd rfl (fun _ _ _ => rfl) (by rw [b_not hs]; exact K)
theorem wc_clr (hd : decode (rC M) pc = .ok (.iand, 1)) (ha : 0 ≤ a ∧ a < 1024) (hs : 0 ≤ s ∧ s < 10) (K : Wc T d M (pc + 1) ls (.inl (clrF a s) :: st) τ Q) : Wc T d M pc ls (.inl (-1 - 2 ^ s.toNat) :: .inl a :: st) τ Q := wc_bits (f := fun x y => x &&& y) hd rfl (fun _ _ _ => rfl) (by rw [b_clr ha hs]; exact K)
theorem wc_or1 (hd : decode (rC M) pc = .ok (.ior, 1)) (ha : 0 ≤ a ∧ a < 1024) (hs : 0 ≤ s ∧ s < 10) (K : Wc T d M (pc + 1) ls (.inl (setF a s) :: st) τ Q) : Wc T d M pc ls (.inl (2 ^ s.toNat) :: .inl a :: st) τ Q := wc_bits (f := fun x y => x ||| y) hd rfl (fun _ _ _ => rfl) (by rw [b_or ha hs]; exact K)
theorem wc_or0 (hd : decode (rC M) pc = .ok (.ior, 1)) (ha : rng a) (K : Wc T d M (pc + 1) ls (.inl a :: st) τ Q) : Wc T d M pc ls (.inl 0 :: .inl a :: st) τ Q := wc_bits (f := fun x y => x ||| y) hd rfl (fun _ _ _ => rfl) (by rw [show cI 0 = 0 by decide, Int32.or_zero, cI_toInt ha]; exact K)
theorem wc_ldcN {i : Nat} {v : Int32} (n : Int) (hd : decode (rC M) pc = .ok (.ldc i, 2)) (hv : mLk tK M i = some v) (hn : v.toInt = n) (K : Wc T d M (pc + 2) ls (.inl n :: st) τ Q) : Wc T d M pc ls st τ Q := by
  subst hn
  exact wc_ldc hd hv K
theorem wc_null (hd : decode (rC M) pc = .ok (.aconst_null, 1)) (K : Wc T d M (pc + 1) ls (.inr 0 :: st) τ Q) : Wc T d M pc ls st τ Q := fun E h R => wp_next hd rfl (by show mNx _ _ (.inr none :: _) _ = mNx _ _ (.inr (E.rf 0) :: _) _; rw [R.null]; rfl) (K E h R)
theorem wc_astore (hd : decode (rC M) pc = .ok (.astore k, 2)) (hk : (ls[k]?).isSome = true) (K : Wc T d M (pc + 2) (ls.set k (some (.inr x))) st τ Q) : Wc T d M pc ls (.inr x :: st) τ Q := by
  intro E h R
  have K := K E h R
  rw [← cl_set] at K
  exact wp_next hd rfl (by show xAst k pc 2 _ (.inr (E.rf x) :: _) _ = _; unfold xAst; dsimp only; rw [if_pos (cl_len hk)]; rfl) K
theorem wc_astore_n {k : Fin 4} (hd : decode (rC M) pc = .ok (.astore_n k, 1)) (hk : (ls[k.val]?).isSome = true) (K : Wc T d M (pc + 1) (ls.set k.val (some (.inr x))) st τ Q) : Wc T d M pc ls (.inr x :: st) τ Q := by
  intro E h R
  have K := K E h R
  rw [← cl_set] at K
  exact wp_next hd rfl (by show xAst k.val pc 1 _ (.inr (E.rf x) :: _) _ = _; unfold xAst; dsimp only; rw [if_pos (cl_len hk)]; rfl) K
/-- null or not -/
theorem rf_isNull {E : CE} {h : MH} (R : Rep T E τ h) (hy : y = 0 ∨ (kd T τ y).isSome = true) : (y = 0 ∧ E.rf y = none) ∨ (y ≠ 0 ∧ ∃ a, E.rf y = some a) := by
  rcases hy with rfl | hy
  · exact Or.inl ⟨rfl, R.null⟩
  · obtain ⟨q, hq⟩ := Option.isSome_iff_exists.mp hy
    obtain ⟨a, ha, -⟩ := R.cell hq
    exact Or.inr ⟨fun e => (by rw [e, R.null] at ha; cases ha), a, ha⟩
theorem wc_ifnull {off : Int} (hd : decode (rC M) pc = .ok (.ifnull off, 3)) (hy : y = 0 ∨ (kd T τ y).isSome = true) (t : Nat) (ht : (pc : Int) + off = (t : Int)) (K1 : y = 0 → Wc T d M t ls st τ Q) (K2 : y ≠ 0 → Wc T d M (pc + 3) ls st τ Q) : Wc T d M pc ls (.inr y :: st) τ Q := fun E h R => by
  rcases rf_isNull R hy with ⟨h0, h1⟩ | ⟨h0, a, h1⟩
  · exact wp_next hd rfl (by show xNull off pc _ (.inr (E.rf y) :: _) _ = _; rw [h1]; show mGo _ _ _ _ _ = _; unfold mGo; rw [ht, if_pos (Int.natCast_nonneg t)]; rfl) (K1 h0 E h R)
  · exact wp_next hd rfl (by show xNull off pc _ (.inr (E.rf y) :: _) _ = _; rw [h1]; rfl) (K2 h0 E h R)
theorem wc_ifnonnull {off : Int} (hd : decode (rC M) pc = .ok (.ifnonnull off, 3)) (hy : y = 0 ∨ (kd T τ y).isSome = true) (t : Nat) (ht : (pc : Int) + off = (t : Int)) (K1 : y ≠ 0 → Wc T d M t ls st τ Q) (K2 : y = 0 → Wc T d M (pc + 3) ls st τ Q) : Wc T d M pc ls (.inr y :: st) τ Q := fun E h R => by
  rcases rf_isNull R hy with ⟨h0, h1⟩ | ⟨h0, a, h1⟩
  · exact wp_next hd rfl (by show xNonnull off pc _ (.inr (E.rf y) :: _) _ = _; rw [h1]; rfl) (K2 h0 E h R)
  · exact wp_next hd rfl (by show xNonnull off pc _ (.inr (E.rf y) :: _) _ = _; rw [h1]; show mGo _ _ _ _ _ = _; unfold mGo; rw [ht, if_pos (Int.natCast_nonneg t)]; rfl) (K1 h0 E h R)
/-- the same reference on both sides -/
theorem wc_acmpne {off : Int} (hd : decode (rC M) pc = .ok (.if_acmp .ne off, 3)) (hq : decide (0 ≤ (pc : Int) + off) = true) (K : Wc T d M (pc + 3) ls st τ Q) : Wc T d M pc ls (.inr y :: .inr y :: st) τ Q := fun E h R => wp_next hd rfl (by show xAcmp .ne off pc _ (.inr (E.rf y) :: .inr (E.rf y) :: _) _ = _; unfold xAcmp; dsimp only; rw [if_pos (of_decide_eq_true hq), if_pos rfl]; rfl) (K E h R)
section FLD
variable {i j ci : Nat} {fs : List FK} {ty : FieldType} {fin : Bool}
theorem wc_getI (hd : decode (rC M) pc = .ok (.getfield i, 3)) (hf : mLk tF M i = some (ci, j, ty, fin)) (hk : kd T τ x = some (ckO ci fs)) (hj : fs[j]? = some none) (K : Wc T d M (pc + 3) ls (.inl (sg τ x j) :: st) τ Q) : Wc T d M pc ls (.inr x :: st) τ Q := fun E h R => by
  obtain ⟨a, ha, hc⟩ := R.cell hk
  exact wp_next hd rfl (by show xGetf (mLk tF M i) pc _ (.inr (E.rf x) :: _) _ = _; unfold xGetf; rw [hf, ha]; dsimp only; rw [hc]; dsimp only [cel]; rw [if_pos rfl, fvC_get, hj, Nat.zero_add]; rfl) (K E h R)
theorem wc_getR (hd : decode (rC M) pc = .ok (.getfield i, 3)) (hf : mLk tF M i = some (ci, j, ty, fin)) (hk : kd T τ x = some (ckO ci fs)) (hj : fs[j]? = some (some none)) (hy : (sg τ x j).toNat = y) (K : Wc T d M (pc + 3) ls (.inr y :: st) τ Q) : Wc T d M pc ls (.inr x :: st) τ Q := fun E h R => by
  obtain ⟨a, ha, hc⟩ := R.cell hk
  subst hy
  exact wp_next hd rfl (by show xGetf (mLk tF M i) pc _ (.inr (E.rf x) :: _) _ = _; unfold xGetf; rw [hf, ha]; dsimp only; rw [hc]; dsimp only [cel]; rw [if_pos rfl, fvC_get, hj, Nat.zero_add]; rfl) (K E h R)
theorem wc_getC (hd : decode (rC M) pc = .ok (.getfield i, 3)) (hf : mLk tF M i = some (ci, j, ty, fin)) (hk : kd T τ x = some (ckO ci fs)) (hj : fs[j]? = some (some (some y))) (K : Wc T d M (pc + 3) ls (.inr y :: st) τ Q) : Wc T d M pc ls (.inr x :: st) τ Q := fun E h R => by
  obtain ⟨a, ha, hc⟩ := R.cell hk
  exact wp_next hd rfl (by show xGetf (mLk tF M i) pc _ (.inr (E.rf x) :: _) _ = _; unfold xGetf; rw [hf, ha]; dsimp only; rw [hc]; dsimp only [cel]; rw [if_pos rfl, fvC_get, hj, Nat.zero_add]; rfl) (K E h R)
/-- a final field is written by its class's constructor alone -/
def finOK (fin isI : Bool) (cp ci : Nat) : Bool := !fin || (isI && (cp == ci && (decide (ci < 10) || cp == 31) || cp == 31 && ci == 11))
theorem finOK_sp {fin isI : Bool} {cp ci : Nat} (h : finOK fin isI cp ci = true) : fin = true → isI = true ∧ (cp = ci ∧ (ci < 10 ∨ cp = 31) ∨ cp = 31 ∧ ci = 11) := by
  intro hf
  subst hf
  unfold finOK at h
  simpa [beq_iff_eq] using h
theorem wc_putI (hd : decode (rC M) pc = .ok (.putfield i, 3)) (hf : mLk tF M i = some (ci, j, ty, fin)) (hfin : finOK fin ((rN M).name == "<init>") (rP M) ci = true) (hk : kd T τ x = some (ckO ci fs)) (hj : fs[j]? = some none) (hw : wrC τ x) (hty : ty = .int ∨ ty = .boolean ∧ (e = 0 ∨ e = 1)) (K : Wc T d M (pc + 3) ls st (stC τ x j e) Q) : Wc T d M pc ls (.inl e :: .inr x :: st) τ Q := fun E h R => by
  obtain ⟨a, ha, hB, hc⟩ := R.wr hk hw
  have ht : mTyp ty (.inl (cI e)) = true := by
    rcases hty with rfl | ⟨rfl, rfl | rfl⟩ <;> rfl
  have hl : j < fs.length := (List.getElem?_eq_some_iff.mp hj).1
  refine wp_next hd rfl ?_ (K E _ (R.st (i := j) (y := e) hk hw ha rfl))
  show xPutf E.B (rP M) (mLk tF M i) _ pc _ (.inl (cI e) :: .inr (E.rf x) :: _) _ = _
  unfold xPutf
  rw [hf, ha]
  dsimp only
  rw [if_pos ⟨hB, finOK_sp hfin, ht⟩, hc]
  dsimp only [cel]
  rw [if_pos ⟨rfl, by rw [fvC_len]; exact hl⟩, ← fvC_set hj]
  simp [fv1, mNx]
  rfl
theorem wc_putR (hd : decode (rC M) pc = .ok (.putfield i, 3)) (hf : mLk tF M i = some (ci, j, ty, fin)) (hfin : finOK fin ((rN M).name == "<init>") (rP M) ci = true) (hk : kd T τ x = some (ckO ci fs)) (hj : fs[j]? = some (some none)) (hw : wrC τ x) (hty : mTyp ty (.inr none) = true) (K : Wc T d M (pc + 3) ls st (stC τ x j (y : Int)) Q) : Wc T d M pc ls (.inr y :: .inr x :: st) τ Q := fun E h R => by
  obtain ⟨a, ha, hB, hc⟩ := R.wr hk hw
  have ht : mTyp ty (.inr (E.rf y)) = true := by
    rw [← hty]; cases ty <;> rfl
  have hl : j < fs.length := (List.getElem?_eq_some_iff.mp hj).1
  refine wp_next hd rfl ?_ (K E _ (R.st (i := j) (y := (y : Int)) hk hw ha rfl))
  show xPutf E.B (rP M) (mLk tF M i) _ pc _ (.inr (E.rf y) :: .inr (E.rf x) :: _) _ = _
  unfold xPutf
  rw [hf, ha]
  dsimp only
  rw [if_pos ⟨hB, finOK_sp hfin, ht⟩, hc]
  dsimp only [cel]
  rw [if_pos ⟨rfl, by rw [fvC_len]; exact hl⟩, ← fvC_set hj]
  simp [fv1, mNx]
  rfl
end FLD
end WCR
