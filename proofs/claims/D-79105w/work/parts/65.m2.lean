/-! THE MODEL'S METHODS, 2: rows copied, members, neighbours -/
set_option maxRecDepth 100000
def copyR (τ : MT) (x y k : Int) : MT := (τ.1, fun a i => if a = 0 ∧ 258 * y + k ≤ (i : Int) ∧ (i : Int) < 258 * y + 258 then τ.2 0 ((i : Int) - 258 * y + 258 * x).toNat else τ.2 a i)
abbrev cntF (w : Nat → Int) : Nat → Int → Int
  | 0, _ => 0
  | n + 1, i => (if isM w i then 1 else 0) + cntF w n (i + 1)
/-- the first from i on, or -1 -/
def fstI (p : Int → Bool) : Nat → Int → Int
  | 0, _ => -1
  | n + 1, i => if p i = true then i else fstI p n (i + 1)
def onF (w : Nat → Int) (c : Int) : Int := fstI (fun m => decide (isM w m ∧ w (12 + 6 * m + 0).toNat = c)) 10 0
def ledF (w : Nat → Int) : Int := if 0 ≤ w 1 ∧ isM w (w 1) then w 1 else fstI (fun m => decide (isM w m)) 10 0
def manyF (w : Nat → Int) : Int := cntF w 10 0
def eaF (d : Int) : Int := if d = 0 then 1 else if d = 2 then -1 else 0
def soF (d : Int) : Int := if d = 1 then 1 else if d = 3 then -1 else 0
def xyF (x y : Int) : Int := if (0 ≤ x ∧ x ≤ 11) ∧ (0 ≤ y ∧ y ≤ 9) then 12 * y + x else -1
def besF (c d : Int) : Int := xyF (c % 12 + eaF d) (c / 12 + soF d)
section M2
variable {τ : MT} {m c v x y z : Int} {d : Nat}
theorem copyR_step (τ : MT) {x y k : Int} (hk : 0 ≤ k ∧ k < 258) (hx : 0 ≤ x) (hy : 0 ≤ y) (hxy : x ≠ y) : copyR (stA τ 0 (258 * y + k).toNat (τ.2 0 (258 * x + k).toNat)) x y (k + 1) = copyR τ x y k := by
  unfold copyR stA
  refine Prod.ext rfl (funext fun a => funext fun i => ?_)
  dsimp only
  by_cases ha : a = 0
  · subst ha
    simp only [true_and]
    by_cases h1 : 258 * y + k ≤ (i : Int) ∧ (i : Int) < 258 * y + 258
    · rw [if_pos h1]
      by_cases h2 : i = (258 * y + k).toNat
      · rw [if_neg (by omega), if_pos h2]
        exact congrArg (τ.2 0) (by omega)
      · rw [if_pos (by omega), if_neg (by omega)]
    · rw [if_neg h1, if_neg (by omega), if_neg (by omega)]
  · simp [ha]
theorem copyR_end (τ : MT) (x y : Int) : copyR τ x y 258 = τ := by
  unfold copyR
  refine Prod.ext rfl (funext fun a => funext fun i => ?_)
  dsimp only
  rw [if_neg (by omega)]
theorem mc_copies_loop (hx : 0 ≤ x ∧ x ≤ 10) (hy : 0 ≤ y ∧ y ≤ 10) (hxy : x ≠ y) : ∀ (n : Nat) (k : Int) (τ : MT), k + n = 258 → 0 ≤ k → Wm d rX3_copies 2 [some (.inr 1), some (.inl x), some (.inl y), some (.inl k)] [] τ (fun v t => none = v ∧ copyR τ x y k = t) := by
  intro n
  induction n with
  | zero =>
    intro k τ hk h0
    refine wm_iload_n dX3_copies_2 rfl ?_
    refine wm_sipush dX3_copies_3 (by decide) ?_
    refine wm_icmp dX3_copies_6 (cB_ge ⟨by omega, by omega⟩ ⟨by omega, by omega⟩) 39 rfl (fun c6 => ?_) (fun c6 => ?_)
    ·
      refine wm_vreturn dX3_copies_39 rfl ?_
      exact ⟨rfl, by rw [show k = 258 by omega, copyR_end]⟩
    ·
      omega
  | succ n ih =>
    intro k τ hk h0
    refine wm_iload_n dX3_copies_2 rfl ?_
    refine wm_sipush dX3_copies_3 (by decide) ?_
    refine wm_icmp dX3_copies_6 (cB_ge ⟨by omega, by omega⟩ ⟨by omega, by omega⟩) 39 rfl (fun c6 => ?_) (fun c6 => ?_)
    ·
      omega
    ·
      refine wm_aload_n dX3_copies_9 rfl ?_
      refine wm_getA dX3_copies_10 (kF3_9 rfl) rfl ?_
      refine wm_sipush dX3_copies_13 (by decide) ?_
      refine wm_iload_n dX3_copies_16 rfl ?_
      refine wm_imul dX3_copies_17 ?_
      refine wm_iload_n dX3_copies_18 rfl ?_
      refine wm_iadd dX3_copies_19 ?_
      refine wm_aload_n dX3_copies_20 rfl ?_
      refine wm_getA dX3_copies_21 (kF3_9 rfl) rfl ?_
      refine wm_sipush dX3_copies_24 (by decide) ?_
      refine wm_iload_n dX3_copies_27 rfl ?_
      refine wm_imul dX3_copies_28 ?_
      refine wm_iload_n dX3_copies_29 rfl ?_
      refine wm_iadd dX3_copies_30 ?_
      refine wm_iaload dX3_copies_31 rfl ⟨by omega, by omega⟩ _ rfl ?_
      refine wm_iastore dX3_copies_32 rfl ⟨by omega, by omega⟩ _ rfl ?_
      refine wm_iinc dX3_copies_33 rfl ?_
      refine wm_goto dX3_copies_36 2 rfl ?_
      rw [← copyR_step τ ⟨h0, by omega⟩ hx.1 hy.1 hxy]
      exact ih _ _ (by omega) (by omega)
theorem mc_copies (hx : 0 ≤ x ∧ x ≤ 10) (hy : 0 ≤ y ∧ y ≤ 10) (hxy : x ≠ y) : Mf 0 rX3_copies [.inr 1, .inl x, .inl y] τ none (copyR τ x y 0) := by
  intro d hd
  refine wm_iconst dX3_copies_0 ?_
  refine wm_istore_n dX3_copies_1 rfl ?_
  exact mc_copies_loop hx hy hxy 258 0 τ (by omega) (by omega)
theorem mc_members_loop (h0 : 0 ≤ τ.2 0 0 ∧ τ.2 0 0 ≤ 10) (hr : ∀ i, rng (τ.2 0 i)) (hd : 2 ≤ d) : ∀ (n : Nat) (i a : Int), i + n = 10 → 0 ≤ i → Wm d rX3_members 4 [some (.inr 1), some (.inl a), some (.inl i)] [] τ (fun v t => some (a + cntF (τ.2 0) n i) = v ∧ τ = t) := by
  intro n
  induction n with
  | zero =>
    intro i a hi hi0
    refine wm_iload_n dX3_members_4 rfl ?_
    refine wm_bipush dX3_members_5 (by decide) ?_
    refine wm_icmp dX3_members_7 (cB_ge ⟨by omega, by omega⟩ ⟨by omega, by omega⟩) 32 rfl (fun c7 => ?_) (fun c7 => ?_)
    ·
      refine wm_iload_n dX3_members_32 rfl ?_
      refine wm_ireturn dX3_members_33 rfl ?_
      exact ⟨by simp [cntF], rfl⟩
    ·
      omega
  | succ n ih =>
    intro i a hi hi0
    refine wm_iload_n dX3_members_4 rfl ?_
    refine wm_bipush dX3_members_5 (by decide) ?_
    refine wm_icmp dX3_members_7 (cB_ge ⟨by omega, by omega⟩ ⟨by omega, by omega⟩) 32 rfl (fun c7 => ?_) (fun c7 => ?_)
    ·
      omega
    ·
      refine wm_iload_n dX3_members_10 rfl ?_
      refine wm_aload_n dX3_members_11 rfl ?_
      refine wm_iload_n dX3_members_12 rfl ?_
      refine wm_callv dX3_members_13 (kV3_65 rfl) rfl (mc_isMember (by omega) h0 hr) (by omega) rfl rfl ?_
      rintro _ _ ⟨rfl, ⟨h13, rfl⟩ | ⟨h13, rfl⟩⟩
      ·
        refine wm_ifF dX3_members_16 (by decide) 23 rfl ?_
        refine wm_iconst dX3_members_19 ?_
        refine wm_goto dX3_members_20 24 rfl ?_
        refine wm_iadd dX3_members_24 ?_
        refine wm_istore_n dX3_members_25 rfl ?_
        refine wm_iinc dX3_members_26 rfl ?_
        refine wm_goto dX3_members_29 4 rfl ?_
        refine (ih _ _ (by omega) (by omega)).mono (fun v t h => ⟨?_, h.2⟩)
        rw [← h.1, cntF, if_pos h13, Int.add_assoc]
      ·
        refine wm_ifT dX3_members_16 (by decide) 23 rfl ?_
        refine wm_iconst dX3_members_23 ?_
        refine wm_iadd dX3_members_24 ?_
        refine wm_istore_n dX3_members_25 rfl ?_
        refine wm_iinc dX3_members_26 rfl ?_
        refine wm_goto dX3_members_29 4 rfl ?_
        refine (ih _ _ (by omega) (by omega)).mono (fun v t h => ⟨?_, h.2⟩)
        rw [← h.1, cntF, if_neg h13, Int.add_assoc]
theorem mc_members (h0 : 0 ≤ τ.2 0 0 ∧ τ.2 0 0 ≤ 10) (hr : ∀ i, rng (τ.2 0 i)) : Mf 2 rX3_members [.inr 1] τ (some (manyF (τ.2 0))) τ := by
  intro d hd
  refine wm_iconst dX3_members_0 ?_
  refine wm_istore_n dX3_members_1 rfl ?_
  refine wm_iconst dX3_members_2 ?_
  refine wm_istore_n dX3_members_3 rfl ?_
  refine (mc_members_loop h0 hr hd 10 0 0 (by omega) (by omega)).mono (fun v t h => ⟨?_, h.2⟩)
  rw [← h.1]
  unfold manyF
  rw [Int.zero_add]
theorem mc_on_loop (hc : rng c) (h0 : 0 ≤ τ.2 0 0 ∧ τ.2 0 0 ≤ 10) (hr : ∀ i, rng (τ.2 0 i)) (hd : 2 ≤ d) : ∀ (n : Nat) (i : Int), i + n = 10 → 0 ≤ i → Wm d rX3_on 2 [some (.inr 1), some (.inl c), some (.inl i)] [] τ (fun v t => some (fstI (fun m => decide (isM (τ.2 0) m ∧ τ.2 0 (12 + 6 * m + 0).toNat = c)) n i) = v ∧ τ = t) := by
  intro n
  induction n with
  | zero =>
    intro i hi hi0
    refine wm_iload_n dX3_on_2 rfl ?_
    refine wm_bipush dX3_on_3 (by decide) ?_
    refine wm_icmp dX3_on_5 (cB_ge ⟨by omega, by omega⟩ ⟨by omega, by omega⟩) 34 rfl (fun c5 => ?_) (fun c5 => ?_)
    ·
      refine wm_iconst dX3_on_34 ?_
      refine wm_ireturn dX3_on_35 rfl ?_
      exact ⟨rfl, rfl⟩
    ·
      omega
  | succ n ih =>
    intro i hi hi0
    refine wm_iload_n dX3_on_2 rfl ?_
    refine wm_bipush dX3_on_3 (by decide) ?_
    refine wm_icmp dX3_on_5 (cB_ge ⟨by omega, by omega⟩ ⟨by omega, by omega⟩) 34 rfl (fun c5 => ?_) (fun c5 => ?_)
    ·
      omega
    ·
      refine wm_aload_n dX3_on_8 rfl ?_
      refine wm_iload_n dX3_on_9 rfl ?_
      refine wm_callv dX3_on_10 (kV3_65 rfl) rfl (mc_isMember (by omega) h0 hr) (by omega) rfl rfl ?_
      rintro _ _ ⟨rfl, ⟨h10, rfl⟩ | ⟨h10, rfl⟩⟩
      ·
        refine wm_ifF dX3_on_13 (by decide) 28 rfl ?_
        refine wm_aload_n dX3_on_16 rfl ?_
        refine wm_iload_n dX3_on_17 rfl ?_
        refine wm_iconst dX3_on_18 ?_
        refine wm_callv dX3_on_19 (kV3_61 rfl) rfl (mc_of (by omega)) (by omega) rfl rfl ?_
        rintro _ _ ⟨rfl, rfl⟩
        refine wm_iload_n dX3_on_22 rfl ?_
        refine wm_icmp dX3_on_23 (cB_ne (hr _) hc) 28 rfl (fun c23 => ?_) (fun c23 => ?_)
        ·
          refine wm_iinc dX3_on_28 rfl ?_
          refine wm_goto dX3_on_31 2 rfl ?_
          refine (ih _ (by omega) (by omega)).mono (fun v t h => ⟨?_, h.2⟩)
          rw [← h.1, fstI, if_neg (by simp only [decide_eq_true_eq]; exact fun q => c23 q.2)]
        ·
          refine wm_iload_n dX3_on_26 rfl ?_
          refine wm_ireturn dX3_on_27 rfl ?_
          exact ⟨by rw [fstI, if_pos (by simp only [decide_eq_true_eq]; exact ⟨h10, by omega⟩)], rfl⟩
      ·
        refine wm_ifT dX3_on_13 (by decide) 28 rfl ?_
        refine wm_iinc dX3_on_28 rfl ?_
        refine wm_goto dX3_on_31 2 rfl ?_
        refine (ih _ (by omega) (by omega)).mono (fun v t h => ⟨?_, h.2⟩)
        rw [← h.1, fstI, if_neg (by simp only [decide_eq_true_eq]; exact fun q => h10 q.1)]
theorem mc_on (hc : rng c) (h0 : 0 ≤ τ.2 0 0 ∧ τ.2 0 0 ≤ 10) (hr : ∀ i, rng (τ.2 0 i)) : Mf 2 rX3_on [.inr 1, .inl c] τ (some (onF (τ.2 0) c)) τ := by
  intro d hd
  refine wm_iconst dX3_on_0 ?_
  refine wm_istore_n dX3_on_1 rfl ?_
  exact mc_on_loop hc h0 hr hd 10 0 (by omega) (by omega)
theorem mc_leader_loop (h0 : 0 ≤ τ.2 0 0 ∧ τ.2 0 0 ≤ 10) (hr : ∀ i, rng (τ.2 0 i)) (hd : 2 ≤ d) : ∀ (n : Nat) (i : Int), i + n = 10 → 0 ≤ i → Wm d rX3_leader 31 [some (.inr 1), some (.inl i)] [] τ (fun v t => some (fstI (fun m => decide (isM (τ.2 0) m)) n i) = v ∧ τ = t) := by
  intro n
  induction n with
  | zero =>
    intro i hi hi0
    refine wm_iload_n dX3_leader_31 rfl ?_
    refine wm_bipush dX3_leader_32 (by decide) ?_
    refine wm_icmp dX3_leader_34 (cB_ge ⟨by omega, by omega⟩ ⟨by omega, by omega⟩) 53 rfl (fun c34 => ?_) (fun c34 => ?_)
    ·
      refine wm_iconst dX3_leader_53 ?_
      refine wm_ireturn dX3_leader_54 rfl ?_
      exact ⟨rfl, rfl⟩
    ·
      omega
  | succ n ih =>
    intro i hi hi0
    refine wm_iload_n dX3_leader_31 rfl ?_
    refine wm_bipush dX3_leader_32 (by decide) ?_
    refine wm_icmp dX3_leader_34 (cB_ge ⟨by omega, by omega⟩ ⟨by omega, by omega⟩) 53 rfl (fun c34 => ?_) (fun c34 => ?_)
    ·
      omega
    ·
      refine wm_aload_n dX3_leader_37 rfl ?_
      refine wm_iload_n dX3_leader_38 rfl ?_
      refine wm_callv dX3_leader_39 (kV3_65 rfl) rfl (mc_isMember (by omega) h0 hr) (by omega) rfl rfl ?_
      rintro _ _ ⟨rfl, ⟨h39, rfl⟩ | ⟨h39, rfl⟩⟩
      ·
        refine wm_ifF dX3_leader_42 (by decide) 47 rfl ?_
        refine wm_iload_n dX3_leader_45 rfl ?_
        refine wm_ireturn dX3_leader_46 rfl ?_
        exact ⟨by rw [fstI, if_pos (by simp only [decide_eq_true_eq]; exact h39)], rfl⟩
      ·
        refine wm_ifT dX3_leader_42 (by decide) 47 rfl ?_
        refine wm_iinc dX3_leader_47 rfl ?_
        refine wm_goto dX3_leader_50 31 rfl ?_
        refine (ih _ (by omega) (by omega)).mono (fun v t h => ⟨?_, h.2⟩)
        rw [← h.1, fstI, if_neg (by simp only [decide_eq_true_eq]; exact h39)]
theorem mc_leader_31 (h0 : 0 ≤ τ.2 0 0 ∧ τ.2 0 0 ≤ 10) (hr : ∀ i, rng (τ.2 0 i)) (hd : 2 ≤ d) (hn : ¬ (0 ≤ τ.2 0 1 ∧ isM (τ.2 0) (τ.2 0 1))) : Wm d rX3_leader 29 [some (.inr 1), none] [] τ (fun v t => some (ledF (τ.2 0)) = v ∧ τ = t) := by
  refine wm_iconst dX3_leader_29 ?_
  refine wm_istore_n dX3_leader_30 rfl ?_
  refine (mc_leader_loop h0 hr hd 10 0 (by omega) (by omega)).mono (fun v t h => ⟨?_, h.2⟩)
  rw [← h.1, ledF, if_neg hn]
theorem mc_leader (h0 : 0 ≤ τ.2 0 0 ∧ τ.2 0 0 ≤ 10) (hr : ∀ i, rng (τ.2 0 i)) : Mf 2 rX3_leader [.inr 1] τ (some (ledF (τ.2 0))) τ := by
  intro d hd
  refine wm_aload_n dX3_leader_0 rfl ?_
  refine wm_getA dX3_leader_1 (kF3_9 rfl) rfl ?_
  refine wm_iconst dX3_leader_4 ?_
  refine wm_iaload dX3_leader_5 rfl ⟨by omega, by omega⟩ 1 rfl ?_
  refine wm_if dX3_leader_6 (cB_lt (hr _) ⟨by omega, by omega⟩) 29 rfl (fun c6 => ?_) (fun c6 => ?_)
  ·
    exact mc_leader_31 h0 hr hd (fun h => by have := h.1; omega)
  ·
    refine wm_aload_n dX3_leader_9 rfl ?_
    refine wm_aload_n dX3_leader_10 rfl ?_
    refine wm_getA dX3_leader_11 (kF3_9 rfl) rfl ?_
    refine wm_iconst dX3_leader_14 ?_
    refine wm_iaload dX3_leader_15 rfl ⟨by omega, by omega⟩ 1 rfl ?_
    refine wm_callv dX3_leader_16 (kV3_65 rfl) rfl (mc_isMember (hr _) h0 hr) (by omega) rfl rfl ?_
    rintro _ _ ⟨rfl, ⟨h16, rfl⟩ | ⟨h16, rfl⟩⟩
    ·
      refine wm_ifF dX3_leader_19 (by decide) 29 rfl ?_
      refine wm_aload_n dX3_leader_22 rfl ?_
      refine wm_getA dX3_leader_23 (kF3_9 rfl) rfl ?_
      refine wm_iconst dX3_leader_26 ?_
      refine wm_iaload dX3_leader_27 rfl ⟨by omega, by omega⟩ 1 rfl ?_
      refine wm_ireturn dX3_leader_28 rfl ?_
      exact ⟨by rw [ledF, if_pos ⟨by omega, h16⟩], rfl⟩
    ·
      refine wm_ifT dX3_leader_19 (by decide) 29 rfl ?_
      exact mc_leader_31 h0 hr hd (fun h => h16 h.2)
theorem mc_beside_49 (hx : rng x) (hy : rng y) (hd : 1 ≤ d) : Wm d rX3_beside 49 [some (.inl c), some (.inl v), some (.inl x), some (.inl y)] [] τ (fun r t => some (xyF x y) = r ∧ τ = t) := by
  refine wm_iload_n dX3_beside_49 rfl ?_
  refine wm_iconst dX3_beside_50 ?_
  refine wm_bipush dX3_beside_51 (by decide) ?_
  refine wm_calls dX3_beside_53 (kS3_57 rfl) (kSn3_57 rfl) (mc_in hx (by omega) (by omega)) (by omega) rfl rfl ?_
  rintro _ _ ⟨rfl, ⟨h53, rfl⟩ | ⟨h53, rfl⟩⟩
  ·
    refine wm_ifF dX3_beside_56 (by decide) 78 rfl ?_
    refine wm_iload_n dX3_beside_59 rfl ?_
    refine wm_iconst dX3_beside_60 ?_
    refine wm_bipush dX3_beside_61 (by decide) ?_
    refine wm_calls dX3_beside_63 (kS3_57 rfl) (kSn3_57 rfl) (mc_in hy (by omega) (by omega)) (by omega) rfl rfl ?_
    rintro _ _ ⟨rfl, ⟨h63, rfl⟩ | ⟨h63, rfl⟩⟩
    ·
      refine wm_ifF dX3_beside_66 (by decide) 78 rfl ?_
      refine wm_bipush dX3_beside_69 (by decide) ?_
      refine wm_iload_n dX3_beside_71 rfl ?_
      refine wm_imul dX3_beside_72 ?_
      refine wm_iload_n dX3_beside_73 rfl ?_
      refine wm_iadd dX3_beside_74 ?_
      refine wm_goto dX3_beside_75 79 rfl ?_
      refine wm_ireturn dX3_beside_79 rfl ?_
      exact ⟨by rw [xyF, if_pos ⟨h53, h63⟩], rfl⟩
    ·
      refine wm_ifT dX3_beside_66 (by decide) 78 rfl ?_
      refine wm_iconst dX3_beside_78 ?_
      refine wm_ireturn dX3_beside_79 rfl ?_
      exact ⟨by rw [xyF, if_neg (fun h => h63 h.2)], rfl⟩
  ·
    refine wm_ifT dX3_beside_56 (by decide) 78 rfl ?_
    refine wm_iconst dX3_beside_78 ?_
    refine wm_ireturn dX3_beside_79 rfl ?_
    exact ⟨by rw [xyF, if_neg (fun h => h53 h.1)], rfl⟩
theorem mc_beside (hc : 0 ≤ c ∧ c < 120) (hv : 0 ≤ v ∧ v < 4) : Mf 1 rX3_beside [.inl c, .inl v] τ (some (besF c v)) τ := by
  intro d hd
  refine wm_iload_n dX3_beside_0 rfl ?_
  refine wm_bipush dX3_beside_1 (by decide) ?_
  refine wm_irem dX3_beside_3 ⟨by omega, by omega⟩ ⟨by omega, by omega⟩ ?_
  refine wm_iload_n dX3_beside_4 rfl ?_
  refine wm_if dX3_beside_5 (cB_ne ⟨by omega, by omega⟩ ⟨by omega, by omega⟩) 12 rfl (fun c5 => ?_) (fun c5 => ?_)
  ·
    refine wm_iload_n dX3_beside_12 rfl ?_
    refine wm_iconst dX3_beside_13 ?_
    refine wm_icmp dX3_beside_14 (cB_ne ⟨by omega, by omega⟩ ⟨by omega, by omega⟩) 21 rfl (fun c14 => ?_) (fun c14 => ?_)
    ·
      refine wm_iconst dX3_beside_21 ?_
      refine wm_iadd dX3_beside_22 ?_
      refine wm_istore_n dX3_beside_23 rfl ?_
      refine wm_iload_n dX3_beside_24 rfl ?_
      refine wm_bipush dX3_beside_25 (by decide) ?_
      refine wm_idiv dX3_beside_27 ⟨by omega, by omega⟩ ⟨by omega, by omega⟩ ?_
      refine wm_iload_n dX3_beside_28 rfl ?_
      refine wm_iconst dX3_beside_29 ?_
      refine wm_icmp dX3_beside_30 (cB_ne ⟨by omega, by omega⟩ ⟨by omega, by omega⟩) 37 rfl (fun c30 => ?_) (fun c30 => ?_)
      ·
        refine wm_iload_n dX3_beside_37 rfl ?_
        refine wm_iconst dX3_beside_38 ?_
        refine wm_icmp dX3_beside_39 (cB_ne ⟨by omega, by omega⟩ ⟨by omega, by omega⟩) 46 rfl (fun c39 => ?_) (fun c39 => ?_)
        ·
          refine wm_iconst dX3_beside_46 ?_
          refine wm_iadd dX3_beside_47 ?_
          refine wm_istore_n dX3_beside_48 rfl ?_
          refine (mc_beside_49 (by omega) (by omega) hd).mono (fun r t h => ⟨?_, h.2⟩)
          rw [← h.1]
          simp_all [besF, eaF, soF]
        ·
          refine wm_iconst dX3_beside_42 ?_
          refine wm_goto dX3_beside_43 47 rfl ?_
          refine wm_iadd dX3_beside_47 ?_
          refine wm_istore_n dX3_beside_48 rfl ?_
          refine (mc_beside_49 (by omega) (by omega) hd).mono (fun r t h => ⟨?_, h.2⟩)
          rw [← h.1]
          simp_all [besF, eaF, soF]
      ·
        refine wm_iconst dX3_beside_33 ?_
        refine wm_goto dX3_beside_34 47 rfl ?_
        refine wm_iadd dX3_beside_47 ?_
        refine wm_istore_n dX3_beside_48 rfl ?_
        refine (mc_beside_49 (by omega) (by omega) hd).mono (fun r t h => ⟨?_, h.2⟩)
        rw [← h.1]
        simp_all [besF, eaF, soF]
    ·
      refine wm_iconst dX3_beside_17 ?_
      refine wm_goto dX3_beside_18 22 rfl ?_
      refine wm_iadd dX3_beside_22 ?_
      refine wm_istore_n dX3_beside_23 rfl ?_
      refine wm_iload_n dX3_beside_24 rfl ?_
      refine wm_bipush dX3_beside_25 (by decide) ?_
      refine wm_idiv dX3_beside_27 ⟨by omega, by omega⟩ ⟨by omega, by omega⟩ ?_
      refine wm_iload_n dX3_beside_28 rfl ?_
      refine wm_iconst dX3_beside_29 ?_
      refine wm_icmp dX3_beside_30 (cB_ne ⟨by omega, by omega⟩ ⟨by omega, by omega⟩) 37 rfl (fun c30 => ?_) (fun c30 => ?_)
      ·
        refine wm_iload_n dX3_beside_37 rfl ?_
        refine wm_iconst dX3_beside_38 ?_
        refine wm_icmp dX3_beside_39 (cB_ne ⟨by omega, by omega⟩ ⟨by omega, by omega⟩) 46 rfl (fun c39 => ?_) (fun c39 => ?_)
        ·
          refine wm_iconst dX3_beside_46 ?_
          refine wm_iadd dX3_beside_47 ?_
          refine wm_istore_n dX3_beside_48 rfl ?_
          refine (mc_beside_49 (by omega) (by omega) hd).mono (fun r t h => ⟨?_, h.2⟩)
          rw [← h.1]
          simp_all [besF, eaF, soF]
        ·
          refine wm_iconst dX3_beside_42 ?_
          refine wm_goto dX3_beside_43 47 rfl ?_
          refine wm_iadd dX3_beside_47 ?_
          refine wm_istore_n dX3_beside_48 rfl ?_
          refine (mc_beside_49 (by omega) (by omega) hd).mono (fun r t h => ⟨?_, h.2⟩)
          rw [← h.1]
          simp_all [besF, eaF, soF]
      ·
        refine wm_iconst dX3_beside_33 ?_
        refine wm_goto dX3_beside_34 47 rfl ?_
        refine wm_iadd dX3_beside_47 ?_
        refine wm_istore_n dX3_beside_48 rfl ?_
        refine (mc_beside_49 (by omega) (by omega) hd).mono (fun r t h => ⟨?_, h.2⟩)
        rw [← h.1]
        simp_all [besF, eaF, soF]
  ·
    refine wm_iconst dX3_beside_8 ?_
    refine wm_goto dX3_beside_9 22 rfl ?_
    refine wm_iadd dX3_beside_22 ?_
    refine wm_istore_n dX3_beside_23 rfl ?_
    refine wm_iload_n dX3_beside_24 rfl ?_
    refine wm_bipush dX3_beside_25 (by decide) ?_
    refine wm_idiv dX3_beside_27 ⟨by omega, by omega⟩ ⟨by omega, by omega⟩ ?_
    refine wm_iload_n dX3_beside_28 rfl ?_
    refine wm_iconst dX3_beside_29 ?_
    refine wm_icmp dX3_beside_30 (cB_ne ⟨by omega, by omega⟩ ⟨by omega, by omega⟩) 37 rfl (fun c30 => ?_) (fun c30 => ?_)
    ·
      refine wm_iload_n dX3_beside_37 rfl ?_
      refine wm_iconst dX3_beside_38 ?_
      refine wm_icmp dX3_beside_39 (cB_ne ⟨by omega, by omega⟩ ⟨by omega, by omega⟩) 46 rfl (fun c39 => ?_) (fun c39 => ?_)
      ·
        refine wm_iconst dX3_beside_46 ?_
        refine wm_iadd dX3_beside_47 ?_
        refine wm_istore_n dX3_beside_48 rfl ?_
        refine (mc_beside_49 (by omega) (by omega) hd).mono (fun r t h => ⟨?_, h.2⟩)
        rw [← h.1]
        simp_all [besF, eaF, soF]
      ·
        refine wm_iconst dX3_beside_42 ?_
        refine wm_goto dX3_beside_43 47 rfl ?_
        refine wm_iadd dX3_beside_47 ?_
        refine wm_istore_n dX3_beside_48 rfl ?_
        refine (mc_beside_49 (by omega) (by omega) hd).mono (fun r t h => ⟨?_, h.2⟩)
        rw [← h.1]
        simp_all [besF, eaF, soF]
    ·
      refine wm_iconst dX3_beside_33 ?_
      refine wm_goto dX3_beside_34 47 rfl ?_
      refine wm_iadd dX3_beside_47 ?_
      refine wm_istore_n dX3_beside_48 rfl ?_
      refine (mc_beside_49 (by omega) (by omega) hd).mono (fun r t h => ⟨?_, h.2⟩)
      rw [← h.1]
      simp_all [besF, eaF, soF]
end M2
