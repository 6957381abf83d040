/-! THE MODEL'S METHODS, 1: the small ones -/
set_option maxRecDepth 100000
section WM1
variable {d : Nat} {M : MRec} {pc : Nat} {ls : AL} {st : List AV} {τ : MT} {Q Q' : Option Int → MT → Prop} {k : Nat} {e a b : Int} {x : Nat}
theorem wm_ifT {c : ClassFile.Cond} {off : Int} (hd : decode (rC M) pc = .ok (.ifCond c off, 3)) (hc : cB c (cI a) (cI 0) = true) (t : Nat) (ht : (pc : Int) + off = (t : Int)) (K : Wm d M t ls st τ Q) : Wm d M pc ls (.inl a :: st) τ Q := wm_if hd ⟨fun _ => trivial, fun _ => hc⟩ t ht (fun _ => K) (fun h => absurd trivial h)
theorem wm_ifF {c : ClassFile.Cond} {off : Int} (hd : decode (rC M) pc = .ok (.ifCond c off, 3)) (hc : cB c (cI a) (cI 0) = false) (t : Nat) (ht : (pc : Int) + off = (t : Int)) (K : Wm d M (pc + 3) ls st τ Q) : Wm d M pc ls (.inl a :: st) τ Q := wm_if (P := False) hd ⟨(fun h => by rw [hc] at h; cases h), (fun h => h.elim)⟩ t ht (fun h => h.elim) (fun _ => K)
theorem wm_ldc {i : Nat} {v : Int32} (hd : decode (rC M) pc = .ok (.ldc i, 2)) (hv : mLk tK M i = some v) (K : Wm d M (pc + 2) ls (.inl v.toInt :: st) τ Q) : Wm d M pc ls st τ Q := fun E => wp_next hd rfl (st' := cs (rfM E) (.inl v.toInt :: st)) (by
  show xConst M E.sv i pc _ _ _ = _
  unfold xConst
  rw [hv]
  show mNx _ _ (.inl v :: _) _ = mNx _ _ (.inl (cI v.toInt) :: _) _
  rw [toInt_cI]
  rfl) (K E)
/-- a method that answers yes or no and changes nothing -/
abbrev Mb (k : Nat) (M : MRec) (as : List AV) (τ : MT) (P : Prop) : Prop := Mt k M as τ (fun v t => τ = t ∧ ((P ∧ some 1 = v) ∨ (¬ P ∧ some 0 = v)))
end WM1
section M1
variable {τ : MT} {N m c v x y z : Int}
theorem mc_in (h1 : rng x) (h2 : rng y) (h3 : rng z) : Mb 0 rX3_in [.inl x, .inl y, .inl z] τ (y ≤ x ∧ x ≤ z) := by
  intro d hd
  refine wm_iload_n dX3_in_0 rfl ?_
  refine wm_iload_n dX3_in_1 rfl ?_
  refine wm_icmp dX3_in_2 (cB_lt ⟨by omega, by omega⟩ ⟨by omega, by omega⟩) 14 rfl (fun c2 => ?_) (fun c2 => ?_)
  ·
    refine wm_iconst dX3_in_14 ?_
    refine wm_breturn dX3_in_15 rfl (by omega) ?_
    first | exact ⟨rfl, Or.inl ⟨by omega, rfl⟩⟩ | exact ⟨rfl, Or.inr ⟨by omega, rfl⟩⟩
  ·
    refine wm_iload_n dX3_in_5 rfl ?_
    refine wm_iload_n dX3_in_6 rfl ?_
    refine wm_icmp dX3_in_7 (cB_gt ⟨by omega, by omega⟩ ⟨by omega, by omega⟩) 14 rfl (fun c7 => ?_) (fun c7 => ?_)
    ·
      refine wm_iconst dX3_in_14 ?_
      refine wm_breturn dX3_in_15 rfl (by omega) ?_
      first | exact ⟨rfl, Or.inl ⟨by omega, rfl⟩⟩ | exact ⟨rfl, Or.inr ⟨by omega, rfl⟩⟩
    ·
      refine wm_iconst dX3_in_10 ?_
      refine wm_goto dX3_in_11 15 rfl ?_
      refine wm_breturn dX3_in_15 rfl (by omega) ?_
      first | exact ⟨rfl, Or.inl ⟨by omega, rfl⟩⟩ | exact ⟨rfl, Or.inr ⟨by omega, rfl⟩⟩
theorem mc_of (h : 0 ≤ 12 + 6 * m + x ∧ 12 + 6 * m + x < 2838) : Mf 0 rX3_of [.inr 1, .inl m, .inl x] τ (some (τ.2 0 (12 + 6 * m + x).toNat)) τ := by
  intro d hd
  refine wm_aload_n dX3_of_0 rfl ?_
  refine wm_getA dX3_of_1 (kF3_9 rfl) rfl ?_
  refine wm_bipush dX3_of_4 (by decide) ?_
  refine wm_bipush dX3_of_6 (by decide) ?_
  refine wm_iload_n dX3_of_8 rfl ?_
  refine wm_imul dX3_of_9 ?_
  refine wm_iadd dX3_of_10 ?_
  refine wm_iload_n dX3_of_11 rfl ?_
  refine wm_iadd dX3_of_12 ?_
  refine wm_iaload dX3_of_13 rfl ⟨by omega, by omega⟩ _ rfl ?_
  refine wm_ireturn dX3_of_14 rfl ?_
  exact ⟨rfl, rfl⟩
theorem mc_lays (h : 0 ≤ 12 + 6 * m + x ∧ 12 + 6 * m + x < 2838) : Mf 0 rX3_lays [.inr 1, .inl m, .inl x, .inl v] τ none (stA τ 0 (12 + 6 * m + x).toNat v) := by
  intro d hd
  refine wm_aload_n dX3_lays_0 rfl ?_
  refine wm_getA dX3_lays_1 (kF3_9 rfl) rfl ?_
  refine wm_bipush dX3_lays_4 (by decide) ?_
  refine wm_bipush dX3_lays_6 (by decide) ?_
  refine wm_iload_n dX3_lays_8 rfl ?_
  refine wm_imul dX3_lays_9 ?_
  refine wm_iadd dX3_lays_10 ?_
  refine wm_iload_n dX3_lays_11 rfl ?_
  refine wm_iadd dX3_lays_12 ?_
  refine wm_iload_n dX3_lays_13 rfl ?_
  refine wm_iastore dX3_lays_14 rfl ⟨by omega, by omega⟩ _ rfl ?_
  refine wm_vreturn dX3_lays_15 rfl ?_
  exact ⟨rfl, rfl⟩
theorem mc_isCell (h : rng x) : Mb 1 rX3_isCell [.inl x] τ (0 ≤ x ∧ x ≤ 119) := by
  intro d hd
  refine wm_iload_n dX3_isCell_0 rfl ?_
  refine wm_iconst dX3_isCell_1 ?_
  refine wm_bipush dX3_isCell_2 (by decide) ?_
  refine wm_calls dX3_isCell_4 (kS3_57 rfl) (kSn3_57 rfl) (mc_in (by omega) (by omega) (by omega)) (by omega) rfl rfl ?_
  rintro _ _ ⟨rfl, ⟨h4, rfl⟩ | ⟨h4, rfl⟩⟩
  ·
    refine wm_breturn dX3_isCell_7 rfl (by omega) ?_
    first | exact ⟨rfl, Or.inl ⟨by omega, rfl⟩⟩ | exact ⟨rfl, Or.inr ⟨by omega, rfl⟩⟩
  ·
    refine wm_breturn dX3_isCell_7 rfl (by omega) ?_
    first | exact ⟨rfl, Or.inl ⟨by omega, rfl⟩⟩ | exact ⟨rfl, Or.inr ⟨by omega, rfl⟩⟩
theorem mc_isBlocked (h : 0 ≤ c ∧ c < 120) (hr : rng (τ.2 0 (72 + c).toNat)) : Mb 0 rX3_isBlocked [.inr 1, .inl c] τ (τ.2 0 (72 + c).toNat = 1) := by
  intro d hd
  refine wm_aload_n dX3_isBlocked_0 rfl ?_
  refine wm_getA dX3_isBlocked_1 (kF3_9 rfl) rfl ?_
  refine wm_bipush dX3_isBlocked_4 (by decide) ?_
  refine wm_iload_n dX3_isBlocked_6 rfl ?_
  refine wm_iadd dX3_isBlocked_7 ?_
  refine wm_iaload dX3_isBlocked_8 rfl ⟨by omega, by omega⟩ _ rfl ?_
  refine wm_iconst dX3_isBlocked_9 ?_
  refine wm_icmp dX3_isBlocked_10 (cB_ne ⟨by omega, by omega⟩ ⟨by omega, by omega⟩) 17 rfl (fun c10 => ?_) (fun c10 => ?_)
  ·
    refine wm_iconst dX3_isBlocked_17 ?_
    refine wm_breturn dX3_isBlocked_18 rfl (by omega) ?_
    first | exact ⟨rfl, Or.inl ⟨by omega, rfl⟩⟩ | exact ⟨rfl, Or.inr ⟨by omega, rfl⟩⟩
  ·
    refine wm_iconst dX3_isBlocked_13 ?_
    refine wm_goto dX3_isBlocked_14 18 rfl ?_
    refine wm_breturn dX3_isBlocked_18 rfl (by omega) ?_
    first | exact ⟨rfl, Or.inl ⟨by omega, rfl⟩⟩ | exact ⟨rfl, Or.inr ⟨by omega, rfl⟩⟩
theorem mc_counts (h : 0 ≤ 4 + x ∧ 4 + x < 2838) : Mf 0 rX3_counts [.inr 1, .inl x, .inl v] τ none (stA τ 0 (4 + x).toNat (τ.2 0 (4 + x).toNat + v)) := by
  intro d hd
  refine wm_aload_n dX3_counts_0 rfl ?_
  refine wm_getA dX3_counts_1 (kF3_9 rfl) rfl ?_
  refine wm_iconst dX3_counts_4 ?_
  refine wm_iload_n dX3_counts_5 rfl ?_
  refine wm_iadd dX3_counts_6 ?_
  refine wm_dup2 dX3_counts_7 ?_
  refine wm_iaload dX3_counts_8 rfl ⟨by omega, by omega⟩ _ rfl ?_
  refine wm_iload_n dX3_counts_9 rfl ?_
  refine wm_iadd dX3_counts_10 ?_
  refine wm_iastore dX3_counts_11 rfl ⟨by omega, by omega⟩ _ rfl ?_
  refine wm_vreturn dX3_counts_12 rfl ?_
  exact ⟨rfl, rfl⟩
abbrev isM (w : Nat → Int) (m : Int) : Prop := (0 ≤ m ∧ m ≤ w 0 - 1) ∧ 0 ≤ w (12 + 6 * m + 0).toNat
theorem mc_isMember (hm : rng m) (h0 : 0 ≤ τ.2 0 0 ∧ τ.2 0 0 ≤ 10) (hr : ∀ i, rng (τ.2 0 i)) : Mb 1 rX3_isMember [.inr 1, .inl m] τ (isM (τ.2 0) m) := by
  intro d hd
  refine wm_iload_n dX3_isMember_0 rfl ?_
  refine wm_iconst dX3_isMember_1 ?_
  refine wm_aload_n dX3_isMember_2 rfl ?_
  refine wm_getA dX3_isMember_3 (kF3_9 rfl) rfl ?_
  refine wm_iconst dX3_isMember_6 ?_
  refine wm_iaload dX3_isMember_7 rfl ⟨by omega, by omega⟩ 0 rfl ?_
  refine wm_iconst dX3_isMember_8 ?_
  refine wm_isub dX3_isMember_9 ?_
  refine wm_calls dX3_isMember_10 (kS3_57 rfl) (kSn3_57 rfl) (mc_in hm (by omega) (show rng (τ.2 0 0 - 1) by omega)) (by omega) rfl rfl ?_
  rintro _ _ ⟨rfl, ⟨h10, rfl⟩ | ⟨h10, rfl⟩⟩
  ·
    refine wm_ifF dX3_isMember_13 (by decide) 29 rfl ?_
    refine wm_aload_n dX3_isMember_16 rfl ?_
    refine wm_iload_n dX3_isMember_17 rfl ?_
    refine wm_iconst dX3_isMember_18 ?_
    refine wm_callv dX3_isMember_19 (kV3_61 rfl) rfl (mc_of (show _ from by have := h10.2; have : τ.2 0 (Int.toNat 0) = τ.2 0 0 := rfl; omega)) (by omega) rfl rfl ?_
    rintro _ _ ⟨rfl, rfl⟩
    refine wm_if dX3_isMember_22 (cB_lt (hr _) ⟨by omega, by omega⟩) 29 rfl (fun c22 => ?_) (fun c22 => ?_)
    ·
      refine wm_iconst dX3_isMember_29 ?_
      refine wm_breturn dX3_isMember_30 rfl (by omega) ?_
      first | exact ⟨rfl, Or.inl ⟨⟨h10, by omega⟩, rfl⟩⟩ | exact ⟨rfl, Or.inr ⟨fun h => h10 h.1, rfl⟩⟩ | exact ⟨rfl, Or.inr ⟨fun h => (by have := h.2; omega), rfl⟩⟩
    ·
      refine wm_iconst dX3_isMember_25 ?_
      refine wm_goto dX3_isMember_26 30 rfl ?_
      refine wm_breturn dX3_isMember_30 rfl (by omega) ?_
      first | exact ⟨rfl, Or.inl ⟨⟨h10, by omega⟩, rfl⟩⟩ | exact ⟨rfl, Or.inr ⟨fun h => h10 h.1, rfl⟩⟩ | exact ⟨rfl, Or.inr ⟨fun h => (by have := h.2; omega), rfl⟩⟩
  ·
    refine wm_ifT dX3_isMember_13 (by decide) 29 rfl ?_
    refine wm_iconst dX3_isMember_29 ?_
    refine wm_breturn dX3_isMember_30 rfl (by omega) ?_
    first | exact ⟨rfl, Or.inl ⟨⟨h10, by omega⟩, rfl⟩⟩ | exact ⟨rfl, Or.inr ⟨fun h => h10 h.1, rfl⟩⟩ | exact ⟨rfl, Or.inr ⟨fun h => (by have := h.2; omega), rfl⟩⟩
end M1
