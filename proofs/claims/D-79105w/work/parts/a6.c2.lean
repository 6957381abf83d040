/-! THE CLASS'S METHODS, 2: the world's questions and moves -/
set_option maxRecDepth 100000
section C2
variable {w : Nat → Int} {τ t : CT} {c v x y z m k : Int} {d : Nat}
theorem cc_isMember (h : Wd w τ) (h0 : 0 ≤ w 0 ∧ w 0 ≤ 10) (hm : rng m) : Cb kap 1 rX1_isMember [.inr 100, .inl m] τ (isM w m) := by
  intro d hd
  refine wc_iload_n dX1_isMember_0 rfl ?_
  refine wc_iconst dX1_isMember_1 ?_
  refine wc_bipush dX1_isMember_2 (by decide) ?_
  refine wc_call dX1_isMember_4 rfl (cc_in hm (by omega) (by omega)) (by omega) (hx_S (kS1_58 rfl) (kSn1_58 rfl) rfl rfl) ?_
  rintro _ _ ⟨rfl, ⟨h4, rfl⟩ | ⟨h4, rfl⟩⟩
  ·
    refine wc_ifF dX1_isMember_7 (by decide) 23 rfl ?_
    refine wc_aload_n dX1_isMember_10 rfl ?_
    refine wc_getC dX1_isMember_11 (kF1_21 rfl) rfl rfl ?_
    refine wc_iload_n dX1_isMember_14 rfl ?_
    refine wc_aaload dX1_isMember_15 rfl rfl rfl ⟨by omega, by omega⟩ rfl ?_
    refine wc_ifnull dX1_isMember_16 (h.nn h0.2 (by omega)) 23 rfl (fun c16 => ?_) (fun c16 => ?_)
    ·
      refine wc_iconst dX1_isMember_23 ?_
      refine wc_breturn dX1_isMember_24 rfl (by omega) ?_
      exact ⟨rfl, Or.inr ⟨h.notM h0.2 c16, rfl⟩⟩
    ·
      refine wc_iconst dX1_isMember_19 ?_
      refine wc_goto dX1_isMember_20 24 rfl ?_
      refine wc_breturn dX1_isMember_24 rfl (by omega) ?_
      exact ⟨rfl, Or.inl ⟨h.isIn h0.2 (by omega) c16, rfl⟩⟩
  ·
    refine wc_ifT dX1_isMember_7 (by decide) 23 rfl ?_
    refine wc_iconst dX1_isMember_23 ?_
    refine wc_breturn dX1_isMember_24 rfl (by omega) ?_
    exact ⟨rfl, Or.inr ⟨fun q => h4 (by have := isM_le q h0.2; omega), rfl⟩⟩
theorem cc_many_loop (h : Wd w τ) (h0 : 0 ≤ w 0 ∧ w 0 ≤ 10) (hd : 1 ≤ d) : ∀ (n : Nat) (i a : Int) (o5 : Option AV), i + n = 10 → 0 ≤ i → Wc kap d rX1_many 13 [some (.inr 100), some (.inl a), some (.inr 103), some (.inl 10), some (.inl i), o5] [] τ (nQ (fun v t => some (.inl (a + cntF w n i)) = v ∧ τ = t)) := by
  intro n
  induction n with
  | zero =>
    intro i a o5 hi hi0
    refine wc_iload dX1_many_13 rfl ?_
    refine wc_iload_n dX1_many_15 rfl ?_
    refine wc_icmp dX1_many_16 (cB_ge ⟨by omega, by omega⟩ ⟨by omega, by omega⟩) 47 rfl (fun c16 => ?_) (fun c16 => ?_)
    ·
      refine wc_iload_n dX1_many_47 rfl ?_
      refine wc_ireturn dX1_many_48 rfl ?_
      exact ⟨by simp [cntF], rfl⟩
    ·
      omega
  | succ n ih =>
    intro i a o5 hi hi0
    refine wc_iload dX1_many_13 rfl ?_
    refine wc_iload_n dX1_many_15 rfl ?_
    refine wc_icmp dX1_many_16 (cB_ge ⟨by omega, by omega⟩ ⟨by omega, by omega⟩) 47 rfl (fun c16 => ?_) (fun c16 => ?_)
    ·
      omega
    ·
      refine wc_aload_n dX1_many_19 rfl ?_
      refine wc_iload dX1_many_20 rfl ?_
      refine wc_aaload dX1_many_22 rfl rfl rfl ⟨by omega, by omega⟩ rfl ?_
      refine wc_astore dX1_many_23 rfl ?_
      refine wc_iload_n dX1_many_25 rfl ?_
      refine wc_aload dX1_many_26 rfl ?_
      refine wc_ifnull dX1_many_28 (h.nn h0.2 (by omega)) 35 rfl (fun c28 => ?_) (fun c28 => ?_)
      ·
        refine wc_iconst dX1_many_35 ?_
        refine wc_call dX1_many_36 rfl (cc_bit (Or.inl rfl)) (by omega) (hx_S (kS1_62 rfl) (kSn1_62 rfl) rfl rfl) ?_
        rintro _ _ ⟨rfl, rfl⟩
        refine wc_iadd dX1_many_39 ?_
        refine wc_istore_n dX1_many_40 rfl ?_
        refine wc_iinc dX1_many_41 rfl ?_
        refine wc_goto dX1_many_44 13 rfl ?_
        have e := h.notM h0.2 c28
        refine (ih _ _ _ (by omega) (by omega)).mn (fun v t q => ⟨by rw [← q.1, cntF, if_neg e, Int.add_assoc], q.2⟩)
      ·
        refine wc_iconst dX1_many_31 ?_
        refine wc_goto dX1_many_32 36 rfl ?_
        refine wc_call dX1_many_36 rfl (cc_bit (Or.inr rfl)) (by omega) (hx_S (kS1_62 rfl) (kSn1_62 rfl) rfl rfl) ?_
        rintro _ _ ⟨rfl, rfl⟩
        refine wc_iadd dX1_many_39 ?_
        refine wc_istore_n dX1_many_40 rfl ?_
        refine wc_iinc dX1_many_41 rfl ?_
        refine wc_goto dX1_many_44 13 rfl ?_
        have e := h.isIn h0.2 ⟨hi0, by omega⟩ c28
        refine (ih _ _ _ (by omega) (by omega)).mn (fun v t q => ⟨by rw [← q.1, cntF, if_pos e, Int.add_assoc], q.2⟩)
theorem cc_many (h : Wd w τ) (h0 : 0 ≤ w 0 ∧ w 0 ≤ 10) : Cf kap 1 rX1_many [.inr 100] τ (some (.inl (manyF w))) τ := by
  intro d hd
  refine wc_iconst dX1_many_0 ?_
  refine wc_istore_n dX1_many_1 rfl ?_
  refine wc_aload_n dX1_many_2 rfl ?_
  refine wc_getC dX1_many_3 (kF1_21 rfl) rfl rfl ?_
  refine wc_astore_n dX1_many_6 rfl ?_
  refine wc_aload_n dX1_many_7 rfl ?_
  refine wc_alenR dX1_many_8 rfl ?_
  refine wc_istore_n dX1_many_9 rfl ?_
  refine wc_iconst dX1_many_10 ?_
  refine wc_istore dX1_many_11 rfl ?_
  refine (cc_many_loop h h0 hd 10 0 0 _ (by omega) (by omega)).mn (fun v t q => ⟨by rw [← q.1, Int.zero_add]; rfl, q.2⟩)
theorem cc_leads_loop (h : Wd w τ) (h0 : 0 ≤ w 0 ∧ w 0 ≤ 10) (hn : ¬ (0 ≤ w 1 ∧ isM w (w 1))) : ∀ (n : Nat) (i : Int), i + n = 10 → 0 ≤ i → fstI (fun m => decide (isM w m)) n i = fstI (fun m => decide (isM w m)) 10 0 → Wc kap d rX1_leads 18 [some (.inr 100), some (.inl i)] [] τ (nQ (fun v t => some (.inl (ldO w)) = v ∧ τ = t)) := by
  intro n
  induction n with
  | zero =>
    intro i hi hi0 hf
    refine wc_iload_n dX1_leads_18 rfl ?_
    refine wc_bipush dX1_leads_19 (by decide) ?_
    refine wc_icmp dX1_leads_21 (cB_ge ⟨by omega, by omega⟩ ⟨by omega, by omega⟩) 41 rfl (fun c21 => ?_) (fun c21 => ?_)
    ·
      refine wc_bipush dX1_leads_41 (by decide) ?_
      refine wc_ireturn dX1_leads_43 rfl ?_
      refine ⟨?_, rfl⟩
      unfold ldO ledF
      rw [if_neg hn, ← hf]
      rfl
    ·
      omega
  | succ n ih =>
    intro i hi hi0 hf
    refine wc_iload_n dX1_leads_18 rfl ?_
    refine wc_bipush dX1_leads_19 (by decide) ?_
    refine wc_icmp dX1_leads_21 (cB_ge ⟨by omega, by omega⟩ ⟨by omega, by omega⟩) 41 rfl (fun c21 => ?_) (fun c21 => ?_)
    ·
      omega
    ·
      refine wc_aload_n dX1_leads_24 rfl ?_
      refine wc_getC dX1_leads_25 (kF1_21 rfl) rfl rfl ?_
      refine wc_iload_n dX1_leads_28 rfl ?_
      refine wc_aaload dX1_leads_29 rfl rfl rfl ⟨by omega, by omega⟩ rfl ?_
      refine wc_ifnull dX1_leads_30 (h.nn h0.2 (by omega)) 35 rfl (fun c30 => ?_) (fun c30 => ?_)
      ·
        refine wc_iinc dX1_leads_35 rfl ?_
        refine wc_goto dX1_leads_38 18 rfl ?_
        have e := h.notM h0.2 c30
        refine ih _ (by omega) (by omega) ?_
        rw [← hf]
        conv => rhs; unfold fstI
        rw [if_neg (by rw [decide_eq_true_eq]; exact e)]
      ·
        refine wc_iload_n dX1_leads_33 rfl ?_
        refine wc_ireturn dX1_leads_34 rfl ?_
        have e := h.isIn h0.2 ⟨hi0, by omega⟩ c30
        refine ⟨?_, rfl⟩
        unfold ldO ledF
        rw [if_neg hn, ← hf]
        unfold fstI
        rw [if_pos (decide_eq_true e), if_neg (by omega)]
theorem cc_leads (h : Wd w τ) (h0 : 0 ≤ w 0 ∧ w 0 ≤ 10) (hr : rng (w 1)) : Cf kap 2 rX1_leads [.inr 100] τ (some (.inl (ldO w))) τ := by
  intro d hd
  have e5 : sg τ 100 5 = ldC w := h.1.2.2.2.1
  have hld : rng (ldC w) := by unfold ldC; split <;> omega
  refine wc_aload_n dX1_leads_0 rfl ?_
  refine wc_aload_n dX1_leads_1 rfl ?_
  refine wc_getI dX1_leads_2 (kF1_34 rfl) rfl rfl ?_
  rw [e5]
  refine wc_call dX1_leads_5 rfl (cc_isMember h h0 hld) (by omega) (hx_V (kV1_66 rfl) rfl rfl rfl rfl) ?_
  rintro _ _ ⟨rfl, ⟨h5, rfl⟩ | ⟨h5, rfl⟩⟩
  ·
    refine wc_ifF dX1_leads_8 (by decide) 16 rfl ?_
    refine wc_aload_n dX1_leads_11 rfl ?_
    refine wc_getI dX1_leads_12 (kF1_34 rfl) rfl rfl ?_
    rw [e5]
    refine wc_ireturn dX1_leads_15 rfl ?_
    refine ⟨?_, rfl⟩
    have q : 0 ≤ w 1 := by
      have := h5.1.1
      unfold ldC at this
      split at this <;> omega
    have e : ldC w = w 1 := by unfold ldC; rw [if_neg (by omega)]
    rw [e] at h5 ⊢
    have el : ledF w = w 1 := by unfold ledF; rw [if_pos ⟨q, h5⟩]
    unfold ldO
    rw [el, if_neg (by omega)]
  ·
    refine wc_ifT dX1_leads_8 (by decide) 16 rfl ?_
    refine wc_iconst dX1_leads_16 ?_
    refine wc_istore_n dX1_leads_17 rfl ?_
    refine cc_leads_loop h h0 (fun q => h5 ?_) 10 0 (by omega) (by omega) rfl
    have e : ldC w = w 1 := by unfold ldC; rw [if_neg (by omega)]
    rw [e]
    exact q.2
theorem cc_isFree (h : Wd w τ) (hb : BitO w) (hc : 0 ≤ c ∧ c < 120) : Cb kap 0 rX1_isFree [.inr 100, .inl c] τ (¬ w (72 + c).toNat = 1 ∧ onF w c < 0) := by
  intro d hd
  have hbc := hb c hc.1 hc.2
  have hon := onF_rng w c
  have e1 := h.obs hc
  have e2 := h.at hc
  refine wc_aload_n dX1_isFree_0 rfl ?_
  refine wc_getC dX1_isFree_1 (kF1_9 rfl) rfl rfl ?_
  refine wc_iload_n dX1_isFree_4 rfl ?_
  refine wc_baload dX1_isFree_5 rfl rfl rfl ⟨by omega, by omega⟩ _ rfl ?_
  rw [e1]
  refine wc_if dX1_isFree_6 (cB_ne ⟨by omega, by omega⟩ ⟨by omega, by omega⟩) 22 rfl (fun c6 => ?_) (fun c6 => ?_)
  ·
    refine wc_iconst dX1_isFree_22 ?_
    refine wc_breturn dX1_isFree_23 rfl (by omega) ?_
    first | exact ⟨rfl, Or.inl ⟨by omega, rfl⟩⟩ | exact ⟨rfl, Or.inr ⟨by omega, rfl⟩⟩
  ·
    refine wc_aload_n dX1_isFree_9 rfl ?_
    refine wc_getC dX1_isFree_10 (kF1_15 rfl) rfl rfl ?_
    refine wc_iload_n dX1_isFree_13 rfl ?_
    refine wc_iaload dX1_isFree_14 rfl rfl rfl ⟨by omega, by omega⟩ _ rfl ?_
    rw [e2]
    refine wc_if dX1_isFree_15 (cB_ge ⟨by omega, by omega⟩ ⟨by omega, by omega⟩) 22 rfl (fun c15 => ?_) (fun c15 => ?_)
    ·
      refine wc_iconst dX1_isFree_22 ?_
      refine wc_breturn dX1_isFree_23 rfl (by omega) ?_
      first | exact ⟨rfl, Or.inl ⟨by omega, rfl⟩⟩ | exact ⟨rfl, Or.inr ⟨by omega, rfl⟩⟩
    ·
      refine wc_iconst dX1_isFree_18 ?_
      refine wc_goto dX1_isFree_19 23 rfl ?_
      refine wc_breturn dX1_isFree_23 rfl (by omega) ?_
      first | exact ⟨rfl, Or.inl ⟨by omega, rfl⟩⟩ | exact ⟨rfl, Or.inr ⟨by omega, rfl⟩⟩
end C2
