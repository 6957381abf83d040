/-! THE MODEL'S METHODS, 9: rounds, members added and lost, the leader, the target, obstacles, the choice -/
set_option maxRecDepth 100000
def LO (w w' : Nat → Int) : Prop := ∀ i, i < 258 → w' i = w i
theorem keepR_lo {τ : MT} (hc : 0 ≤ τ.1 1 ∧ τ.1 1 ≤ 8) : LO (τ.2 0) ((keepR τ).2 0) := fun i hi => by
  unfold keepR
  split
  · simp only [copyR, stI, shR]
    rw [if_neg (by omega), if_neg (by omega)]
  · simp only [copyR, stI]
    rw [if_neg (by omega)]
theorem keepR_o (τ : MT) : ∀ a, a ≠ 0 → (keepR τ).2 a = τ.2 a := fun a ha => by
  unfold keepR
  split
  · funext i; simp [copyR, stI, shR, ha]
  · funext i; simp [copyR, stI, ha]
theorem keepR_i (τ : MT) : ∀ j, j ≠ 1 → (keepR τ).1 j = τ.1 j := fun j hj => by
  unfold keepR
  split
  · simp [copyR, stI, shR, hj]
  · simp [copyR, stI, hj]
theorem keepR_bd {τ : MT} {C : Int} (h : bdW C (τ.2 0)) : bdW C ((keepR τ).2 0) := fun i => by
  unfold keepR
  split
  · simp only [copyR, stI, shR]
    split
    · split <;> exact h _
    · split <;> exact h _
  · simp only [copyR, stI]
    split <;> exact h _
theorem LO.cel {w w' : Nat → Int} (h : LO w w') {m : Int} (hm : m ≤ 9) : celF w' m = celF w m := h _ (by omega)
theorem LO.led {w w' : Nat → Int} (h : LO w w') (h0 : w 0 ≤ 10) : ledF w' = ledF w := ledF_congr (h 0 (by decide)) (h 1 (by decide)) h0 (fun m m0 m1 => by rw [h.cel m1])
theorem LO.isM {w w' : Nat → Int} (h : LO w w') (h0 : w 0 ≤ 10) (m : Int) : isM w' m ↔ isM w m := isM_congr (h 0 (by decide)) h0 (fun m m0 m1 => by rw [h.cel m1]) m
theorem LO.ws {w w' : Nat → Int} (h : LO w w') (s : WS w) : WS w' := by
  obtain ⟨h1, h2, h3, h4, h5, h6, h7⟩ := s
  have e3 : w' 3 = w 3 := h 3 (by decide)
  have es : sltF w' (w' 3) = sltF w (w 3) := by unfold sltF; rw [e3]; exact h _ (by omega)
  have ea : ancF w' (w' 3) = ancF w (w 3) := by unfold ancF; rw [e3]; exact h _ (by omega)
  refine ⟨by rw [h 0 (by decide)]; exact h1, by rw [e3]; exact h2, fun m m0 m1 => by rw [h.cel m1]; exact h3 m m0 m1, by rw [es]; exact h4, by rw [ea]; exact h5, fun k k0 k1 => ?_, by rw [h 2 (by decide)]; exact h7⟩
  rw [es] at k1
  have ec : colF w' (w' 3) k = colF w (w 3) k := by
    unfold colF
    rw [ea, e3, h _ (by omega), h _ (by omega)]
  have er : rowF w' (w' 3) k = rowF w (w 3) k := by
    unfold rowF
    rw [ea, e3, h _ (by omega), h _ (by omega)]
  rw [ec, er]
  exact h6 k k0 k1
def lyF (m : Int) : Nat → Int → (Nat → Int) → (Nat → Int)
  | 0, _, w => w
  | k + 1, i, w => lyF m k (i + 1) (updW w (12 + 6 * m + i).toNat 0)
def opnF (w : Nat → Int) (c : Int) : Nat → Int :=
  cntW (updW (updW (lyF (w 0) 6 0 (updW w 0 (w 0 + 1))) (12 + 6 * w 0 + 0).toNat c) (12 + 6 * w 0 + 5).toNat (-5)) 7
def losF (w : Nat → Int) (m : Int) : Nat → Int := cntW (updW w (12 + 6 * m + 0).toNat (-1)) 5
def trnF (w : Nat → Int) (c : Int) : Nat → Int := updW w (72 + c).toNat (1 - w (72 + c).toNat)
section M13
variable {τ : MT} {m c v x y z b n dd : Int} {d : Nat} {Q : Option Int → MT → Prop}
theorem mc_rounds {C : Int} (hc8 : 0 ≤ τ.1 1 ∧ τ.1 1 ≤ 8) (hn : rng n) (hC : 300 ≤ C ∧ C + 4000 < 1999999000) (hb : bdW C (τ.2 0)) (hS : WS (τ.2 0)) (hf : HF τ) : Mt 9 rX3_rounds [.inr 1, .inl n] τ (fun v t => (¬ (1 ≤ n ∧ n ≤ 40) ∧ some (-2) = v ∧ τ = t) ∨ ((1 ≤ n ∧ n ≤ 40) ∧ ledF (τ.2 0) < 0 ∧ some (-3) = v ∧ τ = t) ∨ ((1 ≤ n ∧ n ≤ 40) ∧ 0 ≤ ledF (τ.2 0) ∧ some (movF (rndsF n.toNat ((keepR τ).2 0)) (cwF ((keepR τ).2 0)) 10 0) = v ∧ t.2 0 = rndsF n.toNat ((keepR τ).2 0) ∧ SW ((keepR τ).2 0) (t.2 0) ∧ bdW (C + 4000) (t.2 0) ∧ FrM (keepR τ) t ∧ HF t)) := by
  intro d hd
  have hlo := keepR_lo hc8
  have hlr := ledF_rng (τ.2 0) hS.1.2
  refine wm_iload_n dX3_rounds_0 rfl ?_
  refine wm_iconst dX3_rounds_1 ?_
  refine wm_bipush dX3_rounds_2 (by decide) ?_
  refine wm_calls dX3_rounds_4 (kS3_57 rfl) (kSn3_57 rfl) (mc_in hn (by omega) (by omega)) (by omega) rfl rfl ?_
  rintro _ _ ⟨rfl, ⟨h4, rfl⟩ | ⟨h4, rfl⟩⟩
  ·
    refine wm_ifT dX3_rounds_7 (by decide) 13 rfl ?_
    refine wm_aload_n dX3_rounds_13 rfl ?_
    refine wm_callv dX3_rounds_14 (kV3_85 rfl) rfl (mc_leader hS.1 (hb.rng (by omega))) (by omega) rfl rfl ?_
    rintro _ _ ⟨rfl, rfl⟩
    refine wm_if dX3_rounds_17 (cB_ge ⟨by omega, by omega⟩ ⟨by omega, by omega⟩) 23 rfl (fun c17 => ?_) (fun c17 => ?_)
    ·
      refine wm_aload_n dX3_rounds_23 rfl ?_
      refine wm_callv dX3_rounds_24 (kV3_151 rfl) rfl (mc_keeps hc8) (by omega) rfl rfl ?_
      rintro _ _ ⟨rfl, rfl⟩
      refine wm_aload_n dX3_rounds_27 rfl ?_
      refine wm_iload_n dX3_rounds_28 rfl ?_
      refine wm_callv dX3_rounds_29 (kV3_154 rfl) rfl (mc_makes (C := C) (by omega) (by omega) (keepR_bd hb) (hlo.ws hS) (by rw [hlo.led hS.1.2]; omega) (hf.other (keepR_o τ 3 (by decide)))) (by omega) rfl rfl ?_
      rintro _ _ ⟨rfl, r1, r2, r3, r4, r5⟩
      refine wm_ireturn dX3_rounds_32 rfl ?_
      exact Or.inr (Or.inr ⟨h4, by omega, rfl, r1, r2, r3.mono (by omega), r4, r5⟩)
    ·
      refine wm_bipush dX3_rounds_20 (by decide) ?_
      refine wm_ireturn dX3_rounds_22 rfl ?_
      exact Or.inr (Or.inl ⟨h4, by omega, rfl, rfl⟩)
  ·
    refine wm_ifF dX3_rounds_7 (by decide) 13 rfl ?_
    refine wm_bipush dX3_rounds_10 (by decide) ?_
    refine wm_ireturn dX3_rounds_12 rfl ?_
    exact Or.inl ⟨h4, rfl, rfl⟩
theorem mc_opens_19 (hd : 1 ≤ d) (hm : 0 ≤ m ∧ m ≤ 9) : ∀ (k : Nat) (i : Int) (w : Nat → Int), i + k = 6 → 0 ≤ i → Wm d rX3_opens 38 [some (.inr 1), some (.inl c), some (.inl m), some (.inl 6)] [] (setW τ (lyF m k i w)) Q → Wm d rX3_opens 19 [some (.inr 1), some (.inl c), some (.inl m), some (.inl i)] [] (setW τ w) Q := by
  intro k
  induction k with
  | zero =>
    intro i w hi h0 K
    have e : i = 6 := by omega
    subst e
    refine wm_iload_n dX3_opens_19 rfl ?_
    refine wm_bipush dX3_opens_20 (by decide) ?_
    refine wm_icmp dX3_opens_22 (cB_ge ⟨by omega, by omega⟩ ⟨by omega, by omega⟩) 38 rfl (fun c22 => ?_) (fun c22 => ?_)
    ·
      exact K
    ·
      omega
  | succ k ih =>
    intro i w hi h0 K
    refine wm_iload_n dX3_opens_19 rfl ?_
    refine wm_bipush dX3_opens_20 (by decide) ?_
    refine wm_icmp dX3_opens_22 (cB_ge ⟨by omega, by omega⟩ ⟨by omega, by omega⟩) 38 rfl (fun c22 => ?_) (fun c22 => ?_)
    ·
      omega
    ·
      refine wm_aload_n dX3_opens_25 rfl ?_
      refine wm_iload_n dX3_opens_26 rfl ?_
      refine wm_iload_n dX3_opens_27 rfl ?_
      refine wm_iconst dX3_opens_28 ?_
      refine wm_callv dX3_opens_29 (kV3_114 rfl) rfl (mc_layW (by omega)) (by omega) rfl rfl ?_
      rintro _ _ ⟨rfl, rfl⟩
      refine wm_iinc dX3_opens_32 rfl ?_
      refine wm_goto dX3_opens_35 19 rfl ?_
      exact ih (i + 1) _ (by omega) (by omega) K
theorem mc_opens (h0 : 0 ≤ τ.2 0 0 ∧ τ.2 0 0 ≤ 9) : Mf 2 rX3_opens [.inr 1, .inl c] τ (some (τ.2 0 0)) (setW τ (opnF (τ.2 0) c)) := by
  intro d hd
  refine wm_aload_n dX3_opens_0 rfl ?_
  refine wm_getA dX3_opens_1 (kF3_9 rfl) rfl ?_
  refine wm_iconst dX3_opens_4 ?_
  refine wm_iaload dX3_opens_5 rfl ⟨by omega, by omega⟩ 0 rfl ?_
  refine wm_istore_n dX3_opens_6 rfl ?_
  refine wm_aload_n dX3_opens_7 rfl ?_
  refine wm_getA dX3_opens_8 (kF3_9 rfl) rfl ?_
  refine wm_iconst dX3_opens_11 ?_
  refine wm_dup2 dX3_opens_12 ?_
  refine wm_iaload dX3_opens_13 rfl ⟨by omega, by omega⟩ _ rfl ?_
  refine wm_iconst dX3_opens_14 ?_
  refine wm_iadd dX3_opens_15 ?_
  refine wm_iastore dX3_opens_16 rfl ⟨by omega, by omega⟩ _ rfl ?_
  refine wm_iconst dX3_opens_17 ?_
  rw [stA_setW]
  refine wm_istore_n dX3_opens_18 rfl ?_
  refine mc_opens_19 (by omega) h0 6 0 _ (by omega) (by omega) ?_
  refine wm_aload_n dX3_opens_38 rfl ?_
  refine wm_iload_n dX3_opens_39 rfl ?_
  refine wm_iconst dX3_opens_40 ?_
  refine wm_iload_n dX3_opens_41 rfl ?_
  refine wm_callv dX3_opens_42 (kV3_114 rfl) rfl (mc_layW (by omega)) (by omega) rfl rfl ?_
  rintro _ _ ⟨rfl, rfl⟩
  refine wm_aload_n dX3_opens_45 rfl ?_
  refine wm_iload_n dX3_opens_46 rfl ?_
  refine wm_iconst dX3_opens_47 ?_
  refine wm_bipush dX3_opens_48 (by decide) ?_
  refine wm_callv dX3_opens_50 (kV3_114 rfl) rfl (mc_layW (by omega)) (by omega) rfl rfl ?_
  rintro _ _ ⟨rfl, rfl⟩
  refine wm_aload_n dX3_opens_53 rfl ?_
  refine wm_bipush dX3_opens_54 (by decide) ?_
  refine wm_iconst dX3_opens_56 ?_
  refine wm_callv dX3_opens_57 (kV3_118 rfl) rfl (mc_countW (by omega)) (by omega) rfl rfl ?_
  rintro _ _ ⟨rfl, rfl⟩
  refine wm_iload_n dX3_opens_60 rfl ?_
  refine wm_ireturn dX3_opens_61 rfl ?_
  exact ⟨rfl, rfl⟩
theorem mc_goesLost {C : Int} (hm : 0 ≤ m ∧ m ≤ 9) (h0 : 0 ≤ τ.2 0 0 ∧ τ.2 0 0 ≤ 10) (hC : 1 ≤ C ∧ C < 2000000000) (hb : bdW C (τ.2 0)) : Mf 3 rX3_goesLost [.inr 1, .inl m] τ (some (manyF (losF (τ.2 0) m))) (setW τ (losF (τ.2 0) m)) := by
  intro d hd
  have hb2 : bdW (C + 1) (losF (τ.2 0) m) := by unfold losF; exact (hb.upd (by omega)).cnt
  have e0 : losF (τ.2 0) m 0 = τ.2 0 0 := by unfold losF cntW; rw [upd_ne (by omega), upd_ne (by omega)]
  refine wm_aload_n dX3_goesLost_0 rfl ?_
  refine wm_iload_n dX3_goesLost_1 rfl ?_
  refine wm_iconst dX3_goesLost_2 ?_
  refine wm_iconst dX3_goesLost_3 ?_
  refine wm_callv dX3_goesLost_4 (kV3_114 rfl) rfl (mc_layW (by omega)) (by omega) rfl rfl ?_
  rintro _ _ ⟨rfl, rfl⟩
  refine wm_aload_n dX3_goesLost_7 rfl ?_
  refine wm_iconst dX3_goesLost_8 ?_
  refine wm_iconst dX3_goesLost_9 ?_
  refine wm_callv dX3_goesLost_10 (kV3_118 rfl) rfl (mc_countW (by omega)) (by omega) rfl rfl ?_
  rintro _ _ ⟨rfl, rfl⟩
  refine wm_aload_n dX3_goesLost_13 rfl ?_
  refine wm_callv dX3_goesLost_14 (kV3_157 rfl) rfl (mc_members (τ := setW τ (losF (τ.2 0) m)) (by show 0 ≤ losF (τ.2 0) m 0 ∧ losF (τ.2 0) m 0 ≤ 10; rw [e0]; exact h0) (hb2.rng (by omega))) (by omega) rfl rfl ?_
  rintro _ _ ⟨rfl, rfl⟩
  refine wm_ireturn dX3_goesLost_17 rfl ?_
  exact ⟨rfl, rfl⟩
theorem mc_turnsBlocked (hc : 0 ≤ c ∧ c < 120) : Mf 0 rX3_turnsBlocked [.inr 1, .inl c] τ (some (trnF (τ.2 0) c (72 + c).toNat)) (setW τ (trnF (τ.2 0) c)) := by
  intro d hd
  refine wm_aload_n dX3_turnsBlocked_0 rfl ?_
  refine wm_getA dX3_turnsBlocked_1 (kF3_9 rfl) rfl ?_
  refine wm_bipush dX3_turnsBlocked_4 (by decide) ?_
  refine wm_iload_n dX3_turnsBlocked_6 rfl ?_
  refine wm_iadd dX3_turnsBlocked_7 ?_
  refine wm_iconst dX3_turnsBlocked_8 ?_
  refine wm_aload_n dX3_turnsBlocked_9 rfl ?_
  refine wm_getA dX3_turnsBlocked_10 (kF3_9 rfl) rfl ?_
  refine wm_bipush dX3_turnsBlocked_13 (by decide) ?_
  refine wm_iload_n dX3_turnsBlocked_15 rfl ?_
  refine wm_iadd dX3_turnsBlocked_16 ?_
  refine wm_iaload dX3_turnsBlocked_17 rfl ⟨by omega, by omega⟩ _ rfl ?_
  refine wm_isub dX3_turnsBlocked_18 ?_
  refine wm_iastore dX3_turnsBlocked_19 rfl ⟨by omega, by omega⟩ _ rfl ?_
  rw [stA_setW]
  refine wm_aload_n dX3_turnsBlocked_20 rfl ?_
  refine wm_getA dX3_turnsBlocked_21 (kF3_9 rfl) rfl ?_
  refine wm_bipush dX3_turnsBlocked_24 (by decide) ?_
  refine wm_iload_n dX3_turnsBlocked_26 rfl ?_
  refine wm_iadd dX3_turnsBlocked_27 ?_
  refine wm_iaload dX3_turnsBlocked_28 rfl ⟨by omega, by omega⟩ _ rfl ?_
  refine wm_ireturn dX3_turnsBlocked_29 rfl ?_
  exact ⟨rfl, rfl⟩
/-- the answers of 'add' -/
theorem mc_add {C : Int} (hc8 : 0 ≤ τ.1 1 ∧ τ.1 1 ≤ 8) (hx : rng x) (hy : rng y) (hC : 300 ≤ C ∧ C < 1999999000) (hb : bdW C (τ.2 0)) (hS : WS (τ.2 0)) : Mt 3 rX3_add [.inr 1, .inl x, .inl y] τ (fun v t =>
    (¬ ((0 ≤ x ∧ x ≤ 11) ∧ 0 ≤ y ∧ y ≤ 9) ∧ some (-2) = v ∧ τ = t) ∨ (((0 ≤ x ∧ x ≤ 11) ∧ 0 ≤ y ∧ y ≤ 9) ∧
    ((τ.2 0 (72 + (12 * y + x)).toNat = 1 ∨ 0 ≤ onF (τ.2 0) (12 * y + x)) ∧ some (-3) = v ∧ τ = t ∨
    (¬ τ.2 0 (72 + (12 * y + x)).toNat = 1 ∧ onF (τ.2 0) (12 * y + x) < 0) ∧ (τ.2 0 0 = 10 ∧ some (-4) = v ∧ τ = t ∨
    ¬ τ.2 0 0 = 10 ∧ some (τ.2 0 0) = v ∧ setW (keepR τ) (opnF ((keepR τ).2 0) (12 * y + x)) = t)))) := by
  intro d hd
  have hr := hb.rng (by omega)
  have hlo := keepR_lo hc8
  have e0 := hlo 0 (by decide)
  have hS1 := hS.1
  have hon := onF_rng (τ.2 0) (12 * y + x)
  refine wm_iload_n dX3_add_0 rfl ?_
  refine wm_iconst dX3_add_1 ?_
  refine wm_bipush dX3_add_2 (by decide) ?_
  refine wm_calls dX3_add_4 (kS3_57 rfl) (kSn3_57 rfl) (mc_in hx (by omega) (by omega)) (by omega) rfl rfl ?_
  rintro _ _ ⟨rfl, ⟨h4, rfl⟩ | ⟨h4, rfl⟩⟩
  ·
    refine wm_ifF dX3_add_7 (by decide) 20 rfl ?_
    refine wm_iload_n dX3_add_10 rfl ?_
    refine wm_iconst dX3_add_11 ?_
    refine wm_bipush dX3_add_12 (by decide) ?_
    refine wm_calls dX3_add_14 (kS3_57 rfl) (kSn3_57 rfl) (mc_in hy (by omega) (by omega)) (by omega) rfl rfl ?_
    rintro _ _ ⟨rfl, ⟨h14, rfl⟩ | ⟨h14, rfl⟩⟩
    ·
      refine wm_ifT dX3_add_17 (by decide) 23 rfl ?_
      refine wm_bipush dX3_add_23 (by decide) ?_
      refine wm_iload_n dX3_add_25 rfl ?_
      refine wm_imul dX3_add_26 ?_
      refine wm_iload_n dX3_add_27 rfl ?_
      refine wm_iadd dX3_add_28 ?_
      refine wm_istore_n dX3_add_29 rfl ?_
      refine wm_aload_n dX3_add_30 rfl ?_
      refine wm_iload_n dX3_add_31 rfl ?_
      refine wm_callv dX3_add_32 (kV3_69 rfl) rfl (mc_isBlocked (by omega) (hr _)) (by omega) rfl rfl ?_
      rintro _ _ ⟨rfl, ⟨h32, rfl⟩ | ⟨h32, rfl⟩⟩
      ·
        refine wm_ifT dX3_add_35 (by decide) 46 rfl ?_
        refine wm_bipush dX3_add_46 (by decide) ?_
        refine wm_ireturn dX3_add_48 rfl ?_
        exact Or.inr ⟨⟨h4, h14⟩, Or.inl ⟨Or.inl h32, rfl, rfl⟩⟩
      ·
        refine wm_ifF dX3_add_35 (by decide) 46 rfl ?_
        refine wm_aload_n dX3_add_38 rfl ?_
        refine wm_iload_n dX3_add_39 rfl ?_
        refine wm_callv dX3_add_40 (kV3_121 rfl) rfl (mc_on (by omega) hS.1 hr) (by omega) rfl rfl ?_
        rintro _ _ ⟨rfl, rfl⟩
        refine wm_if dX3_add_43 (cB_lt ⟨by omega, by omega⟩ ⟨by omega, by omega⟩) 49 rfl (fun c43 => ?_) (fun c43 => ?_)
        ·
          refine wm_aload_n dX3_add_49 rfl ?_
          refine wm_getA dX3_add_50 (kF3_9 rfl) rfl ?_
          refine wm_iconst dX3_add_53 ?_
          refine wm_iaload dX3_add_54 rfl ⟨by omega, by omega⟩ 0 rfl ?_
          refine wm_bipush dX3_add_55 (by decide) ?_
          refine wm_icmp dX3_add_57 (cB_ne ⟨by omega, by omega⟩ ⟨by omega, by omega⟩) 63 rfl (fun c57 => ?_) (fun c57 => ?_)
          ·
            refine wm_aload_n dX3_add_63 rfl ?_
            refine wm_callv dX3_add_64 (kV3_151 rfl) rfl (mc_keeps hc8) (by omega) rfl rfl ?_
            rintro _ _ ⟨rfl, rfl⟩
            refine wm_aload_n dX3_add_67 rfl ?_
            refine wm_iload_n dX3_add_68 rfl ?_
            refine wm_callv dX3_add_69 (kV3_160 rfl) rfl (mc_opens (by rw [e0]; omega)) (by omega) rfl rfl ?_
            rintro _ _ ⟨rfl, rfl⟩
            refine wm_ireturn dX3_add_72 rfl ?_
            exact Or.inr ⟨⟨h4, h14⟩, Or.inr ⟨⟨h32, c43⟩, Or.inr ⟨c57, by rw [e0], rfl⟩⟩⟩
          ·
            refine wm_bipush dX3_add_60 (by decide) ?_
            refine wm_ireturn dX3_add_62 rfl ?_
            exact Or.inr ⟨⟨h4, h14⟩, Or.inr ⟨⟨h32, c43⟩, Or.inl ⟨by omega, rfl, rfl⟩⟩⟩
        ·
          refine wm_bipush dX3_add_46 (by decide) ?_
          refine wm_ireturn dX3_add_48 rfl ?_
          exact Or.inr ⟨⟨h4, h14⟩, Or.inl ⟨Or.inr (by omega), rfl, rfl⟩⟩
    ·
      refine wm_ifF dX3_add_17 (by decide) 23 rfl ?_
      refine wm_bipush dX3_add_20 (by decide) ?_
      refine wm_ireturn dX3_add_22 rfl ?_
      exact Or.inl ⟨fun h => h14 h.2, rfl, rfl⟩
  ·
    refine wm_ifT dX3_add_7 (by decide) 20 rfl ?_
    refine wm_bipush dX3_add_20 (by decide) ?_
    refine wm_ireturn dX3_add_22 rfl ?_
    exact Or.inl ⟨fun h => h4 h.1, rfl, rfl⟩
theorem mc_lose {C : Int} (hc8 : 0 ≤ τ.1 1 ∧ τ.1 1 ≤ 8) (hm : rng m) (hC : 300 ≤ C ∧ C < 1999999000) (hb : bdW C (τ.2 0)) (hS : WS (τ.2 0)) : Mt 4 rX3_lose [.inr 1, .inl m] τ (fun v t => (¬ isM (τ.2 0) m ∧ some (-1) = v ∧ τ = t) ∨ (isM (τ.2 0) m ∧ some (manyF (losF ((keepR τ).2 0) m)) = v ∧ setW (keepR τ) (losF ((keepR τ).2 0) m) = t)) := by
  intro d hd
  have hr := hb.rng (by omega)
  have hlo := keepR_lo hc8
  have hS1 := hS.1
  refine wm_aload_n dX3_lose_0 rfl ?_
  refine wm_iload_n dX3_lose_1 rfl ?_
  refine wm_callv dX3_lose_2 (kV3_65 rfl) rfl (mc_isMember hm hS.1 hr) (by omega) rfl rfl ?_
  rintro _ _ ⟨rfl, ⟨h2, rfl⟩ | ⟨h2, rfl⟩⟩
  ·
    refine wm_ifT dX3_lose_5 (by decide) 10 rfl ?_
    refine wm_aload_n dX3_lose_10 rfl ?_
    refine wm_callv dX3_lose_11 (kV3_151 rfl) rfl (mc_keeps hc8) (by omega) rfl rfl ?_
    rintro _ _ ⟨rfl, rfl⟩
    refine wm_aload_n dX3_lose_14 rfl ?_
    refine wm_iload_n dX3_lose_15 rfl ?_
    refine wm_callv dX3_lose_16 (kV3_163 rfl) rfl (mc_goesLost (C := C) (by have := h2.1; omega) (hlo.ws hS).1 (by omega) (keepR_bd hb)) (by omega) rfl rfl ?_
    rintro _ _ ⟨rfl, rfl⟩
    refine wm_ireturn dX3_lose_19 rfl ?_
    exact Or.inr ⟨h2, rfl, rfl⟩
  ·
    refine wm_ifF dX3_lose_5 (by decide) 10 rfl ?_
    refine wm_iconst dX3_lose_8 ?_
    refine wm_ireturn dX3_lose_9 rfl ?_
    exact Or.inl ⟨h2, rfl, rfl⟩
theorem mc_lead {C : Int} (hc8 : 0 ≤ τ.1 1 ∧ τ.1 1 ≤ 8) (hm : rng m) (hC : 300 ≤ C ∧ C < 1999999000) (hb : bdW C (τ.2 0)) (hS : WS (τ.2 0)) : Mt 4 rX3_lead [.inr 1, .inl m] τ (fun v t => (¬ isM (τ.2 0) m ∧ some (-1) = v ∧ τ = t) ∨ (isM (τ.2 0) m ∧ some (ledF (τ.2 0)) = v ∧ setW (keepR τ) (updW ((keepR τ).2 0) 1 m) = t)) := by
  intro d hd
  have hr := hb.rng (by omega)
  have hlo := keepR_lo hc8
  refine wm_aload_n dX3_lead_0 rfl ?_
  refine wm_iload_n dX3_lead_1 rfl ?_
  refine wm_callv dX3_lead_2 (kV3_65 rfl) rfl (mc_isMember hm hS.1 hr) (by omega) rfl rfl ?_
  rintro _ _ ⟨rfl, ⟨h2, rfl⟩ | ⟨h2, rfl⟩⟩
  ·
    refine wm_ifT dX3_lead_5 (by decide) 10 rfl ?_
    refine wm_aload_n dX3_lead_10 rfl ?_
    refine wm_callv dX3_lead_11 (kV3_151 rfl) rfl (mc_keeps hc8) (by omega) rfl rfl ?_
    rintro _ _ ⟨rfl, rfl⟩
    refine wm_aload_n dX3_lead_14 rfl ?_
    refine wm_callv dX3_lead_15 (kV3_85 rfl) rfl (mc_leader (hlo.ws hS).1 ((keepR_bd hb).rng (by omega))) (by omega) rfl rfl ?_
    rintro _ _ ⟨rfl, rfl⟩
    rw [hlo.led hS.1.2]
    refine wm_istore_n dX3_lead_18 rfl ?_
    refine wm_aload_n dX3_lead_19 rfl ?_
    refine wm_getA dX3_lead_20 (kF3_9 rfl) rfl ?_
    refine wm_iconst dX3_lead_23 ?_
    refine wm_iload_n dX3_lead_24 rfl ?_
    refine wm_iastore dX3_lead_25 rfl ⟨by omega, by omega⟩ _ rfl ?_
    rw [stA_setW]
    refine wm_iload_n dX3_lead_26 rfl ?_
    refine wm_ireturn dX3_lead_27 rfl ?_
    exact Or.inr ⟨h2, rfl, rfl⟩
  ·
    refine wm_ifF dX3_lead_5 (by decide) 10 rfl ?_
    refine wm_iconst dX3_lead_8 ?_
    refine wm_ireturn dX3_lead_9 rfl ?_
    exact Or.inl ⟨h2, rfl, rfl⟩
theorem mc_target {C : Int} (hc8 : 0 ≤ τ.1 1 ∧ τ.1 1 ≤ 8) (hc : rng c) (hC : 300 ≤ C ∧ C < 1999999000) (hb : bdW C (τ.2 0)) : Mt 2 rX3_target [.inr 1, .inl c] τ (fun v t => (¬ (-1 ≤ c ∧ c ≤ 119) ∧ some (-2) = v ∧ τ = t) ∨ ((-1 ≤ c ∧ c ≤ 119) ∧ some (if τ.2 0 2 < 0 then -5 else τ.2 0 2) = v ∧ setW (keepR τ) (updW ((keepR τ).2 0) 2 c) = t)) := by
  intro d hd
  have hlo := keepR_lo hc8
  have e2 := hlo 2 (by decide)
  have hr := (keepR_bd hb).rng (by omega)
  refine wm_iload_n dX3_target_0 rfl ?_
  refine wm_iconst dX3_target_1 ?_
  refine wm_bipush dX3_target_2 (by decide) ?_
  refine wm_calls dX3_target_4 (kS3_57 rfl) (kSn3_57 rfl) (mc_in hc (by omega) (by omega)) (by omega) rfl rfl ?_
  rintro _ _ ⟨rfl, ⟨h4, rfl⟩ | ⟨h4, rfl⟩⟩
  ·
    refine wm_ifT dX3_target_7 (by decide) 13 rfl ?_
    refine wm_aload_n dX3_target_13 rfl ?_
    refine wm_callv dX3_target_14 (kV3_151 rfl) rfl (mc_keeps hc8) (by omega) rfl rfl ?_
    rintro _ _ ⟨rfl, rfl⟩
    refine wm_aload_n dX3_target_17 rfl ?_
    refine wm_getA dX3_target_18 (kF3_9 rfl) rfl ?_
    refine wm_iconst dX3_target_21 ?_
    refine wm_iaload dX3_target_22 rfl ⟨by omega, by omega⟩ 2 rfl ?_
    refine wm_istore_n dX3_target_23 rfl ?_
    refine wm_aload_n dX3_target_24 rfl ?_
    refine wm_getA dX3_target_25 (kF3_9 rfl) rfl ?_
    refine wm_iconst dX3_target_28 ?_
    refine wm_iload_n dX3_target_29 rfl ?_
    refine wm_iastore dX3_target_30 rfl ⟨by omega, by omega⟩ _ rfl ?_
    rw [stA_setW]
    refine wm_iload_n dX3_target_31 rfl ?_
    refine wm_if dX3_target_32 (cB_ge (hr _) ⟨by omega, by omega⟩) 40 rfl (fun c32 => ?_) (fun c32 => ?_)
    ·
      refine wm_iload_n dX3_target_40 rfl ?_
      refine wm_ireturn dX3_target_41 rfl ?_
      exact Or.inr ⟨h4, by rw [← e2, if_neg (by omega)], rfl⟩
    ·
      refine wm_bipush dX3_target_35 (by decide) ?_
      refine wm_goto dX3_target_37 41 rfl ?_
      refine wm_ireturn dX3_target_41 rfl ?_
      exact Or.inr ⟨h4, by rw [← e2, if_pos (by omega)], rfl⟩
  ·
    refine wm_ifF dX3_target_7 (by decide) 13 rfl ?_
    refine wm_bipush dX3_target_10 (by decide) ?_
    refine wm_ireturn dX3_target_12 rfl ?_
    exact Or.inl ⟨h4, rfl, rfl⟩
theorem mc_obstacle {C : Int} (hc8 : 0 ≤ τ.1 1 ∧ τ.1 1 ≤ 8) (hc : rng c) (hC : 300 ≤ C ∧ C < 1999999000) (hb : bdW C (τ.2 0)) (hS : WS (τ.2 0)) : Mt 3 rX3_obstacle [.inr 1, .inl c] τ (fun v t => (¬ (0 ≤ c ∧ c ≤ 119) ∧ some (-1) = v ∧ τ = t) ∨ ((0 ≤ c ∧ c ≤ 119) ∧ 0 ≤ onF (τ.2 0) c ∧ some (-3) = v ∧ τ = t) ∨ ((0 ≤ c ∧ c ≤ 119) ∧ onF (τ.2 0) c < 0 ∧ some (trnF ((keepR τ).2 0) c (72 + c).toNat) = v ∧ setW (keepR τ) (trnF ((keepR τ).2 0) c) = t)) := by
  intro d hd
  have hr := hb.rng (by omega)
  have hon := onF_rng (τ.2 0) c
  refine wm_iload_n dX3_obstacle_0 rfl ?_
  refine wm_calls dX3_obstacle_1 (kS3_166 rfl) (kSn3_166 rfl) (mc_isCell hc) (by omega) rfl rfl ?_
  rintro _ _ ⟨rfl, ⟨h1, rfl⟩ | ⟨h1, rfl⟩⟩
  ·
    refine wm_ifT dX3_obstacle_4 (by decide) 9 rfl ?_
    refine wm_aload_n dX3_obstacle_9 rfl ?_
    refine wm_iload_n dX3_obstacle_10 rfl ?_
    refine wm_callv dX3_obstacle_11 (kV3_121 rfl) rfl (mc_on hc hS.1 hr) (by omega) rfl rfl ?_
    rintro _ _ ⟨rfl, rfl⟩
    refine wm_if dX3_obstacle_14 (cB_lt ⟨by omega, by omega⟩ ⟨by omega, by omega⟩) 20 rfl (fun c14 => ?_) (fun c14 => ?_)
    ·
      refine wm_aload_n dX3_obstacle_20 rfl ?_
      refine wm_callv dX3_obstacle_21 (kV3_151 rfl) rfl (mc_keeps hc8) (by omega) rfl rfl ?_
      rintro _ _ ⟨rfl, rfl⟩
      refine wm_aload_n dX3_obstacle_24 rfl ?_
      refine wm_iload_n dX3_obstacle_25 rfl ?_
      refine wm_callv dX3_obstacle_26 (kV3_169 rfl) rfl (mc_turnsBlocked (by omega)) (by omega) rfl rfl ?_
      rintro _ _ ⟨rfl, rfl⟩
      refine wm_ireturn dX3_obstacle_29 rfl ?_
      exact Or.inr (Or.inr ⟨h1, c14, rfl, rfl⟩)
    ·
      refine wm_bipush dX3_obstacle_17 (by decide) ?_
      refine wm_ireturn dX3_obstacle_19 rfl ?_
      exact Or.inr (Or.inl ⟨h1, by omega, rfl, rfl⟩)
  ·
    refine wm_ifF dX3_obstacle_4 (by decide) 9 rfl ?_
    refine wm_iconst dX3_obstacle_7 ?_
    refine wm_ireturn dX3_obstacle_8 rfl ?_
    exact Or.inl ⟨h1, rfl, rfl⟩
theorem mc_choose (hc8 : 0 ≤ τ.1 1 ∧ τ.1 1 ≤ 8) (hx : rng x) : Mt 2 rX3_choose [.inr 1, .inl x] τ (fun v t => (¬ (0 ≤ x ∧ x ≤ 2) ∧ some (-1) = v ∧ τ = t) ∨ ((0 ≤ x ∧ x ≤ 2) ∧ some (τ.2 0 3) = v ∧ setW (keepR τ) (updW ((keepR τ).2 0) 3 x) = t)) := by
  intro d hd
  have hlo := keepR_lo hc8
  have e3 := hlo 3 (by decide)
  refine wm_iload_n dX3_choose_0 rfl ?_
  refine wm_iconst dX3_choose_1 ?_
  refine wm_iconst dX3_choose_2 ?_
  refine wm_calls dX3_choose_3 (kS3_57 rfl) (kSn3_57 rfl) (mc_in hx (by omega) (by omega)) (by omega) rfl rfl ?_
  rintro _ _ ⟨rfl, ⟨h3, rfl⟩ | ⟨h3, rfl⟩⟩
  ·
    refine wm_ifT dX3_choose_6 (by decide) 11 rfl ?_
    refine wm_aload_n dX3_choose_11 rfl ?_
    refine wm_callv dX3_choose_12 (kV3_151 rfl) rfl (mc_keeps hc8) (by omega) rfl rfl ?_
    rintro _ _ ⟨rfl, rfl⟩
    refine wm_aload_n dX3_choose_15 rfl ?_
    refine wm_getA dX3_choose_16 (kF3_9 rfl) rfl ?_
    refine wm_iconst dX3_choose_19 ?_
    refine wm_iaload dX3_choose_20 rfl ⟨by omega, by omega⟩ 3 rfl ?_
    refine wm_istore_n dX3_choose_21 rfl ?_
    refine wm_aload_n dX3_choose_22 rfl ?_
    refine wm_getA dX3_choose_23 (kF3_9 rfl) rfl ?_
    refine wm_iconst dX3_choose_26 ?_
    refine wm_iload_n dX3_choose_27 rfl ?_
    refine wm_iastore dX3_choose_28 rfl ⟨by omega, by omega⟩ _ rfl ?_
    rw [stA_setW]
    refine wm_iload_n dX3_choose_29 rfl ?_
    refine wm_ireturn dX3_choose_30 rfl ?_
    exact Or.inr ⟨h3, by rw [e3], rfl⟩
  ·
    refine wm_ifF dX3_choose_6 (by decide) 11 rfl ?_
    refine wm_iconst dX3_choose_9 ?_
    refine wm_ireturn dX3_choose_10 rfl ?_
    exact Or.inl ⟨h3, rfl, rfl⟩
end M13
