/-! THE CLASS'S METHODS, 40: turns, obstacle -/
set_option maxRecDepth 100000
section TRN2
variable {w w' : Nat → Int} {R : Nat → Nat → Int} {τ t u t4 : CT} {m c v C : Int} {d x y n i j k a b s : Nat} {Q : Option AV → CT → Prop}
theorem cc_turns (h : SI w C t) (hc : 0 ≤ c ∧ c < 120) : Cf kap 1 rX0_turns [.inr 10, .inl c] t (some (.inl (1 - w (72 + c).toNat))) (trnC t w c) := by
  intro d hd
  have e1 : sg t 101 c.toNat = w (72 + c).toNat := (h.1.1.1.1 c hc.1 hc.2).1
  have e6 : sg t 105 6 = oF w 120 0 := h.1.1.1.2.2.1 6 (by decide) (by decide)
  have hb := h.2.1.2.2.1 c hc.1 hc.2
  have ho := oF_trn (w := w) hc
  refine wc_aload_n dX0_turns_0 rfl ?_
  refine wc_getC dX0_turns_1 (kF0_19 rfl) rfl rfl ?_
  refine wc_getC dX0_turns_4 (kF0_23 rfl) rfl rfl ?_
  refine wc_iload_n dX0_turns_7 rfl ?_
  refine wc_aload_n dX0_turns_8 rfl ?_
  refine wc_getC dX0_turns_9 (kF0_19 rfl) rfl rfl ?_
  refine wc_getC dX0_turns_12 (kF0_23 rfl) rfl rfl ?_
  refine wc_iload_n dX0_turns_15 rfl ?_
  refine wc_baload dX0_turns_16 rfl rfl rfl ⟨by omega, by omega⟩ _ rfl ?_
  rw [e1]
  refine wc_if dX0_turns_17 (cB_ne ⟨by omega, by omega⟩ ⟨by omega, by omega⟩) 24 rfl (fun c17 => ?_) (fun c17 => ?_)
  ·
    refine wc_iconst dX0_turns_24 ?_
    refine wc_bastore1 dX0_turns_25 rfl ⟨by decide, Or.inl (by decide)⟩ rfl ⟨by omega, by omega⟩ (Or.inl rfl) _ rfl ?_
    refine wc_aload_n dX0_turns_26 rfl ?_
    refine wc_getC dX0_turns_27 (kF0_19 rfl) rfl rfl ?_
    refine wc_getC dX0_turns_30 (kF0_141 rfl) rfl rfl ?_
    refine wc_bipush dX0_turns_33 (by decide) ?_
    refine wc_dup2 dX0_turns_35 ?_
    refine wc_iaload dX0_turns_36 rfl rfl rfl ⟨by decide, by decide⟩ _ rfl ?_
    refine wc_aload_n dX0_turns_37 rfl ?_
    refine wc_getC dX0_turns_38 (kF0_19 rfl) rfl rfl ?_
    refine wc_getC dX0_turns_41 (kF0_23 rfl) rfl rfl ?_
    refine wc_iload_n dX0_turns_44 rfl ?_
    refine wc_baload dX0_turns_45 rfl rfl rfl ⟨by omega, by omega⟩ _ rfl ?_
    rw [sg_st, if_pos rfl]
    refine wc_if dX0_turns_46 (cB_eq (by decide) ⟨by omega, by omega⟩) 53 rfl (fun c46 => ?_) (fun c46 => ?_)
    ·
      refine wc_iconst dX0_turns_53 ?_
      refine wc_iadd dX0_turns_54 ?_
      refine wc_iastore dX0_turns_55 rfl ⟨by decide, Or.inl (by decide)⟩ rfl ⟨by decide, by decide⟩ _ rfl ?_
      refine wc_aload_n dX0_turns_56 rfl ?_
      refine wc_getC dX0_turns_57 (kF0_19 rfl) rfl rfl ?_
      refine wc_getC dX0_turns_60 (kF0_23 rfl) rfl rfl ?_
      refine wc_iload_n dX0_turns_63 rfl ?_
      refine wc_baload dX0_turns_64 rfl rfl rfl ⟨by omega, by omega⟩ _ rfl ?_
      rw [sg_st' (by decide), sg_st, if_pos rfl]
      refine wc_call dX0_turns_65 rfl (cc_bit (Or.inl rfl)) (by omega) (hx_S (kS0_112 rfl) (kSn0_112 rfl) rfl rfl) ?_
      rintro _ _ ⟨rfl, rfl⟩
      refine wc_ireturn dX0_turns_68 rfl ?_
      have e : w (72 + c).toNat = 1 := by omega
      refine ⟨by rw [e]; rfl, ?_⟩
      show stC (stC t 101 c.toNat (1 - w (72 + c).toNat)) 105 6 (oF (trnF w c) 120 0) = stC (stC t 101 c.toNat 0) 105 6 (sg (stC t 101 c.toNat 0) 105 6 + -1)
      rw [ho, e, sg_st' (by decide), e6]
      rfl
    ·
      exact absurd rfl c46
  ·
    refine wc_iconst dX0_turns_20 ?_
    refine wc_goto dX0_turns_21 25 rfl ?_
    refine wc_bastore1 dX0_turns_25 rfl ⟨by decide, Or.inl (by decide)⟩ rfl ⟨by omega, by omega⟩ (Or.inr rfl) _ rfl ?_
    refine wc_aload_n dX0_turns_26 rfl ?_
    refine wc_getC dX0_turns_27 (kF0_19 rfl) rfl rfl ?_
    refine wc_getC dX0_turns_30 (kF0_141 rfl) rfl rfl ?_
    refine wc_bipush dX0_turns_33 (by decide) ?_
    refine wc_dup2 dX0_turns_35 ?_
    refine wc_iaload dX0_turns_36 rfl rfl rfl ⟨by decide, by decide⟩ _ rfl ?_
    refine wc_aload_n dX0_turns_37 rfl ?_
    refine wc_getC dX0_turns_38 (kF0_19 rfl) rfl rfl ?_
    refine wc_getC dX0_turns_41 (kF0_23 rfl) rfl rfl ?_
    refine wc_iload_n dX0_turns_44 rfl ?_
    refine wc_baload dX0_turns_45 rfl rfl rfl ⟨by omega, by omega⟩ _ rfl ?_
    rw [sg_st, if_pos rfl]
    refine wc_if dX0_turns_46 (cB_eq (by decide) ⟨by omega, by omega⟩) 53 rfl (fun c46 => ?_) (fun c46 => ?_)
    ·
      exact absurd c46 (by decide)
    ·
      refine wc_iconst dX0_turns_49 ?_
      refine wc_goto dX0_turns_50 54 rfl ?_
      refine wc_iadd dX0_turns_54 ?_
      refine wc_iastore dX0_turns_55 rfl ⟨by decide, Or.inl (by decide)⟩ rfl ⟨by decide, by decide⟩ _ rfl ?_
      refine wc_aload_n dX0_turns_56 rfl ?_
      refine wc_getC dX0_turns_57 (kF0_19 rfl) rfl rfl ?_
      refine wc_getC dX0_turns_60 (kF0_23 rfl) rfl rfl ?_
      refine wc_iload_n dX0_turns_63 rfl ?_
      refine wc_baload dX0_turns_64 rfl rfl rfl ⟨by omega, by omega⟩ _ rfl ?_
      rw [sg_st' (by decide), sg_st, if_pos rfl]
      refine wc_call dX0_turns_65 rfl (cc_bit (Or.inr rfl)) (by omega) (hx_S (kS0_112 rfl) (kSn0_112 rfl) rfl rfl) ?_
      rintro _ _ ⟨rfl, rfl⟩
      refine wc_ireturn dX0_turns_68 rfl ?_
      have e : w (72 + c).toNat = 0 := by omega
      refine ⟨by rw [e]; rfl, ?_⟩
      show stC (stC t 101 c.toNat (1 - w (72 + c).toNat)) 105 6 (oF (trnF w c) 120 0) = stC (stC t 101 c.toNat 1) 105 6 (sg (stC t 101 c.toNat 1) 105 6 + 1)
      rw [ho, e, sg_st' (by decide), e6]
      rfl
theorem KpX.st2 {N n x : Nat} {f e : Nat → Nat} (h : KpX R s N x n f e t) (h1 : u.1 = t.1) (h2 : u.2.1 = t.2.1) (h3 : ∀ v, v ≠ 101 → v ≠ 105 → sg u v = sg t v) (hlt : ∀ y k, kd kap t y = some k → y < nvC t) : KpX R s N x n f e u := by
  have e0 : n0C u = n0C t := by unfold n0C; rw [h1]
  have ev : nvC u = nvC t := by unfold nvC; rw [h1]
  exact h.fr e0 (by omega) (h3 20 (by decide) (by decide)) (fun y y1 y2 => ⟨by rw [h2], fun _ _ => h3 y (by omega) (by omega)⟩) (Or.inl (by unfold tnC; rw [h3 18 (by decide) (by decide)])) (fun m m0 m1 => Or.inl (by unfold mnC; rw [h3 103 (by decide) (by decide)])) (fun y y1 y2 => ⟨by rw [h2], h3 y (by omega) (by omega)⟩) hlt (by rw [h3 10 (by decide) (by decide)])
theorem Kp.st2 (h : Kp R s t) (h1 : u.1 = t.1) (h2 : u.2.1 = t.2.1) (h3 : ∀ v, v ≠ 101 → v ≠ 105 → sg u v = sg t v) (hlt : ∀ y k, kd kap t y = some k → y < nvC t) : Kp R s u := by
  obtain ⟨x, n, f, e, h⟩ := h
  have e0 : n0C u = n0C t := by unfold n0C; rw [h1]
  have ev : nvC u = nvC t := by unfold nvC; rw [h1]
  exact (h.fr e0 (by omega) (h3 20 (by decide) (by decide)) (fun y y1 y2 => ⟨by rw [h2], fun _ _ => h3 y (by omega) (by omega)⟩) (Or.inl (by unfold tnC; rw [h3 18 (by decide) (by decide)])) (fun m m0 m1 => Or.inl (by unfold mnC; rw [h3 103 (by decide) (by decide)])) (fun y y1 y2 => ⟨by rw [h2], h3 y (by omega) (by omega)⟩) hlt (by rw [h3 10 (by decide) (by decide)])).kp
/-- 'obstacle' -/
theorem cc_obstacle (h : SI w C t) (hK : Kp R s t) (hs : s ≤ 8) (hm : rng c) (hC : 300 ≤ C ∧ C < 1999999000) : Ct kap 7 rX0_obstacle [.inr 10, .inl c] t (fun v u => (¬ (0 ≤ c ∧ c ≤ 119) ∧ some (.inl (-1)) = v ∧ t = u) ∨ ((0 ≤ c ∧ c ≤ 119) ∧ 0 ≤ onF w c ∧ some (.inl (-3)) = v ∧ t = u) ∨ ((0 ≤ c ∧ c ≤ 119) ∧ onF w c < 0 ∧ some (.inl (1 - w (72 + c).toNat)) = v ∧ SI (trnF w c) (C + 1) u ∧ Kp (chgR R s w) (chgS s) u ∧ FrV t u ∧ nvC u ≤ nvC t + 17 ∧ uC u ≤ uC t + 400)) := by
  intro d hd
  have hon := onF_rng w c
  have e2 : (0 ≤ c ∧ c ≤ 119) → sg t 102 c.toNat = onF w c := fun q => (h.1.1.1.1 c q.1 (by omega)).2
  refine wc_iload_n dX0_obstacle_0 rfl ?_
  refine wc_call dX0_obstacle_1 rfl (cc_isCell hm) (by omega) (hx_S (kS0_313 rfl) (kSn0_313 rfl) rfl rfl) ?_
  rintro _ _ ⟨rfl, ⟨h1, rfl⟩ | ⟨h1, rfl⟩⟩
  ·
    refine wc_ifT dX0_obstacle_4 (by decide) 9 rfl ?_
    refine wc_aload_n dX0_obstacle_9 rfl ?_
    refine wc_getC dX0_obstacle_10 (kF0_19 rfl) rfl rfl ?_
    refine wc_getC dX0_obstacle_13 (kF0_150 rfl) rfl rfl ?_
    refine wc_iload_n dX0_obstacle_16 rfl ?_
    refine wc_iaload dX0_obstacle_17 rfl rfl rfl ⟨by omega, by omega⟩ _ rfl ?_
    rw [e2 h1]
    refine wc_if dX0_obstacle_18 (cB_lt ⟨by omega, by omega⟩ ⟨by omega, by omega⟩) 24 rfl (fun c18 => ?_) (fun c18 => ?_)
    ·
      refine wc_aload_n dX0_obstacle_24 rfl ?_
      refine wc_call dX0_obstacle_25 rfl (cc_changes h hK hs) (by omega) (hx_V (kV0_295 rfl) rfl rfl rfl rfl) ?_
      rintro _ _ ⟨rfl, hI, hKp, hG⟩
      rename_i u1
      refine Wc.rp (fun ⟨hnv, hlt⟩ => ?_)
      refine wc_aload_n dX0_obstacle_28 rfl ?_
      refine wc_iload_n dX0_obstacle_29 rfl ?_
      refine wc_call dX0_obstacle_30 rfl (cc_turns hI ⟨by omega, by omega⟩) (by omega) (hx_V (kV0_316 rfl) rfl rfl rfl rfl) ?_
      rintro _ _ ⟨rfl, rfl⟩
      refine wc_ireturn dX0_obstacle_33 rfl ?_
      have e3 : ∀ v, v ≠ 101 → v ≠ 105 → sg (trnC u1 w c) v = sg u1 v := fun v v1 v2 => by rw [sg_st' v2, sg_st' v1]
      refine Or.inr (Or.inr ⟨h1, by omega, rfl, hI.trn ⟨by omega, by omega⟩ (by omega), hKp.st2 rfl rfl e3 hlt, ⟨⟨hG.1.1, hG.1.2.1.1⟩, fun j _ _ => ?_, ?_⟩, hG.1.2.1.2, hG.1.2.2⟩)
      · rw [e3 10 (by decide) (by decide), hG.2.1 10 (by decide) (by decide) (by decide)]
      · rw [e3 21 (by decide) (by decide), hG.2.1 21 (by decide) (by decide) (by decide)]
    ·
      refine wc_bipush dX0_obstacle_21 (by decide) ?_
      refine wc_ireturn dX0_obstacle_23 rfl ?_
      exact Or.inr (Or.inl ⟨h1, by omega, rfl, rfl⟩)
  ·
    refine wc_ifF dX0_obstacle_4 (by decide) 9 rfl ?_
    refine wc_iconst dX0_obstacle_7 ?_
    refine wc_ireturn dX0_obstacle_8 rfl ?_
    exact Or.inl ⟨h1, rfl, rfl⟩
end TRN2
