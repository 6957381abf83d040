/-! THE CLASS'S METHODS, 38: loses, lose walked -/
set_option maxRecDepth 100000
section LOS3
variable {w w' : Nat → Int} {R : Nat → Nat → Int} {τ t u t4 : CT} {m c v C : Int} {d x y n i j k a b s : Nat} {Q : Option AV → CT → Prop}
theorem cc_loses (h : SI w C t) (hm : isM w m) (hC : 200 ≤ C ∧ C < 1999999000) : Cf kap 0 rX1_loses [.inr 100, .inl m] t none (losC t w m) := by
  intro d hd
  have hM := h.1.1.mem h.2.1.1.2 hm
  have hm9 := isM_le hm h.2.1.1.2
  have hcl : 0 ≤ celF w m := hm.2
  have hcl2 := h.2.1.2.2.2 m hm9.1 hm9.2
  have e5 : sg t 105 5 = w 9 := h.1.1.1.2.2.1 5 (by decide) (by decide)
  have e5' : sg (stC (stC t 102 (celF w m).toNat (-1)) 103 m.toNat 0) 105 5 = w 9 := by rw [sg_st' (by decide), sg_st' (by decide)]; exact e5
  have hr := h.2.2.2.2 9
  refine wc_aload_n dX1_loses_0 rfl ?_
  refine wc_getC dX1_loses_1 (kF1_15 rfl) rfl rfl ?_
  refine wc_aload_n dX1_loses_4 rfl ?_
  refine wc_getC dX1_loses_5 (kF1_21 rfl) rfl rfl ?_
  refine wc_iload_n dX1_loses_8 rfl ?_
  refine wc_aaload (y := mnC t m) dX1_loses_9 rfl rfl rfl ⟨by omega, by omega⟩ rfl ?_
  refine wc_getI dX1_loses_10 (kF1_70 rfl) hM.kd rfl ?_
  refine wc_iconst dX1_loses_13 ?_
  rw [hM.2.2.1]
  refine wc_iastore dX1_loses_14 rfl ⟨by decide, Or.inl (by decide)⟩ rfl ⟨by omega, by omega⟩ _ rfl ?_
  refine wc_aload_n dX1_loses_15 rfl ?_
  refine wc_getC dX1_loses_16 (kF1_21 rfl) rfl rfl ?_
  refine wc_iload_n dX1_loses_19 rfl ?_
  refine wc_null dX1_loses_20 ?_
  refine wc_aastore dX1_loses_21 rfl rfl ⟨by decide, Or.inl (by decide)⟩ rfl ⟨by omega, by omega⟩ (Or.inl rfl) _ rfl ?_
  refine wc_aload_n dX1_loses_22 rfl ?_
  refine wc_getC dX1_loses_23 (kF1_31 rfl) rfl rfl ?_
  refine wc_iconst dX1_loses_26 ?_
  refine wc_dup2 dX1_loses_27 ?_
  refine wc_iaload dX1_loses_28 rfl rfl rfl ⟨by decide, by decide⟩ _ rfl ?_
  refine wc_iconst dX1_loses_29 ?_
  refine wc_iadd dX1_loses_30 ?_
  refine wc_iastore dX1_loses_31 rfl ⟨by decide, Or.inl (by decide)⟩ rfl ⟨by decide, by decide⟩ _ rfl ?_
  refine wc_vreturn dX1_loses_32 rfl ?_
  refine ⟨rfl, ?_⟩
  show losC t w m = stC _ 105 5 (sg (stC (stC t 102 (celF w m).toNat (-1)) 103 m.toNat 0) 105 5 + 1)
  rw [e5']
  rfl
theorem KpX.st3 {N n x : Nat} {f e : Nat → Nat} (h : KpX R s N x n f e t) (h1 : u.1 = t.1) (h2 : u.2.1 = t.2.1) (h3 : ∀ v, v ≠ 102 → v ≠ 103 → v ≠ 105 → sg u v = sg t v) (hm : ∀ m : Int, 0 ≤ m → m < 10 → mnC u m = mnC t m ∨ mnC u m = 0) (hlt : ∀ y k, kd kap t y = some k → y < nvC t) : KpX R s N x n f e u := by
  have e0 : n0C u = n0C t := by unfold n0C; rw [h1]
  have ev : nvC u = nvC t := by unfold nvC; rw [h1]
  exact h.fr e0 (by omega) (h3 20 (by decide) (by decide) (by decide)) (fun y y1 y2 => ⟨by rw [h2], fun _ _ => h3 y (by omega) (by omega) (by omega)⟩) (Or.inl (by unfold tnC; rw [h3 18 (by decide) (by decide) (by decide)])) (fun m m0 m1 => by rcases hm m m0 m1 with q | q; exact Or.inl q; exact Or.inr (Or.inr q)) (fun y y1 y2 => ⟨by rw [h2], h3 y (by omega) (by omega) (by omega)⟩) hlt (by rw [h3 10 (by decide) (by decide) (by decide)])
theorem Kp.st3 (h : Kp R s t) (h1 : u.1 = t.1) (h2 : u.2.1 = t.2.1) (h3 : ∀ v, v ≠ 102 → v ≠ 103 → v ≠ 105 → sg u v = sg t v) (hm : ∀ m : Int, 0 ≤ m → m < 10 → mnC u m = mnC t m ∨ mnC u m = 0) (hlt : ∀ y k, kd kap t y = some k → y < nvC t) : Kp R s u := by
  obtain ⟨x, n, f, e, h⟩ := h
  have e0 : n0C u = n0C t := by unfold n0C; rw [h1]
  have ev : nvC u = nvC t := by unfold nvC; rw [h1]
  exact (h.fr e0 (by omega) (h3 20 (by decide) (by decide) (by decide)) (fun y y1 y2 => ⟨by rw [h2], fun _ _ => h3 y (by omega) (by omega) (by omega)⟩) (Or.inl (by unfold tnC; rw [h3 18 (by decide) (by decide) (by decide)])) (fun m m0 m1 => by rcases hm m m0 m1 with q | q; exact Or.inl q; exact Or.inr (Or.inr q)) (fun y y1 y2 => ⟨by rw [h2], h3 y (by omega) (by omega) (by omega)⟩) hlt (by rw [h3 10 (by decide) (by decide) (by decide)])).kp
/-- 'lose' -/
theorem cc_lose (h : SI w C t) (hK : Kp R s t) (hs : s ≤ 8) (hm : rng m) (hC : 300 ≤ C ∧ C < 1999999000) : Ct kap 7 rX0_lose [.inr 10, .inl m] t (fun v u => (¬ isM w m ∧ some (.inl (-1)) = v ∧ t = u) ∨ (isM w m ∧ some (.inl (manyF (losF w m))) = v ∧ SI (losF w m) (C + 1) u ∧ Kp (chgR R s w) (chgS s) u ∧ FrV t u ∧ nvC u ≤ nvC t + 17 ∧ uC u ≤ uC t + 400)) := by
  intro d hd
  refine wc_aload_n dX0_lose_0 rfl ?_
  refine wc_getC dX0_lose_1 (kF0_19 rfl) rfl rfl ?_
  refine wc_iload_n dX0_lose_4 rfl ?_
  refine wc_call dX0_lose_5 rfl (cc_isMember h.1.1 h.2.1.1 hm) (by omega) (hx_V (kV0_301 rfl) rfl rfl rfl rfl) ?_
  rintro _ _ ⟨rfl, ⟨h5, rfl⟩ | ⟨h5, rfl⟩⟩
  ·
    refine wc_ifT dX0_lose_8 (by decide) 13 rfl ?_
    refine wc_aload_n dX0_lose_13 rfl ?_
    refine wc_call dX0_lose_14 rfl (cc_changes h hK hs) (by omega) (hx_V (kV0_295 rfl) rfl rfl rfl rfl) ?_
    rintro _ _ ⟨rfl, hI, hKp, hG⟩
    rename_i u1
    refine Wc.rp (fun ⟨hnv, hlt⟩ => ?_)
    have hI2 := hI.los h5 (by omega)
    refine wc_aload_n dX0_lose_17 rfl ?_
    refine wc_getC dX0_lose_18 (kF0_19 rfl) rfl rfl ?_
    refine wc_iload_n dX0_lose_21 rfl ?_
    refine wc_call dX0_lose_22 rfl (cc_loses hI h5 ⟨by omega, by omega⟩) (by omega) (hx_V (kV0_304 rfl) rfl rfl rfl rfl) ?_
    rintro _ _ ⟨rfl, rfl⟩
    refine wc_aload_n dX0_lose_25 rfl ?_
    refine wc_getC dX0_lose_26 (kF0_19 rfl) rfl rfl ?_
    refine wc_call dX0_lose_29 rfl (cc_many hI2.1.1 hI2.2.1.1) (by omega) (hx_V (kV0_307 rfl) rfl rfl rfl rfl) ?_
    rintro _ _ ⟨rfl, rfl⟩
    refine wc_ireturn dX0_lose_32 rfl ?_
    have hm9 := isM_le h5 h.2.1.1.2
    have e3 : ∀ v, v ≠ 102 → v ≠ 103 → v ≠ 105 → sg (losC u1 w m) v = sg u1 v := fun v v1 v2 v3 => by rw [sg_st' v3, sg_st' v2, sg_st' v1]
    refine Or.inr ⟨h5, rfl, hI2, hKp.st3 rfl rfl e3 (fun a a0 a1 => ?_) hlt, ⟨⟨hG.1.1, hG.1.2.1.1⟩, fun j _ _ => ?_, ?_⟩, hG.1.2.1.2, hG.1.2.2⟩
    · unfold mnC
      rw [sg_st' (by decide), sg_st, sg_st' (by decide)]
      by_cases q : a.toNat = m.toNat
      · rw [if_pos q]; exact Or.inr rfl
      · rw [if_neg q]; exact Or.inl rfl
    · rw [e3 10 (by decide) (by decide) (by decide), hG.2.1 10 (by decide) (by decide) (by decide)]
    · rw [e3 21 (by decide) (by decide) (by decide), hG.2.1 21 (by decide) (by decide) (by decide)]
  ·
    refine wc_ifF dX0_lose_8 (by decide) 13 rfl ?_
    refine wc_iconst dX0_lose_11 ?_
    refine wc_ireturn dX0_lose_12 rfl ?_
    exact Or.inl ⟨h5, rfl, rfl⟩
end LOS3
