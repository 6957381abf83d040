/-! THE CLASS'S METHODS, 33: lead, target, choose -/
set_option maxRecDepth 100000
section HD2
variable {w w' : Nat → Int} {R : Nat → Nat → Int} {τ t u t4 : CT} {m c v C : Int} {d x y n i j k a b s : Nat} {Q : Option AV → CT → Prop}
theorem KpX.st {q N n x : Nat} {f e : Nat → Nat} (hq : q < 110 ∧ q ≠ 20 ∧ q ≠ 18 ∧ q ≠ 103 ∧ q ≠ 10) (h : KpX R s N x n f e t) (h1 : u.1 = t.1) (h2 : u.2.1 = t.2.1) (h3 : ∀ v, v ≠ q → sg u v = sg t v) (hlt : ∀ y k, kd kap t y = some k → y < nvC t) : KpX R s N x n f e u := by
  have e0 : n0C u = n0C t := by unfold n0C; rw [h1]
  have ev : nvC u = nvC t := by unfold nvC; rw [h1]
  exact h.fr e0 (by omega) (h3 20 (by omega)) (fun y y1 y2 => ⟨by rw [h2], fun _ _ => h3 y (by omega)⟩) (Or.inl (by unfold tnC; rw [h3 18 (by omega)])) (fun m _ _ => Or.inl (by unfold mnC; rw [h3 103 (by omega)])) (fun y y1 y2 => ⟨by rw [h2], h3 y (by omega)⟩) hlt (by rw [h3 10 (by omega)])
theorem Kp.st {q : Nat} (hq : q < 110 ∧ q ≠ 20 ∧ q ≠ 18 ∧ q ≠ 103 ∧ q ≠ 10) (h : Kp R s t) (h1 : u.1 = t.1) (h2 : u.2.1 = t.2.1) (h3 : ∀ v, v ≠ q → sg u v = sg t v) (hlt : ∀ y k, kd kap t y = some k → y < nvC t) : Kp R s u := by
  obtain ⟨x, n, f, e, h⟩ := h
  have e0 : n0C u = n0C t := by unfold n0C; rw [h1]
  have ev : nvC u = nvC t := by unfold nvC; rw [h1]
  exact (h.fr e0 (by omega) (h3 20 (by omega)) (fun y y1 y2 => ⟨by rw [h2], fun _ _ => h3 y (by omega)⟩) (Or.inl (by unfold tnC; rw [h3 18 (by omega)])) (fun m _ _ => Or.inl (by unfold mnC; rw [h3 103 (by omega)])) (fun y y1 y2 => ⟨by rw [h2], h3 y (by omega)⟩) hlt (by rw [h3 10 (by omega)])).kp
theorem WS.u1 (h : WS w) : WS (updW w 1 m) := by
  have e : ∀ i, i ≠ 1 → updW w 1 m i = w i := fun i hi => if_neg hi
  obtain ⟨a1, a2, a3, a4, a5, a6, a7⟩ := h
  refine ⟨by rw [e 0 (by decide)]; exact a1, by rw [e 3 (by decide)]; exact a2, fun k k0 k1 => ?_, ?_, ?_, ?_, by rw [e 2 (by decide)]; exact a7⟩
  · have : celF (updW w 1 m) k = celF w k := e _ (by omega)
    rw [this]; exact a3 k k0 k1
  all_goals rw [e 3 (by decide)]
  · have : sltF (updW w 1 m) (w 3) = sltF w (w 3) := e _ (by omega)
    rw [this]; exact a4
  · have : ancF (updW w 1 m) (w 3) = ancF w (w 3) := e _ (by omega)
    rw [this]; exact a5
  · have q : sltF (updW w 1 m) (w 3) = sltF w (w 3) := e _ (by omega)
    have r : ancF (updW w 1 m) (w 3) = ancF w (w 3) := e _ (by omega)
    rw [q]
    intro k k0 k1
    have := a6 k k0 k1
    unfold colF rowF at *
    rw [r, e _ (by omega), e _ (by omega), e _ (by omega), e _ (by omega)]
    exact this
theorem bdW.up2 (h : bdW C w) (hv : -C ≤ v ∧ v ≤ C) : bdW C (updW w i v) := fun j => by
  unfold updW
  split
  · exact hv
  · exact h j
/-- 'lead' -/
theorem cc_lead (h : SI w C t) (hK : Kp R s t) (hs : s ≤ 8) (hm : rng m) (hC : 300 ≤ C ∧ C < 1999999000) : Ct kap 7 rX0_lead [.inr 10, .inl m] t (fun v u => (¬ isM w m ∧ some (.inl (-1)) = v ∧ t = u) ∨ (isM w m ∧ some (.inl (ldO w)) = v ∧ SI (updW w 1 m) C u ∧ Kp (chgR R s w) (chgS s) u ∧ FrV t u ∧ nvC u ≤ nvC t + 17 ∧ uC u ≤ uC t + 400)) := by
  intro d hd
  have hr := h.2.2.2.2.rng (by omega)
  refine wc_aload_n dX0_lead_0 rfl ?_
  refine wc_getC dX0_lead_1 (kF0_19 rfl) rfl rfl ?_
  refine wc_iload_n dX0_lead_4 rfl ?_
  refine wc_call dX0_lead_5 rfl (cc_isMember h.1.1 h.2.1.1 hm) (by omega) (hx_V (kV0_301 rfl) rfl rfl rfl rfl) ?_
  rintro _ _ ⟨rfl, ⟨h5, rfl⟩ | ⟨h5, rfl⟩⟩
  ·
    refine wc_ifT dX0_lead_8 (by decide) 13 rfl ?_
    refine wc_aload_n dX0_lead_13 rfl ?_
    refine wc_call dX0_lead_14 rfl (cc_changes h hK hs) (by omega) (hx_V (kV0_295 rfl) rfl rfl rfl rfl) ?_
    rintro _ _ ⟨rfl, hI, hKp, hG⟩
    rename_i u1
    refine Wc.rp (fun ⟨hnv, hlt⟩ => ?_)
    refine wc_aload_n dX0_lead_17 rfl ?_
    refine wc_getC dX0_lead_18 (kF0_19 rfl) rfl rfl ?_
    refine wc_call dX0_lead_21 rfl (cc_leads hI.1.1 hI.2.1.1 (hr 1)) (by omega) (hx_V (kV0_55 rfl) rfl rfl rfl rfl) ?_
    rintro _ _ ⟨rfl, rfl⟩
    refine wc_istore_n dX0_lead_24 rfl ?_
    refine wc_aload_n dX0_lead_25 rfl ?_
    refine wc_getC dX0_lead_26 (kF0_19 rfl) rfl rfl ?_
    refine wc_iload_n dX0_lead_29 rfl ?_
    refine wc_putI dX0_lead_30 (kF0_310 rfl) rfl rfl rfl ⟨by decide, Or.inl (by decide)⟩ (Or.inl rfl) ?_
    refine wc_iload_n dX0_lead_33 rfl ?_
    refine wc_ireturn dX0_lead_34 rfl ?_
    have hm9 := isM_le h5 h.2.1.1.2
    have e3 : ∀ v, v ≠ 100 → sg (stC u1 100 5 m) v = sg u1 v := fun v hv => sg_st' hv
    refine Or.inr ⟨h5, rfl, hI.hd (fun i hi => if_neg (by omega)) hI.2.2.1.u1 (hI.2.2.2.2.up2 (by omega)) rfl rfl e3 ⟨?_, ?_, ?_⟩, hKp.st (q := 100) (by decide) rfl rfl e3 hlt, ⟨⟨hG.1.1, hG.1.2.1.1⟩, fun j _ _ => ?_, ?_⟩, hG.1.2.1.2, hG.1.2.2⟩
    · rw [sg_st, if_pos rfl]
      show m = if m < 0 then -5 else m
      rw [if_neg (by omega)]
    · rw [sg_st, if_neg (by decide)]; exact hI.1.1.1.2.2.2.2.1
    · rw [sg_st, if_neg (by decide)]; exact hI.1.1.1.2.2.2.2.2
    · rw [sg_st' (by decide), hG.2.1 10 (by decide) (by decide) (by decide)]
    · rw [sg_st' (by decide), hG.2.1 21 (by decide) (by decide) (by decide)]
  ·
    refine wc_ifF dX0_lead_8 (by decide) 13 rfl ?_
    refine wc_iconst dX0_lead_11 ?_
    refine wc_ireturn dX0_lead_12 rfl ?_
    exact Or.inl ⟨h5, rfl, rfl⟩
end HD2
