/-! THE CLASS'S METHODS, 34: target, choose -/
set_option maxRecDepth 100000
section HD3
variable {w w' : Nat → Int} {R : Nat → Nat → Int} {τ t u t4 : CT} {m c v C : Int} {d x y n i j k a b s : Nat} {Q : Option AV → CT → Prop}
theorem WS.u2 (h : WS w) (hc : c < 120) : WS (updW w 2 c) := by
  have e : ∀ i, i ≠ 2 → updW w 2 c i = w i := fun i hi => if_neg hi
  obtain ⟨a1, a2, a3, a4, a5, a6, a7⟩ := h
  refine ⟨by rw [e 0 (by decide)]; exact a1, by rw [e 3 (by decide)]; exact a2, fun k k0 k1 => ?_, ?_, ?_, ?_, by show (if 2 = 2 then c else w 2) < 120; rw [if_pos rfl]; exact hc⟩
  · have : celF (updW w 2 c) k = celF w k := e _ (by omega)
    rw [this]; exact a3 k k0 k1
  all_goals rw [e 3 (by decide)]
  · have : sltF (updW w 2 c) (w 3) = sltF w (w 3) := e _ (by omega)
    rw [this]; exact a4
  · have : ancF (updW w 2 c) (w 3) = ancF w (w 3) := e _ (by omega)
    rw [this]; exact a5
  · have q : sltF (updW w 2 c) (w 3) = sltF w (w 3) := e _ (by omega)
    have r : ancF (updW w 2 c) (w 3) = ancF w (w 3) := e _ (by omega)
    rw [q]
    intro k k0 k1
    have := a6 k k0 k1
    unfold colF rowF at *
    rw [r, e _ (by omega), e _ (by omega), e _ (by omega), e _ (by omega)]
    exact this
theorem WS.u3 (h : WS w) (hx : 0 ≤ c ∧ c ≤ 2) (hH : SH w) (hR : CR w c) : WS (updW w 3 c) := by
  have e : ∀ i, i ≠ 3 → updW w 3 c i = w i := fun i hi => if_neg hi
  have e3 : updW w 3 c 3 = c := if_pos rfl
  obtain ⟨a1, a2, a3, a4, a5, a6, a7⟩ := h
  have q : sltF (updW w 3 c) c = sltF w c := e _ (by omega)
  have r : ancF (updW w 3 c) c = ancF w c := e _ (by omega)
  refine ⟨by rw [e 0 (by decide)]; exact a1, by rw [e3]; exact hx, fun k k0 k1 => ?_, ?_, ?_, ?_, by rw [e 2 (by decide)]; exact a7⟩
  · have : celF (updW w 3 c) k = celF w k := e _ (by omega)
    rw [this]; exact a3 k k0 k1
  all_goals rw [e3]
  · rw [q]; exact (hH c hx.1 hx.2).1
  · rw [r]; exact (hH c hx.1 hx.2).2
  · rw [q]
    intro k k0 k1
    have ha := (hH c hx.1 hx.2).2
    have := hR k k0 k1
    unfold colF rowF at *
    rw [r, e _ (by omega), e _ (by omega), e _ (by omega), e _ (by omega)]
    exact this
/-- 'target' -/
theorem cc_target (h : SI w C t) (hK : Kp R s t) (hs : s ≤ 8) (hm : rng c) (hC : 300 ≤ C ∧ C < 1999999000) : Ct kap 7 rX0_target [.inr 10, .inl c] t (fun v u => (¬ (-1 ≤ c ∧ c ≤ 119) ∧ some (.inl (-2)) = v ∧ t = u) ∨ ((-1 ≤ c ∧ c ≤ 119) ∧ some (.inl (tgC w)) = v ∧ SI (updW w 2 c) C u ∧ Kp (chgR R s w) (chgS s) u ∧ FrV t u ∧ nvC u ≤ nvC t + 17 ∧ uC u ≤ uC t + 400)) := by
  intro d hd
  have hr := h.2.2.2.2.rng (by omega)
  refine wc_iload_n dX0_target_0 rfl ?_
  refine wc_iconst dX0_target_1 ?_
  refine wc_icmp dX0_target_2 (cB_eq hm (show rng _ by omega)) 15 rfl (fun c2 => ?_) (fun c2 => ?_)
  ·
    refine wc_aload_n dX0_target_15 rfl ?_
    refine wc_call dX0_target_16 rfl (cc_changes h hK hs) (by omega) (hx_V (kV0_295 rfl) rfl rfl rfl rfl) ?_
    rintro _ _ ⟨rfl, hI, hKp, hG⟩
    rename_i u1
    refine Wc.rp (fun ⟨hnv, hlt⟩ => ?_)
    refine wc_aload_n dX0_target_19 rfl ?_
    refine wc_getC dX0_target_20 (kF0_19 rfl) rfl rfl ?_
    refine wc_getI dX0_target_23 (kF0_144 rfl) rfl rfl ?_
    rw [hI.1.1.1.2.2.2.2.1]
    refine wc_istore_n dX0_target_26 rfl ?_
    refine wc_aload_n dX0_target_27 rfl ?_
    refine wc_getC dX0_target_28 (kF0_19 rfl) rfl rfl ?_
    refine wc_iload_n dX0_target_31 rfl ?_
    refine wc_if dX0_target_32 (cB_ge hm ⟨by omega, by omega⟩) 40 rfl (fun c32 => ?_) (fun c32 => ?_)
    ·
      refine wc_iload_n dX0_target_40 rfl ?_
      refine wc_putI dX0_target_41 (kF0_144 rfl) rfl rfl rfl ⟨by decide, Or.inl (by decide)⟩ (Or.inl rfl) ?_
      refine wc_iload_n dX0_target_44 rfl ?_
      refine wc_ireturn dX0_target_45 rfl ?_
      have e3 : ∀ z v, v ≠ 100 → sg (stC u1 100 6 z) v = sg u1 v := fun z v hv => sg_st' hv
      refine Or.inr ⟨by omega, rfl, hI.hd (fun i hi => if_neg (by omega)) (hI.2.2.1.u2 (by omega)) (hI.2.2.2.2.up2 (by omega)) rfl rfl (e3 _) ⟨?_, ?_, ?_⟩, hKp.st (q := 100) (by decide) rfl rfl (e3 _) hlt, ⟨⟨hG.1.1, hG.1.2.1.1⟩, fun j _ _ => ?_, ?_⟩, hG.1.2.1.2, hG.1.2.2⟩
      · rw [sg_st, if_neg (by decide)]; exact hI.1.1.1.2.2.2.1
      · rw [sg_st, if_pos rfl]
        show _ = if c < 0 then -5 else c
        split <;> omega
      · rw [sg_st, if_neg (by decide)]; exact hI.1.1.1.2.2.2.2.2
      · rw [sg_st' (by decide), hG.2.1 10 (by decide) (by decide) (by decide)]
      · rw [sg_st' (by decide), hG.2.1 21 (by decide) (by decide) (by decide)]
    ·
      refine wc_bipush dX0_target_35 (by decide) ?_
      refine wc_goto dX0_target_37 41 rfl ?_
      refine wc_putI dX0_target_41 (kF0_144 rfl) rfl rfl rfl ⟨by decide, Or.inl (by decide)⟩ (Or.inl rfl) ?_
      refine wc_iload_n dX0_target_44 rfl ?_
      refine wc_ireturn dX0_target_45 rfl ?_
      have e3 : ∀ z v, v ≠ 100 → sg (stC u1 100 6 z) v = sg u1 v := fun z v hv => sg_st' hv
      refine Or.inr ⟨by omega, rfl, hI.hd (fun i hi => if_neg (by omega)) (hI.2.2.1.u2 (by omega)) (hI.2.2.2.2.up2 (by omega)) rfl rfl (e3 _) ⟨?_, ?_, ?_⟩, hKp.st (q := 100) (by decide) rfl rfl (e3 _) hlt, ⟨⟨hG.1.1, hG.1.2.1.1⟩, fun j _ _ => ?_, ?_⟩, hG.1.2.1.2, hG.1.2.2⟩
      · rw [sg_st, if_neg (by decide)]; exact hI.1.1.1.2.2.2.1
      · rw [sg_st, if_pos rfl]
        show _ = if c < 0 then -5 else c
        split <;> omega
      · rw [sg_st, if_neg (by decide)]; exact hI.1.1.1.2.2.2.2.2
      · rw [sg_st' (by decide), hG.2.1 10 (by decide) (by decide) (by decide)]
      · rw [sg_st' (by decide), hG.2.1 21 (by decide) (by decide) (by decide)]
  ·
    refine wc_iload_n dX0_target_5 rfl ?_
    refine wc_call dX0_target_6 rfl (cc_isCell hm) (by omega) (hx_S (kS0_313 rfl) (kSn0_313 rfl) rfl rfl) ?_
    rintro _ _ ⟨rfl, ⟨h6, rfl⟩ | ⟨h6, rfl⟩⟩
    ·
      refine wc_ifT dX0_target_9 (by decide) 15 rfl ?_
      refine wc_aload_n dX0_target_15 rfl ?_
      refine wc_call dX0_target_16 rfl (cc_changes h hK hs) (by omega) (hx_V (kV0_295 rfl) rfl rfl rfl rfl) ?_
      rintro _ _ ⟨rfl, hI, hKp, hG⟩
      rename_i u1
      refine Wc.rp (fun ⟨hnv, hlt⟩ => ?_)
      refine wc_aload_n dX0_target_19 rfl ?_
      refine wc_getC dX0_target_20 (kF0_19 rfl) rfl rfl ?_
      refine wc_getI dX0_target_23 (kF0_144 rfl) rfl rfl ?_
      rw [hI.1.1.1.2.2.2.2.1]
      refine wc_istore_n dX0_target_26 rfl ?_
      refine wc_aload_n dX0_target_27 rfl ?_
      refine wc_getC dX0_target_28 (kF0_19 rfl) rfl rfl ?_
      refine wc_iload_n dX0_target_31 rfl ?_
      refine wc_if dX0_target_32 (cB_ge hm ⟨by omega, by omega⟩) 40 rfl (fun c32 => ?_) (fun c32 => ?_)
      ·
        refine wc_iload_n dX0_target_40 rfl ?_
        refine wc_putI dX0_target_41 (kF0_144 rfl) rfl rfl rfl ⟨by decide, Or.inl (by decide)⟩ (Or.inl rfl) ?_
        refine wc_iload_n dX0_target_44 rfl ?_
        refine wc_ireturn dX0_target_45 rfl ?_
        have e3 : ∀ z v, v ≠ 100 → sg (stC u1 100 6 z) v = sg u1 v := fun z v hv => sg_st' hv
        refine Or.inr ⟨by omega, rfl, hI.hd (fun i hi => if_neg (by omega)) (hI.2.2.1.u2 (by omega)) (hI.2.2.2.2.up2 (by omega)) rfl rfl (e3 _) ⟨?_, ?_, ?_⟩, hKp.st (q := 100) (by decide) rfl rfl (e3 _) hlt, ⟨⟨hG.1.1, hG.1.2.1.1⟩, fun j _ _ => ?_, ?_⟩, hG.1.2.1.2, hG.1.2.2⟩
        · rw [sg_st, if_neg (by decide)]; exact hI.1.1.1.2.2.2.1
        · rw [sg_st, if_pos rfl]
          show _ = if c < 0 then -5 else c
          split <;> omega
        · rw [sg_st, if_neg (by decide)]; exact hI.1.1.1.2.2.2.2.2
        · rw [sg_st' (by decide), hG.2.1 10 (by decide) (by decide) (by decide)]
        · rw [sg_st' (by decide), hG.2.1 21 (by decide) (by decide) (by decide)]
      ·
        refine wc_bipush dX0_target_35 (by decide) ?_
        refine wc_goto dX0_target_37 41 rfl ?_
        refine wc_putI dX0_target_41 (kF0_144 rfl) rfl rfl rfl ⟨by decide, Or.inl (by decide)⟩ (Or.inl rfl) ?_
        refine wc_iload_n dX0_target_44 rfl ?_
        refine wc_ireturn dX0_target_45 rfl ?_
        have e3 : ∀ z v, v ≠ 100 → sg (stC u1 100 6 z) v = sg u1 v := fun z v hv => sg_st' hv
        refine Or.inr ⟨by omega, rfl, hI.hd (fun i hi => if_neg (by omega)) (hI.2.2.1.u2 (by omega)) (hI.2.2.2.2.up2 (by omega)) rfl rfl (e3 _) ⟨?_, ?_, ?_⟩, hKp.st (q := 100) (by decide) rfl rfl (e3 _) hlt, ⟨⟨hG.1.1, hG.1.2.1.1⟩, fun j _ _ => ?_, ?_⟩, hG.1.2.1.2, hG.1.2.2⟩
        · rw [sg_st, if_neg (by decide)]; exact hI.1.1.1.2.2.2.1
        · rw [sg_st, if_pos rfl]
          show _ = if c < 0 then -5 else c
          split <;> omega
        · rw [sg_st, if_neg (by decide)]; exact hI.1.1.1.2.2.2.2.2
        · rw [sg_st' (by decide), hG.2.1 10 (by decide) (by decide) (by decide)]
        · rw [sg_st' (by decide), hG.2.1 21 (by decide) (by decide) (by decide)]
    ·
      refine wc_ifF dX0_target_9 (by decide) 15 rfl ?_
      refine wc_bipush dX0_target_12 (by decide) ?_
      refine wc_ireturn dX0_target_14 rfl ?_
      exact Or.inl ⟨by omega, rfl, rfl⟩
/-- 'choose' -/
theorem cc_choose (h : SI w C t) (hK : Kp R s t) (hs : s ≤ 8) (hm : rng c) (hC : 300 ≤ C ∧ C < 1999999000) (hR : ∀ x, 0 ≤ x → x ≤ 2 → CR w x) : Ct kap 7 rX0_choose [.inr 10, .inl c] t (fun v u => (¬ (0 ≤ c ∧ c ≤ 2) ∧ some (.inl (-1)) = v ∧ t = u) ∨ ((0 ≤ c ∧ c ≤ 2) ∧ some (.inl (w 3)) = v ∧ SI (updW w 3 c) C u ∧ Kp (chgR R s w) (chgS s) u ∧ FrV t u ∧ nvC u ≤ nvC t + 17 ∧ uC u ≤ uC t + 400)) := by
  intro d hd
  have hr := h.2.2.2.2.rng (by omega)
  refine wc_iload_n dX0_choose_0 rfl ?_
  refine wc_iconst dX0_choose_1 ?_
  refine wc_iconst dX0_choose_2 ?_
  refine wc_call dX0_choose_3 rfl (cc_in hm (by omega) (by omega)) (by omega) (hx_S (kS0_3 rfl) (kSn0_3 rfl) rfl rfl) ?_
  rintro _ _ ⟨rfl, ⟨h3, rfl⟩ | ⟨h3, rfl⟩⟩
  ·
    refine wc_ifT dX0_choose_6 (by decide) 11 rfl ?_
    refine wc_aload_n dX0_choose_11 rfl ?_
    refine wc_call dX0_choose_12 rfl (cc_changes h hK hs) (by omega) (hx_V (kV0_295 rfl) rfl rfl rfl rfl) ?_
    rintro _ _ ⟨rfl, hI, hKp, hG⟩
    rename_i u1
    refine Wc.rp (fun ⟨hnv, hlt⟩ => ?_)
    refine wc_aload_n dX0_choose_15 rfl ?_
    refine wc_getC dX0_choose_16 (kF0_19 rfl) rfl rfl ?_
    refine wc_getI dX0_choose_19 (kF0_63 rfl) rfl rfl ?_
    rw [hI.1.1.1.2.2.2.2.2]
    refine wc_istore_n dX0_choose_22 rfl ?_
    refine wc_aload_n dX0_choose_23 rfl ?_
    refine wc_getC dX0_choose_24 (kF0_19 rfl) rfl rfl ?_
    refine wc_iload_n dX0_choose_27 rfl ?_
    refine wc_putI dX0_choose_28 (kF0_63 rfl) rfl rfl rfl ⟨by decide, Or.inl (by decide)⟩ (Or.inl rfl) ?_
    refine wc_iload_n dX0_choose_31 rfl ?_
    refine wc_ireturn dX0_choose_32 rfl ?_
    have e3 : ∀ z v, v ≠ 100 → sg (stC u1 100 7 z) v = sg u1 v := fun z v hv => sg_st' hv
    refine Or.inr ⟨h3, rfl, hI.hd (fun i hi => if_neg (by omega)) (hI.2.2.1.u3 h3 hI.2.2.2.1 (hR c h3.1 h3.2)) (hI.2.2.2.2.up2 (by omega)) rfl rfl (e3 _) ⟨?_, ?_, ?_⟩, hKp.st (q := 100) (by decide) rfl rfl (e3 _) hlt, ⟨⟨hG.1.1, hG.1.2.1.1⟩, fun j _ _ => ?_, ?_⟩, hG.1.2.1.2, hG.1.2.2⟩
    · rw [sg_st, if_neg (by decide)]; exact hI.1.1.1.2.2.2.1
    · rw [sg_st, if_neg (by decide)]; exact hI.1.1.1.2.2.2.2.1
    · rw [sg_st, if_pos rfl]
      exact (if_pos rfl : updW w 3 c 3 = c).symm
    · rw [sg_st' (by decide), hG.2.1 10 (by decide) (by decide) (by decide)]
    · rw [sg_st' (by decide), hG.2.1 21 (by decide) (by decide) (by decide)]
  ·
    refine wc_ifF dX0_choose_6 (by decide) 11 rfl ?_
    refine wc_iconst dX0_choose_9 ?_
    refine wc_ireturn dX0_choose_10 rfl ?_
    exact Or.inl ⟨h3, rfl, rfl⟩
end HD3
