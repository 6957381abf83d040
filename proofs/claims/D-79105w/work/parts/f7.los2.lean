/-! THE CLASS'S METHODS, 37: loses, lose -/
set_option maxRecDepth 100000
section LOS2
variable {w w' : Nat → Int} {R : Nat → Nat → Int} {τ t u t4 : CT} {m c v C : Int} {d x y n i j k a b s : Nat} {Q : Option AV → CT → Prop}
theorem los_9 : losF w m 9 = w 9 + 1 := by
  have e : updW w (12 + 6 * m + 0).toNat (-1) 9 = w 9 ∨ (12 + 6 * m + 0).toNat = 9 := by
    by_cases q : (12 + 6 * m + 0).toNat = 9
    · exact Or.inr q
    · exact Or.inl (upd_ne (by omega))
  rcases e with e | e
  · have : losF w m 9 = updW w (12 + 6 * m + 0).toNat (-1) 9 + 1 := rfl
    rw [this, e]
  · omega
abbrev losC (t : CT) (w : Nat → Int) (m : Int) : CT := stC (stC (stC t 102 (celF w m).toNat (-1)) 103 m.toNat 0) 105 5 (w 9 + 1)
theorem SI.los (h : SI w C t) (hm : isM w m) (hC : 200 ≤ C) : SI (losF w m) (C + 1) (losC t w m) := by
  obtain ⟨⟨⟨⟨c1, c2, c3, c4, c5, c6⟩, hwr⟩, hT, hSh⟩, ⟨i1, i2, i3, i4⟩, hWS, hSH, hbd⟩ := h
  have hm9 := isM_le hm i1.2
  have hcl := hm.2
  have hw : ∀ i, i < 12 ∧ i ≠ 9 ∨ 72 ≤ i → losF w m i = w i := fun i hi => los_ne (by omega) (by omega)
  have h3 : ∀ v, v ≠ 102 → v ≠ 103 → v ≠ 105 → sg (losC t w m) v = sg t v := fun v v1 v2 v3 => by rw [sg_st' v3, sg_st' v2, sg_st' v1]
  have e102 : ∀ j, sg (losC t w m) 102 j = if j = (celF w m).toNat then -1 else sg t 102 j := fun j => by rw [sg_st' (by decide), sg_st' (by decide), sg_st]
  have e103 : ∀ j, sg (losC t w m) 103 j = if j = m.toNat then 0 else sg t 103 j := fun j => by rw [sg_st' (by decide), sg_st, sg_st' (by decide)]
  have e105 : ∀ j, sg (losC t w m) 105 j = if j = 5 then w 9 + 1 else sg t 105 j := fun j => by rw [sg_st, sg_st' (by decide), sg_st' (by decide)]
  have hMem : ∀ a y, (0 ≤ a ∧ a ≤ 9) → a ≠ m → MemC t w a y → MemC (losC t w m) (losF w m) a y := fun a y ha hne q => by
    obtain ⟨⟨p1, p2, p3⟩, p4, p5, p6, p7, p8, p9, p10⟩ := q
    refine ⟨⟨p1, p2, p3⟩, ?_⟩
    rw [h3 y (by omega) (by omega) (by omega), los_cel hm9 a ha, if_neg hne, los_ne (by omega) (by omega), los_ne (by omega) (by omega), los_ne (by omega) (by omega), los_ne (by omega) (by omega), los_ne (by omega) (by omega)]
    exact ⟨p4, p5, p6, p7, p8, p9, p10⟩
  refine ⟨⟨⟨⟨?_, ?_, ?_, ?_, ?_, ?_⟩, fun a q m0 m1 => ?_⟩, hT.of rfl (Nat.le_refl _) (h3 18 (by decide) (by decide) (by decide)) (fun y _ _ => rfl), ?_⟩, ⟨by rw [hw 0 (by omega)]; exact i1, los_inj i2 i1.2 hm9, fun c c0 c1 => ?_, fun a a0 a1 => ?_⟩, hWS.los hm9, fun s s0 s1 => ?_, hbd.los hC⟩
  · intro c c0 c1'
    rw [h3 101 (by decide) (by decide) (by decide), e102, los_onF i2 i1.2 hm, hw _ (by omega)]
    refine ⟨(c1 c c0 c1').1, ?_⟩
    by_cases q : c = celF w m
    · rw [if_pos (by rw [q]), if_pos q]
    · rw [if_neg (by unfold celF at *; omega), if_neg q]
      exact (c1 c c0 c1').2
  · intro a a0 a1
    rw [e103]
    by_cases q : a = m
    · rw [if_pos (by rw [q])]
      refine ⟨fun r => ?_, fun _ => rfl⟩
      rw [los_isM i1.2 hm9] at r
      exact absurd q r.2
    · rw [if_neg (by omega)]
      refine ⟨fun r => ?_, fun r => ?_⟩
      · rw [los_isM i1.2 hm9] at r
        exact hMem a _ ⟨a0, by omega⟩ q ((c2 a a0 a1).1 r.1)
      · exact (c2 a a0 a1).2 (fun r2 => r ((los_isM i1.2 hm9 a).mpr ⟨r2, q⟩))
  · intro k k0 k1
    rw [e105]
    unfold accF
    by_cases q : k = 5
    · rw [if_pos (by omega), if_neg (by omega), q]
      exact los_9.symm
    · rw [if_neg (by omega), c3 k k0 k1, oF_congr 120 0 (by omega) (fun j j0 j1 => hw _ (by omega)), hw _ (by omega)]
      rfl
  · rw [h3 100 (by decide) (by decide) (by decide), c4]
    unfold ldC
    rw [hw 1 (by omega)]
  · rw [h3 100 (by decide) (by decide) (by decide), c5]
    unfold tgC
    rw [hw 2 (by omega)]
  · rw [h3 100 (by decide) (by decide) (by decide), c6, hw 3 (by omega)]
  · rw [los_isM i1.2 hm9] at q
    unfold mnC
    rw [e103, if_neg (by have := q.2; omega)]
    exact hwr a q.1 m0 m1
  · intro s s0 s1
    have es : sltF (losF w m) s = sltF w s := hw _ (by omega)
    have ea : ancF (losF w m) s = ancF w s := hw _ (by omega)
    rw [h3 104 (by decide) (by decide) (by decide), es]
    refine ⟨fun q => ?_, (hSh s s0 s1).2⟩
    have := ((hSh s s0 s1).1 q).fz (t := losC t w m) rfl (fun y y1 y2 => ⟨rfl, h3 y (by omega) (by omega) (by omega)⟩)
    unfold ShC at *
    have ha := (hSH s s0 (by omega)).2
    have ec : ∀ k, 0 ≤ k → k < sltF w s → colF (losF w m) s k = colF w s k ∧ rowF (losF w m) s k = rowF w s k := fun k k0 k1 => by
      unfold colF rowF
      rw [ea, hw _ (by omega), hw _ (by omega), hw _ (by omega), hw _ (by omega)]
      exact ⟨rfl, rfl⟩
    rw [es, ea]
    refine ⟨this.1, this.2.1, this.2.2.1, this.2.2.2.1, fun k k0 k1 => ?_⟩
    rw [(ec k k0 k1).1, (ec k k0 k1).2]
    exact this.2.2.2.2 k k0 k1
  · rw [hw _ (by omega)]
    exact i3 c c0 c1
  · rw [los_cel hm9 a ⟨a0, a1⟩]
    split
    · omega
    · exact i4 a a0 a1
  · have es : sltF (losF w m) s = sltF w s := hw _ (by omega)
    have ea : ancF (losF w m) s = ancF w s := hw _ (by omega)
    rw [es, ea]
    exact hSH s s0 s1
end LOS2
