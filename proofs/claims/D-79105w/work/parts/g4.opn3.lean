/-! THE CLASS'S METHODS, 44: a member more, as a step of what stands -/
set_option maxRecDepth 100000
section OPN3
variable {w w' : Nat → Int} {τ t u : CT} {m c v C x : Int} {d n i j k a b s y : Nat}
theorem SI.opn (h : SI w C t) (h9 : w 0 ≤ 9) (hc : 0 ≤ c ∧ c < 120) (ho : onF w c < 0) (hC : 200 ≤ C) (e0 : n0C u = n0C t) (hn : nvC t ≤ y ∧ y < nvC u ∧ 110 ≤ y) (hnv : 1000 ≤ n0C t ∧ n0C t ≤ nvC t) (hD : ∀ v, v < nvC t → u.2.1 v = t.2.1 v) (ky : u.2.1 y = some memK) (wy : wrC u y) (hy : sg u y 0 = w 0 ∧ sg u y 1 = c ∧ sg u y 2 = -5 ∧ sg u y 3 = 0 ∧ sg u y 4 = 0 ∧ sg u y 5 = 0 ∧ sg u y 6 = 0)
    (e103 : ∀ j, sg u 103 j = if j = (w 0).toNat then ((y : Nat) : Int) else sg t 103 j) (e102 : ∀ j, sg u 102 j = if j = c.toNat then w 0 else sg t 102 j) (e105 : ∀ j, sg u 105 j = if j = 7 then w 11 + 1 else sg t 105 j) (h3 : ∀ v, v < nvC t → v ≠ 102 → v ≠ 103 → v ≠ 105 → sg u v = sg t v) : SI (opnF w c) (C + 2) u := by
  obtain ⟨⟨⟨⟨c1, c2, c3, c4, c5, c6⟩, hwr⟩, hT, hSh⟩, ⟨i1, i2, i3, i4⟩, hWS, hSH, hbd⟩ := h
  have h0 : 0 ≤ w 0 ∧ w 0 ≤ 9 := ⟨i1.1, h9⟩
  have hw : ∀ j, (1 ≤ j ∧ j ≤ 10) ∨ 72 ≤ j → opnF w c j = w j := fun j hj => opn_hi h0 hj
  have hM := opn_isM (w := w) h0 hc.1
  have hfz : ∀ y, 1000 ≤ y → y < n0C t → u.2.1 y = t.2.1 y ∧ sg u y = sg t y := fun v v1 v2 => ⟨hD v (by omega), h3 v (by omega) (by omega) (by omega) (by omega)⟩
  have hMem : ∀ a v, (0 ≤ a ∧ a ≤ 9) → a ≠ w 0 → MemC t w a v → MemC u (opnF w c) a v := fun a v ha hne q => by
    obtain ⟨⟨p1, p2, p3⟩, p4, p5, p6, p7, p8, p9, p10⟩ := q
    have e : ∀ i : Int, 0 ≤ i → i ≤ 5 → opnF w c (12 + 6 * a + i).toNat = w (12 + 6 * a + i).toNat := fun i q1 q2 => by
      rw [opn_at h0, if_neg (by omega), if_neg (by omega), if_neg (by omega), if_neg (by omega), if_neg (by omega)]
    refine ⟨⟨p1, by omega, (hD v p2).trans p3⟩, ?_⟩
    rw [h3 v p2 (by omega) (by omega) (by omega), opn_cel h0 a ha, if_neg hne, e 5 (by omega) (by omega), e 1 (by omega) (by omega), e 2 (by omega) (by omega), e 3 (by omega) (by omega), e 4 (by omega) (by omega)]
    exact ⟨p4, p5, p6, p7, p8, p9, p10⟩
  have hNew : MemC u (opnF w c) (w 0) y := by
    have e : ∀ i : Int, 1 ≤ i → i ≤ 4 → opnF w c (12 + 6 * w 0 + i).toNat = 0 := fun i q1 q2 => by
      rw [opn_at h0, if_neg (by omega), if_neg (by omega), if_neg (by omega), if_neg (by omega), if_pos (by omega)]
    have e5 : opnF w c (12 + 6 * w 0 + 5).toNat = -5 := by
      rw [opn_at h0, if_neg (by omega), if_neg (by omega), if_neg (by omega), if_pos (by omega)]
    obtain ⟨y0, y1, y2, y3, y4, y5, y6⟩ := hy
    refine ⟨⟨hn.2.2, hn.2.1, ky⟩, y0, ?_, ?_, ?_, ?_, ?_, ?_⟩
    · rw [opn_cel h0 _ h0, if_pos rfl]; exact y1
    · rw [e5]; exact y2
    · rw [e 1 (by omega) (by omega)]; exact y3
    · rw [e 2 (by omega) (by omega)]; exact y4
    · rw [e 3 (by omega) (by omega)]; exact y5
    · rw [e 4 (by omega) (by omega)]; exact y6
  have g3 : ∀ v, v < 110 → v ≠ 102 → v ≠ 103 → v ≠ 105 → sg u v = sg t v := fun v hv => h3 v (by omega)
  refine ⟨⟨⟨⟨?_, ?_, ?_, ?_, ?_, ?_⟩, fun a q m0 m1 => ?_⟩, hT.of e0 (by omega) (g3 18 (by decide) (by decide) (by decide) (by decide)) (fun v _ v2 => hD v v2), ?_⟩, ⟨by rw [opn_0 h0]; omega, opn_inj i2 h0 hc.1 ho, fun x x0 x1 => ?_, fun a a0 a1 => ?_⟩, hWS.opn h9 hc, fun s s0 s1 => ?_, hbd.opn hC hc⟩
  · intro x x0 x1
    rw [g3 101 (by decide) (by decide) (by decide) (by decide), e102, opn_onF i2 h0 hc.1 ho, hw _ (by omega)]
    refine ⟨(c1 x x0 x1).1, ?_⟩
    by_cases q : x = c
    · rw [if_pos (by rw [q]), if_pos q]
    · rw [if_neg (by omega), if_neg q]
      exact (c1 x x0 x1).2
  · intro a a0 a1
    rw [e103, hM]
    by_cases q : a = w 0
    · rw [if_pos (by rw [q])]
      exact ⟨fun _ => by rw [q, Int.toNat_natCast]; exact hNew, fun r => absurd (Or.inr q) r⟩
    · rw [if_neg (by omega)]
      refine ⟨fun r => ?_, fun r => (c2 a a0 a1).2 (fun r2 => r (Or.inl r2))⟩
      rcases r with r | r
      · exact hMem a _ ⟨a0, by omega⟩ q ((c2 a a0 a1).1 r)
      · exact absurd r q
  · intro k k0 k1
    rw [e105]
    unfold accF
    by_cases q : k = 7
    · rw [if_pos (by omega), if_neg (by omega), q]
      have e : ((4 : Int) + 7).toNat = 11 := rfl
      rw [e, opn_at h0, if_neg (by decide), if_pos rfl]
    · rw [if_neg (by omega), c3 k k0 k1, oF_congr 120 0 (by omega) (fun j j0 j1 => hw _ (by omega)), hw _ (by omega)]
      rfl
  · rw [g3 100 (by decide) (by decide) (by decide) (by decide), c4]
    unfold ldC
    rw [hw 1 (by omega)]
  · rw [g3 100 (by decide) (by decide) (by decide) (by decide), c5]
    unfold tgC
    rw [hw 2 (by omega)]
  · rw [g3 100 (by decide) (by decide) (by decide) (by decide), c6, hw 3 (by omega)]
  · unfold mnC
    rw [e103]
    by_cases q2 : a = w 0
    · rw [if_pos (by rw [q2]), Int.toNat_natCast]
      exact wy
    · rw [if_neg (by omega)]
      rw [hM] at q
      rcases q with q | q
      · exact wrC_wk (hwr a q m0 m1) e0
      · exact absurd q q2
  · intro s s0 s1
    have es : sltF (opnF w c) s = sltF w s := hw _ (by omega)
    have ea : ancF (opnF w c) s = ancF w s := hw _ (by omega)
    rw [g3 104 (by decide) (by decide) (by decide) (by decide), es]
    refine ⟨fun q => ?_, (hSh s s0 s1).2⟩
    have := ((hSh s s0 s1).1 q).fz (t := u) e0 hfz
    unfold ShC at *
    have ha := (hSH s s0 (by omega)).2
    have ec : ∀ k, 0 ≤ k → k < sltF w s → colF (opnF w c) s k = colF w s k ∧ rowF (opnF w c) s k = rowF w s k := fun k k0 k1 => by
      unfold colF rowF
      rw [ea, hw _ (by omega), hw _ (by omega), hw _ (by omega), hw _ (by omega)]
      exact ⟨rfl, rfl⟩
    rw [es, ea]
    refine ⟨this.1, this.2.1, this.2.2.1, this.2.2.2.1, fun k k0 k1 => ?_⟩
    rw [(ec k k0 k1).1, (ec k k0 k1).2]
    exact this.2.2.2.2 k k0 k1
  · rw [hw _ (by omega)]
    exact i3 x x0 x1
  · rw [opn_cel h0 a ⟨a0, a1⟩]
    split
    · omega
    · exact i4 a a0 a1
  · have es : sltF (opnF w c) s = sltF w s := hw _ (by omega)
    have ea : ancF (opnF w c) s = ancF w s := hw _ (by omega)
    rw [es, ea]
    exact hSH s s0 s1
end OPN3
