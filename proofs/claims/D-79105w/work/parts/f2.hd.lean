/-! THE CLASS'S METHODS, 32: leader, target, choice set; rounds -/
set_option maxRecDepth 100000
/-- what a call keeps of the planner beside the present world and the kept ones -/
def FrV (t u : CT) : Prop := (n0C u = n0C t ∧ nvC t ≤ nvC u) ∧ (∀ j, j ≠ 6 → j ≠ 7 → sg u 10 j = sg t 10 j) ∧ sg u 21 = sg t 21
section HD
variable {w w' : Nat → Int} {R : Nat → Nat → Int} {τ t u t4 : CT} {m c v C : Int} {d x y n i j k a b s : Nat} {Q : Option AV → CT → Prop}
/-- another head of the row: leader, target, choice -/
theorem SI.hd (h : SI w C t) (hw : ∀ i, 4 ≤ i ∨ i = 0 → w' i = w i) (hS : WS w') (hb : bdW C w') (h1 : u.1 = t.1) (h2 : u.2.1 = t.2.1) (h3 : ∀ v, v ≠ 100 → sg u v = sg t v) (h4 : sg u 100 5 = ldC w' ∧ sg u 100 6 = tgC w' ∧ sg u 100 7 = w' 3) : SI w' C u := by
  obtain ⟨⟨⟨⟨c1, c2, c3, c4, c5, c6⟩, hwr⟩, hT, hSh⟩, ⟨i1, i2, i3, i4⟩, hWS, hSH, hbd⟩ := h
  have hcel : ∀ m, 0 ≤ m → m ≤ 9 → celF w' m = celF w m := fun m m0 m1 => hw _ (by omega)
  have hM : ∀ m, isM w' m ↔ isM w m := isM_congr (hw 0 (Or.inr rfl)) i1.2 (fun m m0 m1 => by rw [hcel m m0 m1])
  have hon : ∀ c, onF w' c = onF w c := onF_congr (hw 0 (Or.inr rfl)) i1.2 hcel
  have e0 : n0C u = n0C t := by unfold n0C; rw [h1]
  have ev : nvC u = nvC t := by unfold nvC; rw [h1]
  have hMem : ∀ m y, (0 ≤ m ∧ m < 10) → MemC t w m y → MemC u w' m y := fun m y hm q => by
    obtain ⟨⟨p1, p2, p3⟩, p4, p5, p6, p7, p8, p9, p10⟩ := q
    refine ⟨⟨p1, by omega, by rw [h2]; exact p3⟩, ?_⟩
    rw [h3 y (by omega), hcel m hm.1 (by omega), hw _ (by omega), hw _ (by omega), hw _ (by omega), hw _ (by omega), hw _ (by omega)]
    exact ⟨p4, p5, p6, p7, p8, p9, p10⟩
  refine ⟨⟨⟨⟨?_, ?_, ?_, h4⟩, fun m q m0 m1 => ?_⟩, hT.of e0 (by omega) (h3 18 (by decide)) (fun y _ _ => by rw [h2]), ?_⟩, ⟨by rw [hw 0 (Or.inr rfl)]; exact i1, fun m m' q q' => ?_, fun c c0 c1 => ?_, fun m m0 m1 => by rw [hcel m m0 m1]; exact i4 m m0 m1⟩, hS, fun s s0 s1 => ?_, hb⟩
  · intro c c0 c1'
    rw [h3 101 (by decide), h3 102 (by decide), hon c, hw _ (by omega)]
    exact c1 c c0 c1'
  · intro m m0 m1
    rw [h3 103 (by decide)]
    exact ⟨fun q => hMem m _ ⟨m0, m1⟩ ((c2 m m0 m1).1 ((hM m).mp q)), fun q => (c2 m m0 m1).2 (fun q' => q ((hM m).mpr q'))⟩
  · intro k k0 k1
    rw [h3 105 (by decide), c3 k k0 k1]
    unfold accF
    rw [oF_congr 120 0 (by omega) (fun j j0 j1 => hw _ (by omega)), hw _ (by omega)]
  · have := wrC_wk (t := u) (hwr m ((hM m).mp q) m0 m1) e0
    unfold mnC at *
    rw [h3 103 (by decide)]
    exact this
  · intro s s0 s1
    have es : sltF w' s = sltF w s := hw _ (by omega)
    have ea : ancF w' s = ancF w s := hw _ (by omega)
    rw [h3 104 (by decide), es]
    refine ⟨fun q => ?_, (hSh s s0 s1).2⟩
    have := ((hSh s s0 s1).1 q).fz (t := u) e0 (fun y y1 y2 => ⟨by rw [h2], h3 y (by omega)⟩)
    unfold ShC at *
    have ha := (hSH s s0 (by omega)).2
    have ec : ∀ k, 0 ≤ k → k < sltF w s → colF w' s k = colF w s k ∧ rowF w' s k = rowF w s k := fun k k0 k1 => by
      unfold colF rowF
      rw [ea, hw _ (by omega), hw _ (by omega), hw _ (by omega), hw _ (by omega)]
      exact ⟨rfl, rfl⟩
    rw [es, ea]
    refine ⟨this.1, this.2.1, this.2.2.1, this.2.2.2.1, fun k k0 k1 => ?_⟩
    rw [(ec k k0 k1).1, (ec k k0 k1).2]
    exact this.2.2.2.2 k k0 k1
  · have a1 := isM_le ((hM m).mp q) i1.2
    have a2 := isM_le ((hM m').mp q') i1.2
    rw [hcel m a1.1 a1.2, hcel m' a2.1 a2.2]
    exact i2 m m' ((hM m).mp q) ((hM m').mp q')
  · rw [hw _ (by omega)]
    exact i3 c c0 c1
  · have es : sltF w' s = sltF w s := hw _ (by omega)
    have ea : ancF w' s = ancF w s := hw _ (by omega)
    rw [es, ea]
    exact hSH s s0 s1
end HD
