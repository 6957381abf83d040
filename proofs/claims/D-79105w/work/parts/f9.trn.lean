/-! THE CLASS'S METHODS, 39: an obstacle turned -/
set_option maxRecDepth 100000
section TRN
variable {w w' : Nat → Int} {R : Nat → Nat → Int} {τ t u t4 : CT} {m c v C : Int} {d x y n i j k a b s : Nat} {Q : Option AV → CT → Prop}
theorem oF_upd (hc : 0 ≤ c) : ∀ (k : Nat) (i : Int), 0 ≤ i → i ≤ c → c < i + k → oF (updW w (72 + c).toNat v) k i = oF w k i + (v - w (72 + c).toNat) := by
  intro k
  induction k with
  | zero => intro i _ _ _; omega
  | succ k ih =>
    intro i i0 h1 h2
    unfold oF
    by_cases q : i = c
    · subst q
      rw [upd_at, oF_congr k (i + 1) (by omega) (fun j j0 j1 => upd_ne (by omega))]
      omega
    · rw [upd_ne (by omega), ih (i + 1) (by omega) (by omega) (by omega)]
      omega
theorem oF_trn (hc : 0 ≤ c ∧ c < 120) : oF (trnF w c) 120 0 = oF w 120 0 + (1 - 2 * w (72 + c).toNat) := by
  unfold trnF
  rw [oF_upd hc.1 120 0 (by omega) (by omega) (by omega)]
  omega
abbrev trnC (t : CT) (w : Nat → Int) (c : Int) : CT := stC (stC t 101 c.toNat (1 - w (72 + c).toNat)) 105 6 (oF (trnF w c) 120 0)
theorem SI.trn (h : SI w C t) (hc : 0 ≤ c ∧ c < 120) (hC : 200 ≤ C) : SI (trnF w c) (C + 1) (trnC t w c) := by
  obtain ⟨⟨⟨⟨c1, c2, c3, c4, c5, c6⟩, hwr⟩, hT, hSh⟩, ⟨i1, i2, i3, i4⟩, hWS, hSH, hbd⟩ := h
  have hw : ∀ i, i ≠ (72 + c).toNat → trnF w c i = w i := fun i hi => upd_ne hi
  have hwc : trnF w c (72 + c).toNat = 1 - w (72 + c).toNat := upd_at
  have h3 : ∀ v, v ≠ 101 → v ≠ 105 → sg (trnC t w c) v = sg t v := fun v v1 v2 => by rw [sg_st' v2, sg_st' v1]
  have hcel : ∀ m, 0 ≤ m → m ≤ 9 → celF (trnF w c) m = celF w m := fun m m0 m1 => hw _ (by omega)
  have e0 : trnF w c 0 = w 0 := hw 0 (by omega)
  have hM : ∀ m, isM (trnF w c) m ↔ isM w m := isM_congr e0 i1.2 (fun m m0 m1 => by rw [hcel m m0 m1])
  have hon : ∀ x, onF (trnF w c) x = onF w x := onF_congr e0 i1.2 hcel
  have hMem : ∀ a y, (0 ≤ a ∧ a < 10) → MemC t w a y → MemC (trnC t w c) (trnF w c) a y := fun a y ha q => by
    obtain ⟨⟨p1, p2, p3⟩, p4, p5, p6, p7, p8, p9, p10⟩ := q
    refine ⟨⟨p1, p2, p3⟩, ?_⟩
    rw [h3 y (by omega) (by omega), hcel a ha.1 (by omega), hw _ (by omega), hw _ (by omega), hw _ (by omega), hw _ (by omega), hw _ (by omega)]
    exact ⟨p4, p5, p6, p7, p8, p9, p10⟩
  refine ⟨⟨⟨⟨?_, ?_, ?_, ?_, ?_, ?_⟩, fun a q m0 m1 => ?_⟩, hT.of rfl (Nat.le_refl _) (h3 18 (by decide) (by decide)) (fun y _ _ => rfl), ?_⟩, ⟨by rw [e0]; exact i1, fun m m' q q' => ?_, fun x x0 x1 => ?_, fun m m0 m1 => by rw [hcel m m0 m1]; exact i4 m m0 m1⟩, hWS.trn hc, fun s s0 s1 => ?_, hbd.trn hC⟩
  · intro x x0 x1
    rw [h3 102 (by decide) (by decide), hon, sg_st' (by decide), sg_st]
    refine ⟨?_, (c1 x x0 x1).2⟩
    by_cases q : x = c
    · rw [if_pos (by rw [q]), q, hwc]
    · rw [if_neg (by omega), hw _ (by omega)]
      exact (c1 x x0 x1).1
  · intro a a0 a1
    rw [h3 103 (by decide) (by decide)]
    exact ⟨fun q => hMem a _ ⟨a0, a1⟩ ((c2 a a0 a1).1 ((hM a).mp q)), fun q => (c2 a a0 a1).2 (fun q' => q ((hM a).mpr q'))⟩
  · intro k k0 k1
    rw [sg_st]
    unfold accF
    by_cases q : k = 6
    · rw [if_pos (by omega), if_pos q]
    · rw [if_neg (by omega), if_neg q, sg_st' (by decide), c3 k k0 k1, hw _ (by omega)]
      unfold accF
      rw [if_neg q]
  · rw [h3 100 (by decide) (by decide), c4]
    unfold ldC
    rw [hw 1 (by omega)]
  · rw [h3 100 (by decide) (by decide), c5]
    unfold tgC
    rw [hw 2 (by omega)]
  · rw [h3 100 (by decide) (by decide), c6, hw 3 (by omega)]
  · unfold mnC
    rw [h3 103 (by decide) (by decide)]
    exact hwr a ((hM a).mp q) m0 m1
  · intro s s0 s1
    have es : sltF (trnF w c) s = sltF w s := hw _ (by omega)
    have ea : ancF (trnF w c) s = ancF w s := hw _ (by omega)
    rw [h3 104 (by decide) (by decide), es]
    refine ⟨fun q => ?_, (hSh s s0 s1).2⟩
    have := ((hSh s s0 s1).1 q).fz (t := trnC t w c) rfl (fun y y1 y2 => ⟨rfl, h3 y (by omega) (by omega)⟩)
    unfold ShC at *
    have ha := (hSH s s0 (by omega)).2
    have ec : ∀ k, 0 ≤ k → k < sltF w s → colF (trnF w c) s k = colF w s k ∧ rowF (trnF w c) s k = rowF w s k := fun k k0 k1 => by
      unfold colF rowF
      rw [ea, hw _ (by omega), hw _ (by omega), hw _ (by omega), hw _ (by omega)]
      exact ⟨rfl, rfl⟩
    rw [es, ea]
    refine ⟨this.1, this.2.1, this.2.2.1, this.2.2.2.1, fun k k0 k1 => ?_⟩
    rw [(ec k k0 k1).1, (ec k k0 k1).2]
    exact this.2.2.2.2 k k0 k1
  · have a1 := isM_le ((hM m).mp q) i1.2
    have a2 := isM_le ((hM m').mp q') i1.2
    rw [hcel m a1.1 a1.2, hcel m' a2.1 a2.2]
    exact i2 m m' ((hM m).mp q) ((hM m').mp q')
  · by_cases q : x = c
    · rw [q, hwc]
      have := i3 c hc.1 hc.2
      omega
    · rw [hw _ (by omega)]
      exact i3 x x0 x1
  · have es : sltF (trnF w c) s = sltF w s := hw _ (by omega)
    have ea : ancF (trnF w c) s = ancF w s := hw _ (by omega)
    rw [es, ea]
    exact hSH s s0 s1
end TRN
