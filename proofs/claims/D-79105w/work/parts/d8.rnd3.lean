/-! THE CLASS'S METHODS, 19: a round, the turns -/
set_option maxRecDepth 100000
/-- the turns: list 18 with its array x holds the members tr -/
def TRs (w : Nat → Int) (t : CT) (x cap s : Nat) (tr : Nat → Int) : Prop := ALs kap t 18 x cap s 4 ∧ (cap = 0 ∨ cap = 10) ∧ (cap = 10 → 110 ≤ x ∧ x < nvC t) ∧ (∀ i, i < s → isM w (tr i) ∧ sg t x i = (mnC t (tr i) : Int))
section RN3
variable {w w0 w1 wb w' : Nat → Int} {τ t t0 u : CT} {a b m c v : Int} {d p q n k s x cap B U : Nat} {e tr : Nat → Int} {Q : Option AV → CT → Prop} {L : TL} {S : Int → Prop}
theorem TRs.tnk (h : TRs w t x cap s tr) : TnK t := by
  obtain ⟨⟨h1, h2, h3, -⟩, h4, h5, -⟩ := h
  have et : tnC t = x := by unfold tnC; rw [h2.1]; exact Int.toNat_natCast x
  exact ⟨cap, s, ⟨h1, by rw [et]; exact h2, by rw [et]; exact h3⟩, h4, by rw [et]; exact h5⟩
theorem PQs.wd (h : PQs w1 w t p q n e) : Wd w t ∧ Gd w1 t := ⟨h.2.2.1.2.2.1, h.2.2.1.2.1⟩
/-- the turns' list changes: the queue, the world and the places stay -/
theorem frl_lo (g : FrL 18 x t u) (hv : 110 ≤ nvC t) (hx : x = 3 ∨ 110 ≤ x) (h3 : sg u 3 = sg t 3 ∨ x ≠ 3) {y : Nat} (hy : y < 110) (h18 : y ≠ 18) (hy3 : y ≠ 3) : sg u y = sg t y := g.2.2.2 y (by omega) h18 (by omega)
theorem Wd.frl (h : Wd w t) (g : FrL 18 x t u) (hnv : 110 ≤ nvC t) (hx : x = 3 ∨ (110 ≤ x ∧ kd kap t x = some (ckR 0 cap))) (h0 : w 0 ≤ 10) : Wd w u := by
  have hx3 : x = 3 ∨ 110 ≤ x := by rcases hx with q | q; exact Or.inl q; exact Or.inr q.1
  have hlo : ∀ y, y < 110 → y ≠ 18 → y ≠ 3 → sg u y = sg t y := fun y h1 h2 h3 => g.2.2.2 y (by omega) h2 (by omega)
  obtain ⟨⟨h1, h2, h3, h4, h5, h6⟩, h7⟩ := h
  refine ⟨⟨fun c c0 c1 => by rw [hlo 101 (by omega) (by omega) (by omega), hlo 102 (by omega) (by omega) (by omega)]; exact h1 c c0 c1, fun m m0 m1 => ?_, fun k k0 k1 => by rw [hlo 105 (by omega) (by omega) (by omega)]; exact h3 k k0 k1, by rw [hlo 100 (by omega) (by omega) (by omega)]; exact ⟨h4, h5, h6⟩⟩, fun m hm m0 m1 => ?_⟩
  · rw [hlo 103 (by omega) (by omega) (by omega)]
    refine ⟨fun hm => ?_, (h2 m m0 m1).2⟩
    obtain ⟨⟨a1, a2, a3⟩, b⟩ := (h2 m m0 m1).1 hm
    have hn : (sg t 103 m.toNat).toNat ≠ x := fun r => by
      rcases hx with q | ⟨q1, q2⟩
      · omega
      · rw [← r, kd_dyn a1 a3] at q2; cases q2
    refine ⟨⟨a1, by have := g.2.1; omega, by rw [g.2.2.1 _ a2]; exact a3⟩, ?_⟩
    rw [g.2.2.2 _ a2 (by omega) hn]
    exact b
  · have := h7 m hm m0 m1
    unfold mnC
    rw [hlo 103 (by omega) (by omega) (by omega)]
    exact wrC_wk this g.1
theorem Gd.frl (hS : WS w0) (h : Gd w0 t) (g : FrL 18 x t u) (hnv : 110 ≤ nvC t) (hx : x = 3 ∨ 110 ≤ x) : Gd w0 u := by
  have hlo : ∀ y, y < 110 → y ≠ 18 → y ≠ 3 → sg u y = sg t y := fun y h1 h2 h3 => g.2.2.2 y (by omega) h2 (by omega)
  exact ⟨fun m m0 m1 => by rw [hlo 15 (by omega) (by omega) (by omega)]; exact h.1 m m0 m1, h.2.of hS (fun v hv => hlo v (by omega) (by omega) (by omega)) (by rw [hlo 10 (by omega) (by omega) (by omega)]) (by rw [hlo 10 (by omega) (by omega) (by omega)])⟩
theorem PQs.frl (h : PQs w1 w t p q n e) (g : FrL 18 x t u) (hnv : 110 ≤ nvC t) (hx : x = 3 ∨ (110 ≤ x ∧ kd kap t x = some (ckR 0 cap))) (hxp : x ≠ p) (hxq : x ≠ q) (hp : p < nvC t) (hq : q < nvC t) : PQs w1 w u p q n e := by
  have hx3 : x = 3 ∨ 110 ≤ x := by rcases hx with q | q; exact Or.inl q; exact Or.inr q.1
  obtain ⟨⟨p1, p2, p3, p4⟩, ⟨s0, s1, s2⟩, ⟨x1, x2, x3, x4, x5, x6, x7⟩, hn9, hel, hz, hh, hj⟩ := h
  have ep : sg u p = sg t p := g.2.2.2 p hp (by omega) (Ne.symm hxp)
  have eq : sg u q = sg t q := g.2.2.2 q hq (by omega) (Ne.symm hxq)
  have em : ∀ m, mnC u m = mnC t m := fun m => by unfold mnC; rw [g.2.2.2 103 (by omega) (by omega) (by omega)]
  exact ⟨⟨p1, by rw [g.2.2.1 p hp]; exact p2, wrC_wk p3 g.1, p4⟩, by rw [ep]; exact ⟨s0, s1, s2⟩, ⟨x1, x2.frl x1 g hnv hx3, x3.frl g hnv hx x4.1.2, x4, x5, by rw [g.2.2.1 q hq]; exact x6, wrC_wk x7 g.1⟩, hn9, fun i hi => ⟨(hel i hi).1, by rw [eq, em]; exact (hel i hi).2⟩, fun i i0 i1 => by rw [eq]; exact hz i i0 i1, hh, hj⟩
theorem FrW.frl (h : FrW τ t) (hnv : 1000 ≤ n0C τ ∧ n0C τ ≤ nvC τ) (g : FrL 18 x t u) (hx : x = 3 ∨ x = tnC τ ∨ nvC τ ≤ x) (hxw : x = 3 ∨ (110 ≤ x ∧ wrC t x)) (hT : TnK u) (ht : tnC u = x ∨ nvC τ ≤ tnC u) (htx : tnC t = x) : FrW τ u := by
  have hv : nvC τ ≤ nvC t := h.1.2
  have hxw2 : x < 1000 ∨ n0C τ ≤ x := by
    rcases hxw with q | q
    · omega
    · have := q.2.2; rw [h.1.1] at this; exact this
  refine h.ext hnv g.1 g.2.1.1 (fun y _ y2 => g.2.2.1 y (by omega)) (fun v hv => g.2.2.2 v (by omega) (by omega) (fun r => ?_)) (fun y y1 y2 y3 _ => g.2.2.2 y (by omega) (by omega) (fun r => by omega)) (fun y y1 y2 => g.2.2.2 y (by omega) (by omega) (fun r => by omega)) (fun _ => hT) ?_
  · omega
  · rcases ht with r | r
    · exact Or.inl (r.trans htx.symm)
    · exact Or.inr r
theorem cc_round_142 (hS : WS w1) (hnv : 1000 ≤ n0C τ ∧ n0C τ ≤ nvC τ) (hp : nvC τ ≤ p) (hq : nvC τ ≤ q) (hd : 8 ≤ d) {i1 : Int} {a2 : Nat} {o4 o5 o6 o7 : Option AV} : ∀ (n s : Nat) (t : CT) (x cap : Nat) (e tr : Nat → Int), FrW τ t → PQs w1 wb t p q n e → TRs wb t x cap s tr → (p < nvC t ∧ q < nvC t ∧ x ≠ p ∧ x ≠ q ∧ (x = 3 ∨ x = tnC τ ∨ nvC τ ≤ x)) → (∀ i j, i < j → j < s → keyW w1 wb (tr i) < keyW w1 wb (tr j)) → (∀ i j, i < s → j < n → keyW w1 wb (tr i) < keyW w1 wb (e j)) → s + n ≤ 9 → (∀ m', (ElN s tr m' ∨ ElN n e m') ↔ S m') → ((cap = 0 → nvC t ≤ B ∧ uC t ≤ U) ∧ nvC t ≤ B + 1 ∧ uC t ≤ U + 10) →
    (∀ (u : CT) (x' cap' s' : Nat) (tr' : Nat → Int), FrW τ u → (Wd wb u ∧ Gd w1 u ∧ IR wb) → TRs wb u x' cap' s' tr' → (∀ i j, i < j → j < s' → keyW w1 wb (tr' i) < keyW w1 wb (tr' j)) → (∀ m', ElN s' tr' m' ↔ S m') → s' ≤ 9 → (nvC u ≤ B + 1 ∧ uC u ≤ U + 10) → Wc kap d rX0_round 167 [some (.inr 10), some (.inl i1), some (.inr a2), some (.inr p), o4, o5, o6, o7] [] u (nQ Q)) →
    Wc kap d rX0_round 142 [some (.inr 10), some (.inl i1), some (.inr a2), some (.inr p), o4, o5, o6, o7] [] t (nQ Q) := by
  intro n
  induction n with
  | zero =>
    intro s t x cap e tr hF hP hT hx hs1 hs2 hsn hE hB K
    have kp : kd kap t p = some pqK := kd_dyn hP.1.1 hP.1.2.1
    have hem := cc_pqEmpty hP
    refine wc_aload_n dX0_round_142 rfl ?_
    refine wc_call dX0_round_143 rfl (hem) (by omega) (hx_V (kV0_224 rfl) rfl kp rfl rfl) ?_
    rintro _ _ ⟨rfl, ⟨h143, rfl⟩ | ⟨h143, rfl⟩⟩
    ·
      refine wc_ifT dX0_round_146 (by decide) 167 rfl ?_
      exact K t x cap s tr hF ⟨hP.wd.1, hP.wd.2, hP.2.2.1.2.2.2.1⟩ hT hs1 (fun m' => by rw [← hE m']; exact ⟨fun q => Or.inl q, fun q => by rcases q with q | ⟨i, hi, _⟩; exact q; omega⟩) (by omega) hB.2
    ·
      refine wc_ifF dX0_round_146 (by decide) 167 rfl ?_
      refine wc_aload_n dX0_round_149 rfl ?_
      exact absurd rfl h143
  | succ n ih =>
    intro s t x cap e tr hF hP hT hx hs1 hs2 hsn hE hB K
    have kp : kd kap t p = some pqK := kd_dyn hP.1.1 hP.1.2.1
    have hem := cc_pqEmpty hP
    have hrm := cc_pqRemove hP
    have h00 : wb 0 ≤ 10 := hP.2.2.1.2.2.2.1.1.2
    have hel := hP.2.2.2.2.1
    have hM0 := hP.2.2.1.2.2.1.mem h00 (hel 0 (by omega)).1
    obtain ⟨hT1, hT2, hT3, hT4⟩ := hT
    have hv110 : 110 ≤ nvC t := by have := hF.1.2; omega
    have hx3 : x = 3 ∨ (110 ≤ x ∧ kd kap t x = some (ckR 0 cap)) := by
      rcases hT1.2.2.1 with ⟨q1, -⟩ | ⟨q1, q2, -⟩
      · exact Or.inl q1
      · exact Or.inr ⟨(hT3 (by omega)).1, q2⟩
    have hxw : x = 3 ∨ (110 ≤ x ∧ wrC t x) := by
      rcases hT1.2.2.1 with ⟨q1, -⟩ | ⟨q1, q2, q3, -⟩
      · exact Or.inl q1
      · exact Or.inr ⟨(hT3 (by omega)).1, q3⟩
    refine wc_aload_n dX0_round_142 rfl ?_
    refine wc_call dX0_round_143 rfl (hem) (by omega) (hx_V (kV0_224 rfl) rfl kp rfl rfl) ?_
    rintro _ _ ⟨rfl, ⟨h143, rfl⟩ | ⟨h143, rfl⟩⟩
    ·
      refine wc_ifT dX0_round_146 (by decide) 167 rfl ?_
      exact absurd h143 (by omega)
    ·
      refine wc_ifF dX0_round_146 (by decide) 167 rfl ?_
      refine wc_aload_n dX0_round_149 rfl ?_
      refine wc_getC dX0_round_150 (kF0_215 rfl) rfl rfl ?_
      refine wc_aload_n dX0_round_153 rfl ?_
      refine wc_call dX0_round_154 rfl (hrm) (by omega) (hx_V (kV0_228 rfl) rfl kp rfl rfl) ?_
      rintro _ _ ⟨rfl, hFq, hmin, e', hP', hE'⟩
      have hMq := hP'.2.2.1.2.2.1.mem h00 (hel 0 (by omega)).1
      have emn : ∀ m, mnC _ m = mnC t m := fun m => hFq.mn hP.1.1 hP.2.2.1.2.2.2.2.1 m
      rw [emn] at hMq
      have hA' := hT1.fr (u := _) (fun v k hk => by unfold kd at hk ⊢; rw [hFq.2.1]; exact hk) (by unfold n0C; rw [hFq.1]) (by rw [hFq.2.2 18 (by omega) (by omega)]) (by rw [hFq.2.2 18 (by omega) (by omega)]) (hFq.2.2 x hx.2.2.1 hx.2.2.2.1)
      have hFt := hF.pq hnv hFq hp hq
      have hadd := cc_add hA' (by omega) rfl ⟨_, hMq.kd⟩
      refine wc_cast dX0_round_157 (kX0_50 rfl) (Or.inr ⟨_, hMq.kd⟩) ?_
      refine wc_call dX0_round_160 rfl (hadd) (by omega) (hx_V (kV0_232 rfl) rfl rfl rfl rfl) ?_
      rintro _ _ ⟨rfl, x', n', g1, g2, g3, g4, g5, g6⟩
      refine wc_pop dX0_round_163 ?_
      refine wc_goto dX0_round_164 142 rfl ?_
      rename_i t1 u
      have hT1' : t1.1 = t.1 := hFq.1
      have env : nvC t1 = nvC t := by unfold nvC; rw [hT1']
      have eu : uC t1 = uC t := by unfold uC; rw [hT1']
      have emu : ∀ m, mnC u m = mnC t m := fun m => by
        rw [← emn m]
        unfold mnC
        rw [g5.2.2.2 103 (by omega) (by omega) (by rcases hx3 with r | r <;> omega)]
      have hc1 : s < n' := g1.2.1.2.2.1
      have hcap : n' = 10 := by
        rcases g4 with ⟨-, r, r2, -⟩ | ⟨-, r, -, r2, -⟩
        · rcases hT2 with q | q <;> omega
        · exact r2 (by rcases hT2 with q | q <;> omega)
      have hxx : (x' = x ∧ nvC u = nvC t ∧ uC u = uC t ∧ cap = 10) ∨ (x' = nvC t ∧ cap = 0 ∧ s = 0) := by
        rcases g4 with ⟨r, r1, r2, r3, r4⟩ | ⟨r, r1, -, -⟩
        · exact Or.inl ⟨r, by omega, by omega, by omega⟩
        · exact Or.inr ⟨by omega, by rcases hT2 with q | q <;> omega, by rcases hT2 with q | q <;> omega⟩
      have hnvu := g5.2.1
      have hx110 : 110 ≤ x' ∧ x' < nvC u := by
        rcases hxx with ⟨r1, r2, -, r3⟩ | ⟨r1, -, -⟩
        · have := hT3 r3; omega
        · rcases g4 with ⟨r, r2, -⟩ | ⟨r, -, -, -, r5⟩
          · omega
          · omega
      have hTR : TRs wb u x' n' (s + 1) (fun i => if i = s then e 0 else tr i) := by
        refine ⟨g1, Or.inr hcap, fun _ => hx110, fun i hi => ?_⟩
        dsimp only
        by_cases r : i = s
        · rw [if_pos r, r, emu]
          exact ⟨(hel 0 (by omega)).1, g3⟩
        · rw [if_neg r, emu, g2 i (by omega), hFq.2.2 x hx.2.2.1 hx.2.2.2.1]
          exact hT4 i (by omega)
      have hx3' : x = 3 ∨ (110 ≤ x ∧ kd kap t1 x = some (ckR 0 cap)) := by
        rcases hx3 with q | ⟨q1, q2⟩
        · exact Or.inl q
        · refine Or.inr ⟨q1, ?_⟩
          unfold kd at q2 ⊢
          rw [hFq.2.1]
          exact q2
      have hxw' : x = 3 ∨ (110 ≤ x ∧ wrC t1 x) := by
        rcases hxw with q | ⟨q1, q2⟩
        · exact Or.inl q
        · exact Or.inr ⟨q1, wrC_wk q2 (by unfold n0C; rw [hFq.1])⟩
      have htx : tnC t1 = x := by unfold tnC; rw [hFq.2.2 18 (by omega) (by omega), hT1.2.1.1]; exact Int.toNat_natCast x
      have htu : tnC u = x' := by unfold tnC; rw [g1.2.1.1]; exact Int.toNat_natCast x'
      have hFu : FrW τ u := hFt.frl hnv g5 hx.2.2.2.2 hxw' hTR.tnk (by rw [htu]; rcases hxx with ⟨r, -⟩ | ⟨r, -⟩; exact Or.inl r; exact Or.inr (by have := hF.1.2; omega)) htx
      have hinj := hP.2.2.2.2.2.2.2
      have hlt : ∀ l, l < n + 1 → l ≠ 0 → keyW w1 wb (e 0) < keyW w1 wb (e l) := fun l hl hl0 => by
        have := hmin l hl
        have hne : keyW w1 wb (e 0) ≠ keyW w1 wb (e l) := fun r => hl0 (hinj l 0 hl (by omega) (key_inj (D := dsF w1 wb) (isM_le (hel l hl).1 h00) (isM_le (hel 0 (by omega)).1 h00) r.symm))
        omega
      refine ih (s + 1) u x' n' e' (fun i => if i = s then e 0 else tr i) hFu (hP'.frl g5 (by omega) hx3' hx.2.2.1 hx.2.2.2.1 (by omega) (by omega)) hTR ⟨by omega, by omega, ?_, ?_, ?_⟩ (fun i j hij hj => ?_) (fun i j hi hj => ?_) (by omega) (fun m' => ?_) ⟨fun r => by omega, ?_⟩ K
      · rcases hxx with ⟨r, -⟩ | ⟨r, -⟩
        · rw [r]; exact hx.2.2.1
        · omega
      · rcases hxx with ⟨r, -⟩ | ⟨r, -⟩
        · rw [r]; exact hx.2.2.2.1
        · omega
      · rcases hxx with ⟨r, -⟩ | ⟨r, -⟩
        · rw [r]; exact hx.2.2.2.2
        · right; right; have := hF.1.2; omega
      · rw [if_neg (show ¬ i = s by omega)]
        by_cases r : j = s
        · rw [if_pos r]; exact hs2 i 0 (by omega) (by omega)
        · rw [if_neg r]; exact hs1 i j hij (by omega)
      · obtain ⟨⟨l, hl, r⟩, hne⟩ := (hE' (e' j)).mp ⟨j, hj, rfl⟩
        rw [← r]
        have hl0 : l ≠ 0 := fun q => hne (by rw [← r, q])
        by_cases r2 : i = s
        · rw [if_pos r2]; exact hlt l hl hl0
        · rw [if_neg r2]; exact hs2 i l (by omega) hl
      · rw [← hE m', hE' m']
        constructor
        · rintro (⟨i, hi, r⟩ | ⟨r, -⟩)
          · dsimp only at r
            by_cases r2 : i = s
            · rw [if_pos r2] at r; exact Or.inr ⟨0, by omega, r⟩
            · rw [if_neg r2] at r; exact Or.inl ⟨i, by omega, r⟩
          · exact Or.inr r
        · rintro (⟨i, hi, r⟩ | r)
          · exact Or.inl ⟨i, by omega, by dsimp only; rw [if_neg (by omega)]; exact r⟩
          · by_cases r2 : m' = e 0
            · exact Or.inl ⟨s, by omega, by dsimp only; rw [if_pos rfl]; exact r2.symm⟩
            · exact Or.inr ⟨r, r2⟩
      · rcases hxx with ⟨-, r, r2, -⟩ | ⟨-, r, r2⟩
        · have := hB.2; omega
        · have := hB.1 r; omega
end RN3
