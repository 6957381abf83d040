/-! THE CLASS'S METHODS, 18: a round, the queue is filled -/
set_option maxRecDepth 100000
section RN2
variable {w w0 w1 w' : Nat → Int} {τ t t0 u : CT} {a b m c v : Int} {d p q n k : Nat} {e : Nat → Int} {Q : Option AV → CT → Prop} {L : TL}
theorem FrW.ext (h : FrW τ t) (hnv : 1000 ≤ n0C τ ∧ n0C τ ≤ nvC τ) (e0 : n0C u = n0C t) (ev : nvC t ≤ nvC u) (hD : ∀ y, 110 ≤ y → y < nvC τ → u.2.1 y = t.2.1 y) (hlo : ∀ v, v = 103 ∨ v = 104 ∨ v = 17 ∨ v = 19 ∨ v = 20 ∨ v = 21 ∨ v = 22 ∨ v = 10 → sg u v = sg t v) (hhi : ∀ y, 110 ≤ y → y < nvC τ → y ≠ tnC τ → (∀ m : Int, 0 ≤ m → m < 10 → y ≠ mnC τ m) → sg u y = sg t y) (hz : ∀ y, 1000 ≤ y → y < n0C τ → sg u y = sg t y) (hT : TnK t → TnK u) (ht : tnC u = tnC t ∨ nvC τ ≤ tnC u) : FrW τ u := by
  obtain ⟨⟨h1, h2⟩, h3, h4, h5, ⟨h6, h6b⟩, h7⟩ := h
  refine ⟨⟨e0.trans h1, by omega⟩, fun v hv => (hlo v (by omega)).trans (h3 v hv), fun j j1 j2 => by rw [hlo 10 (by omega)]; exact h4 j j1 j2, fun y y1 y2 => ⟨(hD y y1 y2).trans (h5 y y1 y2).1, fun a b => (hhi y y1 y2 a b).trans ((h5 y y1 y2).2 a b)⟩, ⟨fun q => hT (h6 q), ?_⟩, fun y y1 y2 => ⟨(hD y (by omega) (by omega)).trans (h7 y y1 y2).1, (hz y y1 y2).trans (h7 y y1 y2).2⟩⟩
  rcases ht with r | r
  · rcases h6b with r2 | r2
    · exact Or.inl (r.trans r2)
    · exact Or.inr (by omega)
  · exact Or.inr r
/-- acting, seen from the round's start -/
theorem FrW.act (h : FrW τ t) (hnv : 1000 ≤ n0C τ ∧ n0C τ ≤ nvC τ) (g : FrA t u) (hW : Wd w t) (h0 : w 0 ≤ 10) : FrW τ u := h.tr (g.toW hW h0)
/-- the queue's work, seen from the round's start -/
theorem FrW.pq (h : FrW τ t) (hnv : 1000 ≤ n0C τ ∧ n0C τ ≤ nvC τ) (g : FrPQ p q t u) (hp : nvC τ ≤ p) (hq : nvC τ ≤ q) : FrW τ u := by
  have hs : ∀ y, y < nvC τ → sg u y = sg t y := fun y hy => g.2.2 y (by omega) (by omega)
  refine h.ext hnv (by unfold n0C; rw [g.1]) (by unfold nvC; rw [g.1]; omega) (fun y _ _ => by rw [g.2.1]) (fun v hv => hs v (by omega)) (fun y _ y2 _ _ => hs y y2) (fun y _ y2 => hs y (by omega)) (fun hT => hT.of (by unfold n0C; rw [g.1]) (by unfold nvC; rw [g.1]; omega) (hs 18 (by omega)) (fun y _ _ => by rw [g.2.1])) (Or.inl (by unfold tnC; rw [hs 18 (by omega)]))
theorem key_congr (h : SC w1 w) (h' : SC w1 w') (hm : 0 ≤ m ∧ m ≤ 9) : keyW w1 w' m = keyW w1 w m := by
  unfold keyW keyF
  rw [h.ds hm, h'.ds hm]
/-- the queue stays when members begin -/
theorem PQs.row (h : PQs w1 w t p q n e) (g : FrA t u) (hW : Wd w' u) (hS : WS w1) (s : SC w1 w) (s' : SC w1 w') (hI : IR w1) : PQs w1 w' u p q n e := by
  obtain ⟨⟨p1, p2, p3, p4⟩, ⟨s0, s1, s2⟩, ⟨x1, x2, x3, x4, x5, x6, x7⟩, hn9, hel, hz, hh, hj⟩ := h
  have h0 : w 0 ≤ 10 := x4.1.2
  have hnp : ∀ m : Int, 0 ≤ m → m < 10 → p ≠ mnC t m := fun m m0 m1 r => by
    by_cases hm : isM w m
    · have := (x3.mem h0 hm).1.2.2
      rw [← r, p2] at this; cases this
    · have := x3.non hm ⟨m0, m1⟩
      unfold mnC at r
      rw [this] at r
      have : p = 0 := r
      omega
  have hnq : ∀ m : Int, 0 ≤ m → m < 10 → q ≠ mnC t m := fun m m0 m1 r => by
    by_cases hm : isM w m
    · have := (x3.mem h0 hm).1.2.2
      rw [← r, x6] at this; cases this
    · have := x3.non hm ⟨m0, m1⟩
      unfold mnC at r
      rw [this] at r
      have : q = 0 := r
      omega
  have ep : sg u p = sg t p := g.2.2.2 p (by omega) (by omega) (fun _ => hnp)
  have eq : sg u q = sg t q := g.2.2.2 q (by omega) (by omega) (fun _ => hnq)
  have hr : ∀ i, i < n → 0 ≤ e i ∧ e i ≤ 9 := fun i hi => isM_le (hel i hi).1 h0
  refine ⟨⟨p1, by rw [g.2.1]; exact p2, wrC_wk p3 (by unfold n0C; rw [g.1]), p4⟩, by rw [ep]; exact ⟨s0, s1, s2⟩, ⟨x1, g.gd hS x2, hW, s'.ir hI, x5, by rw [g.2.1]; exact x6, wrC_wk x7 (by unfold n0C; rw [g.1])⟩, hn9, fun i hi => ⟨(s'.isM hS.1.2 _).mpr ((s.isM hS.1.2 _).mp (hel i hi).1), by rw [eq, g.mn]; exact (hel i hi).2⟩, fun i i0 i1 => by rw [eq]; exact hz i i0 i1, fun i i0 i1 => ?_, hj⟩
  rw [key_congr s s' (hr _ (by unfold parN; omega)), key_congr s s' (hr _ i1)]
  exact hh i i0 i1
theorem few {l : Int} (hl : 0 ≤ l ∧ l ≤ 9) (hm : 0 ≤ m ∧ m ≤ 9) (hml : m ≠ l) (hj : InjN n e) (he : ∀ i, i < n → (0 ≤ e i ∧ e i ≤ 9) ∧ e i ≠ l ∧ e i ≠ m) : n ≤ 8 := by
  refine pig 8 n (fun i => (e i).toNat - (if l < e i then 1 else 0) - (if m < e i then 1 else 0)) (fun i hi => ?_) (fun i j hi hj' h => ?_)
  · have := he i hi
    split <;> split <;> omega
  · have a := he i hi
    have b := he j hj'
    refine hj i j hi hj' ?_
    split at h <;> split at h <;> split at h <;> split at h <;> omega
theorem cc_round_75 (hS : WS w1) (hI1 : IR w1) (hl : 0 ≤ ledF w1) (hnv : 1000 ≤ n0C τ ∧ n0C τ ≤ nvC τ) (hp : nvC τ ≤ p) (hq : nvC τ ≤ q) (hd : 8 ≤ d) {a : Nat} : ∀ (k : Nat) (m : Int) (w : Nat → Int) (L : TL) (t : CT) (o7 : Option AV), m + k = 10 → 0 ≤ m → FrW τ t → SC w1 w → RQ w1 w t p q m L →
    (∀ (u : CT) (wb : Nat → Int) (L' : TL) (o : Option AV), (wb, L') = bgnF (slF w1) (frF w1) k m (w, L) → FrW τ u → u.1 = t.1 ∧ sg u 18 = sg t 18 → SC w1 wb → RQ w1 wb u p q 10 L' → Wc kap d rX0_round 135 [some (.inr 10), some (.inl (ledF w1)), some (.inr a), some (.inr p), some (.inr 103), some (.inl 10), some (.inl 10), o] [] u (nQ Q)) →
    Wc kap d rX0_round 75 [some (.inr 10), some (.inl (ledF w1)), some (.inr a), some (.inr p), some (.inr 103), some (.inl 10), some (.inl m), o7] [] t (nQ Q) := by
  have hlr := ledF_rng w1 hS.1.2
  intro k
  induction k with
  | zero =>
    intro m w L t o7 hm m0 hF hC hR K
    have e : m = 10 := by omega
    subst e
    refine wc_iload dX0_round_75 rfl ?_
    refine wc_iload dX0_round_77 rfl ?_
    refine wc_icmp dX0_round_79 (cB_ge ⟨by omega, by omega⟩ ⟨by omega, by omega⟩) 135 rfl (fun c79 => ?_) (fun c79 => ?_)
    ·
      exact K t w L o7 rfl hF ⟨rfl, rfl⟩ hC hR
    ·
      omega
  | succ k ih =>
    intro m w L t o7 hm m0 hF hC hR K
    obtain ⟨n, e, hP, hn9, hel, hsr, hlo, hnl⟩ := id hR
    obtain ⟨x1, hG, hW, hI, x5⟩ := hP.2.2.1
    have h0 := hI.1.2
    have hled := hC.led hS.1.2
    have hsl := slF_rng w1 hS.2.2.2.1 m
    -- what is so when the member's turn is over
    have hnext : ∀ (u : CT) (w' : Nat → Int) (L' : TL) (o7 : Option AV), w' = bgF (slF w1) w m → L' = (if inB (slF w1) (frF w1) w m = true then insF L (m, frF w1 (slF w1 m) (celF w m)) else L) → FrW τ u → u.1 = t.1 ∧ sg u 18 = sg t 18 → SC w1 w' → RQ w1 w' u p q (m + 1) L' → Wc kap d rX0_round 75 [some (.inr 10), some (.inl (ledF w1)), some (.inr a), some (.inr p), some (.inr 103), some (.inl 10), some (.inl (m + 1)), o7] [] u (nQ Q) := fun u w' L' o7 e1 e2 f1 f2 f3 f4 => by
      subst e1 e2
      exact ih (m + 1) _ _ u o7 (by omega) (by omega) f1 f3 f4 (fun u' wb L' o g1 g2 g3 g4 g5 => K u' wb L' o (by rw [g1, bgnF]) g2 ⟨g3.1.trans f2.1, g3.2.trans f2.2⟩ g4 g5)
    have hRQn : ∀ (u : CT) (w' : Nat → Int), PQs w1 w' u p q n e → RQ w1 w' u p q (m + 1) L := fun u w' h => ⟨n, e, h, hn9, hel, hsr, fun i hi => by have := hlo i hi; omega, hnl⟩
    by_cases hmm : isM w m
    · have hbg := cc_begins hS hG hW hI hmm
      rw [hled] at hbg
      have hsc : SC w1 (bgF (slF w1) w m) := hC.tr (bgF_SC (by omega))
      have hiB := inB_iff hS hC hmm
      rw [hled] at hiB
      have hM := hW.mem h0 hmm
      refine wc_iload dX0_round_75 rfl ?_
      refine wc_iload dX0_round_77 rfl ?_
      refine wc_icmp dX0_round_79 (cB_ge (show rng _ by omega) (by decide)) 135 rfl (fun c79 => ?_) (fun c79 => ?_)
      ·
        omega
      ·
        refine wc_aload dX0_round_82 rfl ?_
        refine wc_iload dX0_round_84 rfl ?_
        refine wc_aaload dX0_round_86 rfl rfl rfl ⟨by omega, by omega⟩ rfl ?_
        refine wc_astore dX0_round_87 rfl ?_
        refine wc_aload dX0_round_89 rfl ?_
        refine wc_ifnonnull dX0_round_91 (Or.inr (by rw [hM.kd]; rfl)) 97 rfl (fun c91 => ?_) (fun c91 => ?_)
        ·
          refine wc_aload_n dX0_round_97 rfl ?_
          refine wc_aload dX0_round_98 rfl ?_
          refine wc_iload_n dX0_round_100 rfl ?_
          refine wc_call dX0_round_101 rfl (hbg) (by omega) (hx_V (kV0_208 rfl) rfl rfl rfl rfl) ?_
          rintro _ _ ⟨rfl, hFA, hWb⟩
          have hmb := (hsc.isM hS.1.2 m).mpr ((hC.isM hS.1.2 m).mp hmm)
          have hMb := hWb.mem (hsc.ir hI1).1.2 hmb
          rw [hFA.mn] at hMb
          have hFu := hF.act hnv hFA hW h0
          have hPb := hP.row hFA hWb hS hC hsc hI1
          have hdist := cc_distanceOf hS (hFA.gd hS hG) hWb (hsc.ir hI1).1.2 hmb ((hsc.ir hI1).2.2.2 m m0 (by omega))
          rw [hFA.mn] at hdist
          have hdb : dsF w1 (bgF (slF w1) w m) m = dsF w1 w m := by rw [hsc.ds (by omega), hC.ds (by omega)]
          refine wc_aload dX0_round_104 rfl ?_
          refine wc_getI dX0_round_106 (kF0_109 rfl) hMb.kd rfl ?_
          rw [hMb.2.1]
          refine wc_iload_n dX0_round_109 rfl ?_
          refine wc_icmp dX0_round_110 (cB_eq (show rng _ by omega) (show rng _ by omega)) 129 rfl (fun c110 => ?_) (fun c110 => ?_)
          ·
            refine wc_iinc dX0_round_129 rfl ?_
            refine wc_goto dX0_round_132 75 rfl ?_
            have hnin : ¬ inB (slF w1) (frF w1) w m = true := fun q => (hiB.mp q).1 c110
            exact hnext _ _ _ _ rfl (by rw [if_neg hnin]) hFu ⟨hFA.1, hFA.2.2.2 18 (by decide) (by decide) (fun q => by omega)⟩ hsc (hRQn _ _ hPb)
          ·
            refine wc_aload_n dX0_round_113 rfl ?_
            refine wc_aload dX0_round_114 rfl ?_
            refine wc_call dX0_round_116 rfl (hdist) (by omega) (hx_V (kV0_116 rfl) rfl rfl rfl rfl) ?_
            rintro _ _ ⟨rfl, rfl⟩
            refine wc_if dX0_round_119 (cB_le (show rng _ by have := dsF_r (w0 := w1) (w := bgF (slF w1) w m) (m := m); omega) ⟨by omega, by omega⟩) 129 rfl (fun c119 => ?_) (fun c119 => ?_)
            ·
              refine wc_iinc dX0_round_129 rfl ?_
              refine wc_goto dX0_round_132 75 rfl ?_
              have hnin : ¬ inB (slF w1) (frF w1) w m = true := fun q => by
                have := (hiB.mp q).2
                omega
              exact hnext _ _ _ _ rfl (by rw [if_neg hnin]) hFu ⟨hFA.1, hFA.2.2.2 18 (by decide) (by decide) (fun q => by omega)⟩ hsc (hRQn _ _ hPb)
            ·
              refine wc_aload_n dX0_round_122 rfl ?_
              have hin : inB (slF w1) (frF w1) w m = true := hiB.mpr ⟨c110, by rw [← hdb]; omega⟩
              have hnew : ¬ ElN n e m := fun q => by
                obtain ⟨i, hi, r⟩ := (hel m).mp q
                have := hlo i hi
                omega
              have hn8 : n ≤ 8 := few (l := ledF w1) (m := m) ⟨hl, hlr.2.1⟩ ⟨m0, by omega⟩ c110 hP.2.2.2.2.2.2.2 (fun i hi => by
                obtain ⟨j, hj, r⟩ := (hel (e i)).mp ⟨i, hi, rfl⟩
                have a := hlo j hj
                have b := (hnl j hj).1
                rw [r] at a b
                omega)
              have hadd := cc_offer hPb hn8 hmb hnew
              rw [hFA.mn] at hadd
              refine wc_aload dX0_round_123 rfl ?_
              refine wc_call dX0_round_125 rfl (hadd) (by omega) (hx_V (kV0_211 rfl) rfl (kd_dyn hPb.1.1 hPb.1.2.1) rfl rfl) ?_
              rintro _ _ ⟨rfl, hFq, e', hPq, hEq⟩
              refine wc_pop dX0_round_128 ?_
              refine wc_iinc dX0_round_129 rfl ?_
              refine wc_goto dX0_round_132 75 rfl ?_
              have hDm : frF w1 (slF w1 m) (celF w m) = dsF w1 w1 m := by
                have h2 := (hiB.mp hin).2
                rw [hC.ds ⟨m0, by omega⟩] at h2
                have hs : 0 ≤ slF w1 m := by
                  unfold dsF at h2
                  split at h2 <;> omega
                rw [(dsF_self hs).1, hC.2 m m0 (by omega)]
              refine hnext _ _ _ _ rfl rfl (hFu.pq hnv hFq hp hq) ⟨hFq.1.trans hFA.1, (hFq.2.2 18 (by omega) (by omega)).trans (hFA.2.2.2 18 (by decide) (by decide) (fun q => by omega))⟩ hsc ?_
              rw [if_pos hin, hDm]
              obtain ⟨i1, i2⟩ := ins_srt (D := dsF w1 w1) ⟨m0, by omega⟩ hsr hlo
              refine ⟨n + 1, e', hPq, by omega, fun m' => ?_, i1, i2, fun i hi => ?_⟩
              · rw [hEq m', hel m', ins_mem]
              · obtain ⟨r2, hr2⟩ : ∃ m'', (tg (insF L (m, dsF w1 w1 m)) i).1 = m'' := ⟨_, rfl⟩
                have : ∃ i, i < (insF L (m, dsF w1 w1 m)).length ∧ (tg (insF L (m, dsF w1 w1 m)) i).1 = r2 := ⟨i, hi, hr2⟩
                rw [ins_mem] at this
                rw [hr2]
                rcases this with ⟨j, hj, r3⟩ | r3
                · rw [← r3]; exact hnl j hj
                · rw [r3]
                  have h2 := (hiB.mp hin).2
                  rw [hC.ds ⟨m0, by omega⟩] at h2
                  exact ⟨c110, h2⟩
        ·
          exact absurd c91 (by have := hM.1.1; unfold mnC at this; omega)
    · have hz : mnC t m = 0 := by unfold mnC; rw [hW.non hmm ⟨m0, by omega⟩]; rfl
      have hbw : bgF (slF w1) w m = w := by unfold bgF; rw [if_neg hmm]
      have hnin : ¬ inB (slF w1) (frF w1) w m = true := fun q => by
        unfold inB at q
        rw [decide_eq_true_eq] at q
        exact hmm q.1
      refine wc_iload dX0_round_75 rfl ?_
      refine wc_iload dX0_round_77 rfl ?_
      refine wc_icmp dX0_round_79 (cB_ge (show rng _ by omega) (by decide)) 135 rfl (fun c79 => ?_) (fun c79 => ?_)
      ·
        omega
      ·
        refine wc_aload dX0_round_82 rfl ?_
        refine wc_iload dX0_round_84 rfl ?_
        refine wc_aaload dX0_round_86 rfl rfl rfl ⟨by omega, by omega⟩ rfl ?_
        refine wc_astore dX0_round_87 rfl ?_
        refine wc_aload dX0_round_89 rfl ?_
        refine wc_ifnonnull dX0_round_91 (Or.inl hz) 97 rfl (fun c91 => ?_) (fun c91 => ?_)
        ·
          exact absurd hz c91
        ·
          refine wc_goto dX0_round_94 129 rfl ?_
          refine wc_iinc dX0_round_129 rfl ?_
          refine wc_goto dX0_round_132 75 rfl ?_
          exact hnext t w L _ hbw.symm (by rw [if_neg hnin]) hF ⟨rfl, rfl⟩ hC (hRQn _ _ hP)
end RN2
