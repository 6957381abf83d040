/-! THE CLASS'S METHODS, 16: the leader acts, a round begins for a member -/
set_option maxRecDepth 100000
/-- what rounds leave alone -/
def FrW (τ t : CT) : Prop := (n0C t = n0C τ ∧ nvC τ ≤ nvC t) ∧ (∀ v, v = 103 ∨ v = 104 ∨ v = 17 ∨ v = 19 ∨ v = 20 ∨ v = 21 ∨ v = 22 → sg t v = sg τ v) ∧ (∀ j, j ≠ 6 → j ≠ 7 → sg t 10 j = sg τ 10 j) ∧ (∀ y, 110 ≤ y → y < nvC τ → t.2.1 y = τ.2.1 y ∧ (y ≠ tnC τ → (∀ m : Int, 0 ≤ m → m < 10 → y ≠ mnC τ m) → sg t y = sg τ y)) ∧ ((TnK τ → TnK t) ∧ (tnC t = tnC τ ∨ nvC τ ≤ tnC t)) ∧ (∀ y, 1000 ≤ y → y < n0C τ → t.2.1 y = τ.2.1 y ∧ sg t y = sg τ y)
section LEAD
variable {w w0 : Nat → Int} {τ t u : CT} {m c v p s A T a o : Int} {d k y x n i j : Nat} {Q : Option AV → CT → Prop} {TT : Nat → Option CK}
theorem FrS.toW (h : FrS τ t) : FrW τ t := ⟨h.1, fun v hv => h.2.1 v (by omega), h.2.2.1, fun y y1 y2 => ⟨(h.2.2.2.1 y y1 y2).1, fun a _ => (h.2.2.2.1 y y1 y2).2 a⟩, ⟨h.tn, Or.inl (by unfold tnC; rw [h.2.2.2.2.1])⟩, h.2.2.2.2.2⟩
theorem FrW.rf : FrW τ τ := FrS.rf.toW
theorem FrW.mn (h : FrW τ t) (m : Int) : mnC t m = mnC τ m := by unfold mnC; rw [h.2.1 103 (by omega)]
theorem FrW.tnk (g : FrW τ t) (hT : TnK τ) : TnK t := g.2.2.2.2.1.1 hT
theorem FrW.tr {x : CT} (h : FrW τ t) (g : FrW t x) : FrW τ x := by
  have hmn := h.mn
  obtain ⟨⟨h1, h2⟩, h3, h4, h5, ⟨h6, h6b⟩, h7⟩ := h
  obtain ⟨⟨g1, g2⟩, g3, g4, g5, ⟨g6, g6b⟩, g7⟩ := g
  refine ⟨⟨g1.trans h1, by omega⟩, fun v hv => (g3 v hv).trans (h3 v hv), fun j j1 j2 => (g4 j j1 j2).trans (h4 j j1 j2), fun y y1 y2 => ⟨(g5 y y1 (by omega)).1.trans (h5 y y1 y2).1, fun yn ym => ((g5 y y1 (by omega)).2 (by rcases h6b with q | q <;> omega) (fun m m0 m1 => by rw [hmn m]; exact ym m m0 m1)).trans ((h5 y y1 y2).2 yn ym)⟩, ⟨fun hT => g6 (h6 hT), ?_⟩, fun y y1 y2 => ?_⟩
  · rcases g6b with q | q
    · rcases h6b with r | r
      · exact Or.inl (q.trans r)
      · exact Or.inr (by omega)
    · exact Or.inr (by omega)
  · have a := h7 y y1 y2
    have b := g7 y y1 (by rw [h1]; exact y2)
    exact ⟨b.1.trans a.1, b.2.trans a.2⟩
theorem FrA.toW (h : FrA t u) (hw : Wd w t) (h0 : w 0 ≤ 10) : FrW t u := by
  obtain ⟨h1, h2, h3, h4⟩ := h
  have hlo : ∀ y, y < 110 → y ≠ 102 → y ≠ 105 → sg u y = sg t y := fun y a b c => h4 y b c (fun q => by omega)
  have e0 : n0C u = n0C t := by unfold n0C; rw [h1]
  have ev : nvC u = nvC t := by unfold nvC; rw [h1]
  refine ⟨⟨e0, by omega⟩, fun v hv => hlo v (by omega) (by omega) (by omega), fun j _ _ => by rw [hlo 10 (by omega) (by omega) (by omega)], fun y y1 y2 => ⟨by rw [h2], fun _ q => h4 y (by omega) (by omega) (fun _ => q)⟩, ⟨fun hT => hT.of e0 (by omega) (hlo 18 (by omega) (by omega) (by omega)) (fun y _ _ => by rw [h2]), Or.inl (by unfold tnC; rw [hlo 18 (by omega) (by omega) (by omega)])⟩, fun y y1 y2 => ⟨by rw [h2], h4 y (by omega) (by omega) (fun _ m m0 m1 => fun q => ?_)⟩⟩
  by_cases hm : isM w m
  · have := (hw.wr h0 hm).2
    omega
  · have := hw.non hm ⟨m0, m1⟩
    have e : mnC t m = 0 := by unfold mnC; rw [this]; rfl
    omega
/-- the state stands for a new row whose shapes are the old ones -/
theorem FrW.sh {w' : Nat → Int} (g : FrW τ t) (h : Sh w τ) (hH : SH w) (hw : ∀ i, 192 ≤ i → w' i = w i) : Sh w' t := fun s s0 s1 => by
  have e1 : sltF w' s = sltF w s := hw _ (by omega)
  have e2 : ancF w' s = ancF w s := hw _ (by omega)
  have a := h s s0 s1
  have hA := (hH s s0 (by omega)).2
  rw [g.2.1 104 (by omega), e1]
  refine ⟨fun q => ?_, a.2⟩
  have b := (a.1 q).fz g.1.1 g.2.2.2.2.2
  obtain ⟨b1, b2, b3, b4, b5⟩ := b
  refine ⟨b1, by rw [e2]; exact b2, by rw [e1]; exact b3, by rw [e1]; exact b4, fun k k0 k1 => ?_⟩
  rw [e1] at k1
  have c := b5 k k0 k1
  unfold colF rowF at *
  rw [e2, hw _ (by omega), hw _ (by omega), hw _ (by omega), hw _ (by omega)]
  exact c
theorem FrW.st {w' : Nat → Int} (g : FrW τ t) (h : St w τ) (hH : SH w) (hw : ∀ i, 192 ≤ i → w' i = w i) (hW : Wd w' t) : St w' t := ⟨hW, g.tnk h.2.1, g.sh h.2.2 hH hw⟩
theorem cnt_upd {i : Nat} {k : Int} (hi : i ≠ (4 + k).toNat) : cntW (updW w i a) k = updW (cntW w k) i a := by
  unfold cntW
  rw [upd_ne (Ne.symm hi), upd_comm hi]
theorem goes_upd {i : Nat} (hm : 0 ≤ m) (hi : i ≠ (12 + 6 * m + 0).toNat ∧ i ≠ (12 + 6 * m + 1).toNat ∧ i ≠ (12 + 6 * m + 2).toNat) : goesF (updW w i a) m c = updW (goesF w m c) i a := by
  rw [goes_alt hm, goes_alt hm]
  unfold celW
  rw [upd_ne (Ne.symm hi.2.2), upd_comm hi.1, upd_comm hi.2.2, upd_comm hi.2.1]
theorem waits_upd {i : Nat} (hi : i ≠ (12 + 6 * m + 3).toNat ∧ i ≠ 6) : waitsF (updW w i a) m = updW (waitsF w m) i a := by
  unfold waitsF
  rw [upd_ne (Ne.symm hi.1), upd_comm hi.1, cnt_upd (by omega)]
/-- what the leader's turn ends in -/
def LdP (w : Nat → Int) (t : CT) (v : Option AV) (u : CT) : Prop := ∃ (r : Int) (w2 : Nat → Int), some (.inl r) = v ∧ FrW t u ∧ u.1 = t.1 ∧ Wd w2 u ∧ (IR w2 ∧ isM w2 (ledF w)) ∧ updW w2 (12 + 6 * ledF w + 5).toNat r = leadF w
theorem lway_ex {t0 x : Int} (ht : 0 ≤ t0 ∧ t0 < 120) (hx : 0 ≤ x ∧ x < 120) (hf : 0 < bfsF (blkF w) t0 x) : ∃ v, (0 ≤ v ∧ v < 4) ∧ 0 ≤ besF x v ∧ bfsF (blkF w) t0 (besF x v) = bfsF (blkF w) t0 x - 1 := by
  have hb : blkF w t0 = false := by
    rcases q : blkF w t0 with _ | _
    · rfl
    · unfold bfsF at hf
      rw [if_pos q] at hf
      omega
  have B := bfs_BF ht hb
  obtain ⟨p, v, hv, hp, hb2⟩ := B.2.1 x hf
  have hpu := B.2.2.2 p (by omega)
  obtain ⟨v', hv', e⟩ := bes_back hpu.2 hv hb2 hx.1
  exact ⟨v', hv', by rw [e]; exact hpu.2.1, by rw [e]; exact hp⟩
theorem fst_ex {p : Int → Bool} {n : Nat} {i j : Int} (h0 : 0 ≤ i) (hj : i ≤ j ∧ j < i + n) (hp : p j = true) : 0 ≤ fstI p n i ∧ fstI p n i < i + n ∧ p (fstI p n i) = true := by
  rcases fstI_rng p n i h0 with e | ⟨e1, e2, e3, -⟩
  · have := fstI_no (p := p) n i h0 (by omega) j hj.1 hj.2
    rw [hp] at this; cases this
  · exact ⟨by omega, e2, e3⟩
abbrev lwyW (w : Nat → Int) (m : Int) : Int → Bool := lwayF (bfsF (blkF w) (w 2)) w m (bfsF (blkF w) (w 2) (celF w m))
theorem lwy_iff : lwyW w m v = true ↔ 0 ≤ besF (celF w m) v ∧ bfsF (blkF w) (w 2) (besF (celF w m) v) = bfsF (blkF w) (w 2) (celF w m) - 1 := by
  unfold lwyW lwayF
  rw [decide_eq_true_eq]
/-- the row when the leader may step -/
theorem leadF_way (h0 : w 0 ≤ 10) (hl : 0 ≤ ledF w) (h2 : 0 ≤ w 2) (hne : celF w (ledF w) ≠ w 2) (hf : 0 < bfsF (blkF w) (w 2) (celF w (ledF w))) (hv : wayF (lwyW w (ledF w)) = v) (hv0 : 0 ≤ v) :
    leadF w = if onF w (besF (celF w (ledF w)) v) < 0 then updW (cntW (goesF w (ledF w) (besF (celF w (ledF w)) v)) 1) (12 + 6 * ledF w + 5).toNat 0 else updW (waitsF w (ledF w)) (12 + 6 * ledF w + 5).toNat 9 := by
  have hlr := ledF_rng w h0
  have hI := fldI (m := ledF w) (p := 5) ⟨hl, hlr.2.1⟩ (by omega)
  have hc : celF (updW w (12 + 6 * ledF w + 5).toNat 8) (ledF w) = celF w (ledF w) := celF_upd hI.2 ⟨hl, hlr.2.1⟩
  have hw : wayF (lwayF (bfsF (blkF w) (w 2)) (updW w (12 + 6 * ledF w + 5).toNat 8) (ledF w) (bfsF (blkF w) (w 2) (celF w (ledF w)))) = v := by
    rw [← hv]
    unfold lwyW lwayF
    rw [hc]
  unfold leadF
  rw [if_neg (by omega), if_neg hne, if_neg (by omega), hw]
  unfold lead1F
  rw [if_neg (by omega), hc, onF_upd h0 hI, goes_upd hl ⟨by omega, by omega, by omega⟩, cnt_upd (by omega), waits_upd ⟨by omega, by omega⟩, upd_same, upd_same]
theorem cc_leaderActs_64 (h : Wd w t) (hI : IR w) (hl : 0 ≤ ledF w) (h2 : 0 ≤ w 2 ∧ w 2 < 120) (hne : celF w (ledF w) ≠ w 2) (hf : 0 < bfsF (blkF w) (w 2) (celF w (ledF w))) (hrow : ∀ x : Int, 0 ≤ x → x < 120 → sg t 16 x.toNat = enF (bfsF (blkF w) (w 2)) x) (hd : 3 ≤ d) : ∀ (n : Nat) (i : Int) (o3 : Option AV), i + n = 4 → 0 ≤ i → fstI (lwyW w (ledF w)) n i = wayF (lwyW w (ledF w)) → Wc kap d rX0_leaderActs 64 [some (.inr 10), some (.inr (mnC t (ledF w))), some (.inl i), o3] [] t (nQ (LdP w t)) := by
  have h0 := hI.1.2
  have hlr := ledF_rng w h0
  have hm := hlr.2.2 hl
  have hr := isM_le hm h0
  have hM := h.mem h0 hm
  have hk := hM.kd (T := kap)
  have hc : 0 ≤ celF w (ledF w) ∧ celF w (ledF w) < 120 := ⟨hm.2, hI.2.2.2 _ hr.1 hr.2⟩
  have hfr := bfsF_rng (blkF w) h2 (celF w (ledF w))
  obtain ⟨v0, hv0, hy0, hf0⟩ := lway_ex h2 hc hf
  have hex := fst_ex (p := lwyW w (ledF w)) (n := 4) (i := 0) (by omega) ⟨hv0.1, by omega⟩ (lwy_iff.mpr ⟨hy0, hf0⟩)
  intro n
  induction n with
  | zero =>
    intro i o3 hi i0 hff
    have hff : -1 = wayF (lwyW w (ledF w)) := hff
    unfold wayF at hff
    omega
  | succ n ih =>
    intro i o3 hi i0 hff
    have hbs := besF_rng (celF w (ledF w)) i
    have hbf := bfsF_rng (blkF w) h2 (besF (celF w (ledF w)) i)
    have hen := en_rng (f := bfsF (blkF w) (w 2)) (i := besF (celF w (ledF w)) i) (by omega)
    have hec : enF (bfsF (blkF w) (w 2)) (celF w (ledF w)) = bfsF (blkF w) (w 2) (celF w (ledF w)) := by unfold enF; rw [if_neg (by omega)]
    have hno : lwyW w (ledF w) i = false → ∀ o3, Wc kap d rX0_leaderActs 64 [some (.inr 10), some (.inr (mnC t (ledF w))), some (.inl (i + 1)), o3] [] t (nQ (LdP w t)) := fun q o3 => ih (i + 1) o3 (by omega) (by omega) ((fstI_skip q).symm.trans hff)
    refine wc_iload_n dX0_leaderActs_64 rfl ?_
    refine wc_iconst dX0_leaderActs_65 ?_
    refine wc_icmp dX0_leaderActs_66 (cB_ge ⟨by omega, by omega⟩ ⟨by omega, by omega⟩) 147 rfl (fun c66 => ?_) (fun c66 => ?_)
    ·
      omega
    ·
      refine wc_aload_n dX0_leaderActs_69 rfl ?_
      refine wc_getI dX0_leaderActs_70 (kF0_49 rfl) hk rfl ?_
      rw [hM.2.2.1]
      refine wc_iload_n dX0_leaderActs_73 rfl ?_
      refine wc_call dX0_leaderActs_74 rfl (cc_neighbor hc ⟨i0, by omega⟩) (by omega) (hx_S (kS0_32 rfl) (kSn0_32 rfl) rfl rfl) ?_
      rintro _ _ ⟨rfl, rfl⟩
      refine wc_istore_n dX0_leaderActs_77 rfl ?_
      refine wc_iload_n dX0_leaderActs_78 rfl ?_
      refine wc_if dX0_leaderActs_79 (cB_lt (show rng _ by omega) ⟨by omega, by omega⟩) 141 rfl (fun c79 => ?_) (fun c79 => ?_)
      ·
        refine wc_iinc dX0_leaderActs_141 rfl ?_
        refine wc_goto dX0_leaderActs_144 64 rfl ?_
        exact hno (by rcases q : lwyW w (ledF w) i with _ | _; rfl; have := (lwy_iff.mp q).1; omega) _
      ·
        refine wc_aload_n dX0_leaderActs_82 rfl ?_
        refine wc_getC dX0_leaderActs_83 (kF0_147 rfl) rfl rfl ?_
        refine wc_iload_n dX0_leaderActs_86 rfl ?_
        refine wc_iaload dX0_leaderActs_87 rfl rfl rfl ⟨by omega, by omega⟩ _ rfl ?_
        rw [hrow _ (by omega) hbs.2]
        refine wc_aload_n dX0_leaderActs_88 rfl ?_
        refine wc_getC dX0_leaderActs_89 (kF0_147 rfl) rfl rfl ?_
        refine wc_aload_n dX0_leaderActs_92 rfl ?_
        refine wc_getI dX0_leaderActs_93 (kF0_49 rfl) hk rfl ?_
        rw [hM.2.2.1]
        refine wc_iaload dX0_leaderActs_96 rfl rfl rfl ⟨by omega, by omega⟩ _ rfl ?_
        rw [hrow _ hc.1 hc.2, hec]
        refine wc_iconst dX0_leaderActs_97 ?_
        refine wc_isub dX0_leaderActs_98 ?_
        refine wc_icmp dX0_leaderActs_99 (cB_eq (show rng _ by omega) (show rng _ by omega)) 105 rfl (fun c99 => ?_) (fun c99 => ?_)
        ·
          have hyes : lwyW w (ledF w) i = true := lwy_iff.mpr ⟨by omega, by
            unfold enF at c99
            split at c99 <;> omega⟩
          have hway : wayF (lwyW w (ledF w)) = i := hff.symm.trans (fstI_hit hyes)
          have hlf := leadF_way h0 hl h2.1 hne hf hway i0
          have hy := (lwy_iff.mp hyes).1
          have hon := onF_rng w (besF (celF w (ledF w)) i)
          refine wc_aload_n dX0_leaderActs_105 rfl ?_
          refine wc_getC dX0_leaderActs_106 (kF0_19 rfl) rfl rfl ?_
          refine wc_getC dX0_leaderActs_109 (kF0_150 rfl) rfl rfl ?_
          refine wc_iload_n dX0_leaderActs_112 rfl ?_
          refine wc_iaload dX0_leaderActs_113 rfl rfl rfl ⟨by omega, by omega⟩ _ rfl ?_
          rw [h.at ⟨by omega, hbs.2⟩]
          refine wc_if dX0_leaderActs_114 (cB_lt (show rng _ by omega) ⟨by omega, by omega⟩) 120 rfl (fun c114 => ?_) (fun c114 => ?_)
          ·
            refine wc_aload_n dX0_leaderActs_120 rfl ?_
            refine wc_aload_n dX0_leaderActs_121 rfl ?_
            refine wc_iload_n dX0_leaderActs_122 rfl ?_
            refine wc_call dX0_leaderActs_123 rfl (cc_steps h hI hm ⟨hy, hbs.2⟩ (by omega)) (by omega) (hx_V (kV0_153 rfl) rfl rfl rfl rfl) ?_
            rintro _ _ ⟨rfl, hF2, hW2⟩
            refine wc_aload_n dX0_leaderActs_126 rfl ?_
            refine wc_getC dX0_leaderActs_127 (kF0_19 rfl) rfl rfl ?_
            refine wc_getC dX0_leaderActs_130 (kF0_141 rfl) rfl rfl ?_
            refine wc_iconst dX0_leaderActs_133 ?_
            refine wc_dup2 dX0_leaderActs_134 ?_
            refine wc_iaload dX0_leaderActs_135 rfl rfl rfl ⟨by omega, by omega⟩ _ rfl ?_
            rw [hW2.acc (k := 1) (by omega)]
            refine wc_iconst dX0_leaderActs_136 ?_
            refine wc_iadd dX0_leaderActs_137 ?_
            refine wc_iastore dX0_leaderActs_138 rfl ⟨by decide, Or.inl (by decide)⟩ rfl ⟨by omega, by omega⟩ _ rfl ?_
            refine wc_iconst dX0_leaderActs_139 ?_
            refine wc_ireturn dX0_leaderActs_140 rfl ?_
            have h00 : goesF w (ledF w) (besF (celF w (ledF w)) i) 0 ≤ 10 := (hI.goes hm ⟨hy, hbs.2⟩ (by omega)).1.2
            have hm2 : isM (cntW (goesF w (ledF w) (besF (celF w (ledF w)) i)) 1) (ledF w) := by
              unfold cntW
              refine (isM_upd h00 (cntI (by omega)) (ledF w)).mpr ?_
              rw [goes_alt hr.1]
              exact (isM_upd (by rw [upd_ne (by omega)]; rw [celW_0 hr.1]; exact h0) (fldI hr (p := 1) (by omega)) _).mpr ((isM_upd (by rw [celW_0 hr.1]; exact h0) (fldI hr (p := 2) (by omega)) _).mpr ((isM_cel h0 hm hy _).mpr hm))
            refine ⟨0, cntW (goesF w (ledF w) (besF (celF w (ledF w)) i)) 1, rfl, (hF2.tr FrA.s105).toW h h0, hF2.1, hW2.cnt h00 (k := 1) (by omega), ⟨(hI.goes hm ⟨hy, hbs.2⟩ (by omega)).cnt (by omega), hm2⟩, ?_⟩
            rw [hlf, if_pos (by omega)]
          ·
            refine wc_goto dX0_leaderActs_117 147 rfl ?_
            refine wc_aload_n dX0_leaderActs_147 rfl ?_
            refine wc_aload_n dX0_leaderActs_148 rfl ?_
            refine wc_call dX0_leaderActs_149 rfl (cc_waits h hI hm) (by omega) (hx_V (kV0_155 rfl) rfl rfl rfl rfl) ?_
            rintro _ _ ⟨rfl, hF2, hW2⟩
            refine wc_bipush dX0_leaderActs_152 (by decide) ?_
            refine wc_ireturn dX0_leaderActs_154 rfl ?_
            have hm2 : isM (waitsF w (ledF w)) (ledF w) := by
              unfold waitsF cntW
              exact (isM_upd (by rw [upd_ne (by omega)]; exact h0) (cntI (by omega)) _).mpr ((isM_upd h0 (fldI hr (p := 3) (by omega)) _).mpr hm)
            refine ⟨9, waitsF w (ledF w), rfl, hF2.toW h h0, hF2.1, hW2, ⟨hI.waits hr, hm2⟩, ?_⟩
            rw [hlf, if_neg (by omega)]
        ·
          refine wc_goto dX0_leaderActs_102 141 rfl ?_
          refine wc_iinc dX0_leaderActs_141 rfl ?_
          refine wc_goto dX0_leaderActs_144 64 rfl ?_
          exact hno (by rcases q : lwyW w (ledF w) i with _ | _; rfl; exact absurd (show enF (bfsF (blkF w) (w 2)) (besF (celF w (ledF w)) i) = _ by have := (lwy_iff.mp q).2; unfold enF; rw [if_neg (by omega)]; exact this) c99) _
theorem cc_leaderActs (h : St w t) (hI : IR w) (hl : 0 ≤ ledF w) (h2 : w 2 < 120) (hr2 : rng (w 2)) : Ct kap 4 rX0_leaderActs [.inr 10, .inr (mnC t (ledF w))] t (LdP w t) := by
  intro d hd
  have h0 := hI.1.2
  have hlr := ledF_rng w h0
  have hm := hlr.2.2 hl
  have hr := isM_le hm h0
  have hM := h.1.mem h0 hm
  have hk := hM.kd (T := kap)
  have hc : 0 ≤ celF w (ledF w) ∧ celF w (ledF w) < 120 := ⟨hm.2, hI.2.2.2 _ hr.1 hr.2⟩
  have e6 : sg t 100 6 = tgC w := h.1.1.2.2.2.2.1
  have htr : rng (tgC w) := by unfold tgC; split <;> omega
  refine wc_aload_n dX0_leaderActs_0 rfl ?_
  refine wc_getC dX0_leaderActs_1 (kF0_19 rfl) rfl rfl ?_
  refine wc_getI dX0_leaderActs_4 (kF0_144 rfl) rfl rfl ?_
  rw [e6]
  refine wc_if dX0_leaderActs_7 (cB_ge htr ⟨by omega, by omega⟩) 13 rfl (fun c7 => ?_) (fun c7 => ?_)
  ·
    have h20 : 0 ≤ w 2 := by unfold tgC at c7; split at c7 <;> omega
    have htg : tgC w = w 2 := by unfold tgC; rw [if_neg (by omega)]
    refine wc_aload_n dX0_leaderActs_13 rfl ?_
    refine wc_getI dX0_leaderActs_14 (kF0_49 rfl) hk rfl ?_
    rw [hM.2.2.1]
    refine wc_aload_n dX0_leaderActs_17 rfl ?_
    refine wc_getC dX0_leaderActs_18 (kF0_19 rfl) rfl rfl ?_
    refine wc_getI dX0_leaderActs_21 (kF0_144 rfl) rfl rfl ?_
    rw [e6, htg]
    refine wc_icmp dX0_leaderActs_24 (cB_ne (show rng _ by omega) (show rng _ by omega)) 30 rfl (fun c24 => ?_) (fun c24 => ?_)
    ·
      refine wc_aload_n dX0_leaderActs_30 rfl ?_
      refine wc_aload_n dX0_leaderActs_31 rfl ?_
      refine wc_getC dX0_leaderActs_32 (kF0_19 rfl) rfl rfl ?_
      refine wc_getI dX0_leaderActs_35 (kF0_144 rfl) rfl rfl ?_
      rw [e6, htg]
      refine wc_aload_n dX0_leaderActs_38 rfl ?_
      refine wc_getC dX0_leaderActs_39 (kF0_147 rfl) rfl rfl ?_
      refine wc_call dX0_leaderActs_42 rfl (cc_lays (t := 16) (Or.inl rfl) h.1 hI.2.2.1 ⟨h20, h2⟩) (by omega) (hx_V (kV0_90 rfl) rfl rfl rfl rfl) ?_
      rintro _ _ ⟨rfl, q, rfl⟩
      refine wc_aload_n dX0_leaderActs_45 rfl ?_
      refine wc_getC dX0_leaderActs_46 (kF0_147 rfl) rfl rfl ?_
      refine wc_aload_n dX0_leaderActs_49 rfl ?_
      refine wc_getI dX0_leaderActs_50 (kF0_49 rfl) hk rfl ?_
      rw [flC_o (by have := hM.1.1; omega) (by have := hM.1.1; omega), hM.2.2.1]
      refine wc_iaload dX0_leaderActs_53 rfl rfl rfl ⟨by omega, by omega⟩ _ rfl ?_
      rw [flC_f hc]
      have hfr := bfsF_rng (blkF w) ⟨h20, h2⟩ (celF w (ledF w))
      have hen := en_rng (f := bfsF (blkF w) (w 2)) (i := celF w (ledF w)) (by omega)
      refine wc_ldcN 16777216 dX0_leaderActs_54 (kK0_18 rfl) (by decide) ?_
      refine wc_icmp dX0_leaderActs_56 (cB_ne (show rng _ by omega) ⟨by omega, by omega⟩) 62 rfl (fun c56 => ?_) (fun c56 => ?_)
      ·
        refine wc_iconst dX0_leaderActs_62 ?_
        refine wc_istore_n dX0_leaderActs_63 rfl ?_
        have hpos : 0 < bfsF (blkF w) (w 2) (celF w (ledF w)) := by
          have a := mt (en_far (f := bfsF (blkF w) (w 2)) (i := celF w (ledF w)) (by omega)).mpr c56
          have b : bfsF (blkF w) (w 2) (celF w (ledF w)) ≠ 0 := fun e => by
            have hb : blkF w (w 2) = false := by
              rcases q : blkF w (w 2) with _ | _
              · rfl
              · unfold bfsF at e; rw [if_pos q] at e; omega
            exact c24 (((bfs_BF ⟨h20, h2⟩ hb).1 _).mp e)
          omega
        have hF := flC_fr (τ := t) (t := 16) (F := enF (bfsF (blkF w) (w 2))) (q := q) (by omega)
        have hWf := hF.wd h.2.1 h.1
        have := cc_leaderActs_64 (d := d) hWf hI hl ⟨h20, h2⟩ c24 hpos (fun x x0 x1 => flC_f ⟨x0, x1⟩) (by omega) 4 0 (none : Option AV) (by omega) (by omega) rfl
        rw [show mnC (flC t 16 (enF (bfsF (blkF w) (w 2))) q) (ledF w) = mnC t (ledF w) by unfold mnC; rw [flC_o (by decide) (by decide)]] at this
        exact this.mn (fun v u ⟨r, w2, a1, a2, a3, a4, a5, a6⟩ => ⟨r, w2, a1, hF.toW.tr a2, a3, a4, a5, a6⟩)
      ·
        refine wc_bipush dX0_leaderActs_59 (by decide) ?_
        refine wc_ireturn dX0_leaderActs_61 rfl ?_
        have hneg : bfsF (blkF w) (w 2) (celF w (ledF w)) < 0 := (en_far (by omega)).mp (by omega)
        have hF := flC_fr (τ := t) (t := 16) (F := enF (bfsF (blkF w) (w 2))) (q := q) (by omega)
        refine ⟨8, w, rfl, hF.toW, rfl, hF.wd h.2.1 h.1, ⟨hI, hm⟩, ?_⟩
        unfold leadF
        rw [if_neg (by omega), if_neg c24, if_pos (by omega)]
    ·
      refine wc_bipush dX0_leaderActs_27 (by decide) ?_
      refine wc_ireturn dX0_leaderActs_29 rfl ?_
      refine ⟨7, w, rfl, FrW.rf, rfl, h.1, ⟨hI, hm⟩, ?_⟩
      unfold leadF
      rw [if_neg (by omega), if_pos (by omega)]
  ·
    refine wc_bipush dX0_leaderActs_10 (by decide) ?_
    refine wc_ireturn dX0_leaderActs_12 rfl ?_
    refine ⟨6, w, rfl, FrW.rf, rfl, h.1, ⟨hI, hm⟩, ?_⟩
    unfold leadF
    rw [if_pos (by unfold tgC at c7; split at c7 <;> omega)]
end LEAD
