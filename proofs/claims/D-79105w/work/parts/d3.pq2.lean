/-! PriorityQueue, 2: sifting, walked -/
set_option maxRecDepth 100000
/-- only the queue's array changes -/
def FrQ (q : Nat) (t u : CT) : Prop := u.1 = t.1 ∧ u.2.1 = t.2.1 ∧ ∀ v, v ≠ q → sg u v = sg t v
/-- what the queue's work needs -/
def QX (w0 w : Nat → Int) (t : CT) (q : Nat) : Prop := WS w0 ∧ Gd w0 t ∧ Wd w t ∧ IR w ∧ (110 ≤ q ∧ t.2.1 q = some (ckR 0 10) ∧ wrC t q)
section PQ2
variable {w w0 : Nat → Int} {t t0 u : CT} {a b : Int} {d q n k : Nat} {e : Nat → Int}
theorem FrQ.rf : FrQ q t t := ⟨rfl, rfl, fun _ _ => rfl⟩
theorem FrQ.tr {x : CT} (h : FrQ q t u) (g : FrQ q u x) : FrQ q t x := ⟨g.1.trans h.1, g.2.1.trans h.2.1, fun v hv => (g.2.2 v hv).trans (h.2.2 v hv)⟩
theorem FrQ.st {i : Nat} {v : Int} : FrQ q t (stC t q i v) := ⟨rfl, rfl, fun y hy => sg_st' hy⟩
theorem FrQ.mn (h : FrQ q t u) (hq : 110 ≤ q) (m : Int) : mnC u m = mnC t m := by unfold mnC; rw [h.2.2 103 (by omega)]
theorem QX.fr (h : QX w0 w t q) (g : FrQ q t u) : QX w0 w u q := by
  obtain ⟨hS, hG, hW, hI, hq1, hq2, hq3⟩ := h
  have hne : ∀ m y, MemC t w m y → y ≠ q := fun m y hm r => by
    have := hm.1.2.2
    rw [r, hq2] at this
    cases this
  have hlo : ∀ v, v < 110 → sg u v = sg t v := fun v hv => g.2.2 v (by omega)
  refine ⟨hS, ⟨fun m m0 m1 => by rw [hlo 15 (by omega)]; exact hG.1 m m0 m1, hG.2.of hS (fun v hv => hlo v (by omega)) (by rw [hlo 10 (by omega)]) (by rw [hlo 10 (by omega)])⟩, ?_, hI, hq1, by rw [g.2.1]; exact hq2, wrC_wk hq3 (by unfold n0C; rw [g.1])⟩
  obtain ⟨⟨h1, h2, h3, h4, h5, h6⟩, h7⟩ := hW
  refine ⟨⟨fun c c0 c1 => by rw [hlo 101 (by omega), hlo 102 (by omega)]; exact h1 c c0 c1, fun m m0 m1 => ?_, fun k k0 k1 => by rw [hlo 105 (by omega)]; exact h3 k k0 k1, by rw [hlo 100 (by omega)]; exact ⟨h4, h5, h6⟩⟩, fun m hm m0 m1 => ?_⟩
  · rw [hlo 103 (by omega)]
    refine ⟨fun hm => ?_, (h2 m m0 m1).2⟩
    have hM := (h2 m m0 m1).1 hm
    have hn := hne _ _ hM
    obtain ⟨⟨a1, a2, a3⟩, b⟩ := hM
    refine ⟨⟨a1, by unfold nvC at *; rw [g.1]; exact a2, by rw [g.2.1]; exact a3⟩, ?_⟩
    rw [g.2.2 _ hn]
    exact b
  · have := h7 m hm m0 m1
    unfold mnC
    rw [hlo 103 (by omega)]
    exact wrC_wk this (by unfold n0C; rw [g.1])
abbrev keyW (w0 w : Nat → Int) : Int → Int := keyF (dsF w0 w)
/-- the queue's places but k hold the members e -/
def QC (w : Nat → Int) (t : CT) (q : Nat) (e : Nat → Int) (n k : Nat) : Prop := (∀ i, i < n → isM w (e i)) ∧ ∀ i, i < n → i ≠ k → sg t q i = (mnC t (e i) : Int)
theorem QC.sw {p : Nat} (h : QC w t q e n k) (hX : QX w0 w t q) (hk : k < n) (hp : p < n) (hpk : p ≠ k) : QC w (stC t q k (mnC t (e p) : Int)) q (swF2 e k p) n p := by
  have hq := hX.2.2.2.2.1
  refine ⟨fun i hi => ?_, fun i hi hip => ?_⟩
  · unfold swF2
    split
    · exact h.1 p hp
    · split
      · exact h.1 k hk
      · exact h.1 i hi
  · rw [sg_st, FrQ.st.mn hq]
    unfold swF2
    by_cases r : i = k
    · rw [if_pos r, if_pos r]
    · rw [if_neg r, if_neg r, if_neg hip]
      exact h.2 i hi r
theorem QC.fin (h : QC w t q e n k) (hX : QX w0 w t q) (hk : k < n) : ∀ i, i < n → sg (stC t q k (mnC t (e k) : Int)) q i = (mnC t (e i) : Int) := fun i hi => by
  rw [sg_st]
  by_cases r : i = k
  · rw [if_pos r, r]
  · rw [if_neg r]; exact h.2 i hi r
/-- what sifting ends in -/
def SfP (w0 w : Nat → Int) (q n : Nat) (e : Nat → Int) (t : CT) (v : Option AV) (u : CT) : Prop := none = v ∧ ∃ e', FrQ q t u ∧ (∀ i, i < n → isM w (e' i) ∧ sg u q i = (mnC t (e' i) : Int)) ∧ SmS n e e' ∧ HpQ (keyW w0 w) e' n ∧ (∀ i, n ≤ i → sg u q i = sg t q i)
theorem cc_siftUp (hn : n ≤ 10) (hd : 3 ≤ d) : ∀ (k : Nat) (t : CT) (e : Nat → Int) (o4 o5 : Option AV), k < n → QX w0 w t q → QC w t q e n k → HU (keyW w0 w) e n k → Wc kap d rJ11_siftUpUsingComparator 0 [some (.inl (k : Int)), some (.inr (mnC t (e k))), some (.inr q), some (.inr 19), o4, o5] [] t (nQ (SfP w0 w q n e t)) := by
  intro k
  induction k using Nat.strongRecOn with
  | _ k ih =>
    intro t e o4 o5 hk hX hC hU
    have h00 := hX.2.2.2.1.1.2
    have hq := hX.2.2.2.2.1
    have kq : kd kap t q = some (ckR 0 10) := kd_dyn hq hX.2.2.2.2.2.1
    have hM := hX.2.2.1.mem h00 (hC.1 k hk)
    have hfin : ∀ (o4 o5 : Option AV), (0 < k → keyW w0 w (e (parN k)) ≤ keyW w0 w (e k)) → Wc kap d rJ11_siftUpUsingComparator 43 [some (.inl (k : Int)), some (.inr (mnC t (e k))), some (.inr q), some (.inr 19), o4, o5] [] t (nQ (SfP w0 w q n e t)) := fun o4 o5 hle => by
      refine wc_aload_n dJ11_siftUpUsingComparator_43 rfl ?_
      refine wc_iload_n dJ11_siftUpUsingComparator_44 rfl ?_
      refine wc_aload_n dJ11_siftUpUsingComparator_45 rfl ?_
      refine wc_aastore dJ11_siftUpUsingComparator_46 kq rfl hX.2.2.2.2.2.2 rfl ⟨by omega, by omega⟩ (Or.inr ⟨_, _, hM.kd, rfl⟩) _ rfl ?_
      refine wc_vreturn dJ11_siftUpUsingComparator_47 rfl ?_
      rw [Int.toNat_natCast]
      exact ⟨rfl, e, FrQ.st, fun i hi => ⟨hC.1 i hi, hC.fin hX hk i hi⟩, SmS.rf, hU.done hle, fun i hi => by rw [sg_st, if_neg (by omega)]⟩
    by_cases k0 : k = 0
    ·
      refine wc_iload_n dJ11_siftUpUsingComparator_0 rfl ?_
      refine wc_if dJ11_siftUpUsingComparator_1 (cB_le ⟨by omega, by omega⟩ ⟨by omega, by omega⟩) 43 rfl (fun c1 => ?_) (fun c1 => ?_)
      ·
        exact hfin _ _ (fun h => by omega)
      ·
        omega
    · have hpk : parN k < k := by unfold parN; omega
      have hpn : parN k < n := by omega
      have epar : ((k : Int) - 1) / 2 = ((parN k : Nat) : Int) := by unfold parN; omega
      have hcp := hC.2 (parN k) hpn (by omega)
      have hmp := hC.1 (parN k) hpn
      have hP := hX.2.2.1.mem h00 hmp
      have hrk := isM_le (hC.1 k hk) h00
      have hrp := isM_le hmp h00
      have hcl : (cmpF (dsF w0 w) (e k) (e (parN k)) < 0 ↔ keyW w0 w (e k) < keyW w0 w (e (parN k))) ∧ (0 < cmpF (dsF w0 w) (e k) (e (parN k)) ↔ keyW w0 w (e (parN k)) < keyW w0 w (e k)) := cmp_lt (D := dsF w0 w) hrk hrp
      have hcr : rng (cmpF (dsF w0 w) (e k) (e (parN k))) := by
        have a := dsF_r (w0 := w0) (w := w) (m := e k)
        have b := dsF_r (w0 := w0) (w := w) (m := e (parN k))
        unfold cmpF
        split <;> omega
      refine wc_iload_n dJ11_siftUpUsingComparator_0 rfl ?_
      refine wc_if dJ11_siftUpUsingComparator_1 (cB_le ⟨by omega, by omega⟩ ⟨by omega, by omega⟩) 43 rfl (fun c1 => ?_) (fun c1 => ?_)
      ·
        omega
      ·
        refine wc_iload_n dJ11_siftUpUsingComparator_4 rfl ?_
        refine wc_iconst dJ11_siftUpUsingComparator_5 ?_
        refine wc_isub dJ11_siftUpUsingComparator_6 ?_
        refine wc_iconst dJ11_siftUpUsingComparator_7 ?_
        refine wc_ushr1 dJ11_siftUpUsingComparator_8 ⟨by omega, by omega⟩ ?_
        refine wc_istore dJ11_siftUpUsingComparator_9 rfl ?_
        refine wc_aload_n dJ11_siftUpUsingComparator_11 rfl ?_
        refine wc_iload dJ11_siftUpUsingComparator_12 rfl ?_
        refine wc_aaload (y := mnC t (e (parN k))) dJ11_siftUpUsingComparator_14 kq rfl rfl ⟨by omega, by omega⟩ (by rw [epar, Int.toNat_natCast, hcp]; exact Int.toNat_natCast _) ?_
        refine wc_astore dJ11_siftUpUsingComparator_15 rfl ?_
        refine wc_aload_n dJ11_siftUpUsingComparator_17 rfl ?_
        refine wc_aload_n dJ11_siftUpUsingComparator_18 rfl ?_
        refine wc_aload dJ11_siftUpUsingComparator_19 rfl ?_
        refine wc_call dJ11_siftUpUsingComparator_21 rfl (cc_compare hX.1 hX.2.1 hX.2.2.1 hX.2.2.2.1 (hC.1 k hk) hmp) (by omega) (hx_F (kG31_149 rfl) rfl rfl rfl) ?_
        rintro _ _ ⟨rfl, rfl⟩
        refine wc_if dJ11_siftUpUsingComparator_26 (cB_lt hcr ⟨by omega, by omega⟩) 32 rfl (fun c26 => ?_) (fun c26 => ?_)
        ·
          refine wc_aload_n dJ11_siftUpUsingComparator_32 rfl ?_
          refine wc_iload_n dJ11_siftUpUsingComparator_33 rfl ?_
          refine wc_aload dJ11_siftUpUsingComparator_34 rfl ?_
          refine wc_aastore dJ11_siftUpUsingComparator_36 kq rfl hX.2.2.2.2.2.2 rfl ⟨by omega, by omega⟩ (Or.inr ⟨_, _, hP.kd, rfl⟩) _ rfl ?_
          refine wc_iload dJ11_siftUpUsingComparator_37 rfl ?_
          refine wc_istore_n dJ11_siftUpUsingComparator_39 rfl ?_
          refine wc_goto dJ11_siftUpUsingComparator_40 0 rfl ?_
          rw [Int.toNat_natCast, epar]
          have hF : FrQ q t (stC t q k (mnC t (e (parN k)) : Int)) := FrQ.st
          have hX2 := hX.fr hF
          have hlt := hcl.1.mp c26
          have hst := hU.step (by omega) hk hlt
          have hC2 := hC.sw hX hk hpn (by omega)
          have hep : swF2 e k (parN k) (parN k) = e k := by unfold swF2; rw [if_neg (by omega), if_pos rfl]
          have hmm : mnC (stC t q k (mnC t (e (parN k)) : Int)) (swF2 e k (parN k) (parN k)) = mnC t (e k) := by rw [hep, hF.mn hq]
          have := ih (parN k) hpk (stC t q k (mnC t (e (parN k)) : Int)) (swF2 e k (parN k)) (some (.inl ((parN k : Nat) : Int))) (some (.inr (mnC t (e (parN k))))) hpn hX2 hC2 hst
          rw [hmm] at this
          refine this.mn (fun v u ⟨a1, e', a2, a3, a4, a5, a6⟩ => ⟨a1, e', hF.tr a2, fun i hi => ⟨(a3 i hi).1, by rw [(a3 i hi).2, hF.mn hq]⟩, (SmS.sw hk hpn).tr a4, a5, fun i hi => by rw [a6 i hi, sg_st, if_neg (by omega)]⟩)
        ·
          refine wc_goto dJ11_siftUpUsingComparator_29 43 rfl ?_
          exact hfin _ _ (fun _ => by have := hcl.1; omega)
theorem cc_siftDown_5 (hn : n ≤ 10) (hd : 3 ≤ d) : ∀ (f k : Nat) (t : CT) (e : Nat → Int) (o6 o7 o8 : Option AV), n ≤ k + f → k < n → QX w0 w t q → QC w t q e n k → HD (keyW w0 w) e n k → Wc kap d rJ11_siftDownUsingComparator 5 [some (.inl (k : Int)), some (.inr (mnC t (e k))), some (.inr q), some (.inl (n : Int)), some (.inr 19), some (.inl ((n : Int) / 2)), o6, o7, o8] [] t (nQ (SfP w0 w q n e t)) := by
  intro f
  induction f with
  | zero => intro k t e o6 o7 o8 hf hk; omega
  | succ f ih =>
    intro k t e o6 o7 o8 hf hk hX hC hU
    have h00 := hX.2.2.2.1.1.2
    have hq := hX.2.2.2.2.1
    have kq : kd kap t q = some (ckR 0 10) := kd_dyn hq hX.2.2.2.2.2.1
    have hM := hX.2.2.1.mem h00 (hC.1 k hk)
    have hrk := isM_le (hC.1 k hk) h00
    have hfin : ∀ (o6 o7 o8 : Option AV), (∀ i, 0 < i → i < n → parN i = k → keyW w0 w (e k) ≤ keyW w0 w (e i)) → Wc kap d rJ11_siftDownUsingComparator 88 [some (.inl (k : Int)), some (.inr (mnC t (e k))), some (.inr q), some (.inl (n : Int)), some (.inr 19), some (.inl ((n : Int) / 2)), o6, o7, o8] [] t (nQ (SfP w0 w q n e t)) := fun o6 o7 o8 hle => by
      refine wc_aload_n dJ11_siftDownUsingComparator_88 rfl ?_
      refine wc_iload_n dJ11_siftDownUsingComparator_89 rfl ?_
      refine wc_aload_n dJ11_siftDownUsingComparator_90 rfl ?_
      refine wc_aastore dJ11_siftDownUsingComparator_91 kq rfl hX.2.2.2.2.2.2 rfl ⟨by omega, by omega⟩ (Or.inr ⟨_, _, hM.kd, rfl⟩) _ rfl ?_
      refine wc_vreturn dJ11_siftDownUsingComparator_92 rfl ?_
      rw [Int.toNat_natCast]
      exact ⟨rfl, e, FrQ.st, fun i hi => ⟨hC.1 i hi, hC.fin hX hk i hi⟩, SmS.rf, hU.done hle, fun i hi => by rw [sg_st, if_neg (by omega)]⟩
    have hcmp : ∀ i j, i < n → j < n → (cmpF (dsF w0 w) (e i) (e j) < 0 ↔ keyW w0 w (e i) < keyW w0 w (e j)) ∧ (0 < cmpF (dsF w0 w) (e i) (e j) ↔ keyW w0 w (e j) < keyW w0 w (e i)) ∧ rng (cmpF (dsF w0 w) (e i) (e j)) := fun i j hi hj => by
      have c := cmp_lt (D := dsF w0 w) (isM_le (hC.1 i hi) h00) (isM_le (hC.1 j hj) h00)
      refine ⟨c.1, c.2, ?_⟩
      have a := dsF_r (w0 := w0) (w := w) (m := e i)
      have b := dsF_r (w0 := w0) (w := w) (m := e j)
      have r1 := isM_le (hC.1 i hi) h00
      have r2 := isM_le (hC.1 j hj) h00
      unfold cmpF
      split <;> omega
    -- the child c is the lesser one
    have hgo : ∀ (c : Nat) (o8 : Option AV), (0 < c ∧ c < n ∧ parN c = k) → (∀ i, 0 < i → i < n → parN i = k → keyW w0 w (e c) ≤ keyW w0 w (e i)) → Wc kap d rJ11_siftDownUsingComparator 61 [some (.inl (k : Int)), some (.inr (mnC t (e k))), some (.inr q), some (.inl (n : Int)), some (.inr 19), some (.inl ((n : Int) / 2)), some (.inl (c : Int)), some (.inr (mnC t (e c))), o8] [] t (nQ (SfP w0 w q n e t)) := fun c o8 hc hmin => by
      have hmc := hC.1 c hc.2.1
      have hP := hX.2.2.1.mem h00 hmc
      have hcl := hcmp k c hk hc.2.1
      have hkc : k < c := by obtain ⟨a, b, r⟩ := hc; unfold parN at r; omega
      refine wc_aload dJ11_siftDownUsingComparator_61 rfl ?_
      refine wc_aload_n dJ11_siftDownUsingComparator_63 rfl ?_
      refine wc_aload dJ11_siftDownUsingComparator_64 rfl ?_
      refine wc_call dJ11_siftDownUsingComparator_66 rfl (cc_compare hX.1 hX.2.1 hX.2.2.1 hX.2.2.2.1 (hC.1 k hk) hmc) (by omega) (hx_F (kG31_149 rfl) rfl rfl rfl) ?_
      rintro _ _ ⟨rfl, rfl⟩
      refine wc_if dJ11_siftDownUsingComparator_71 (cB_gt hcl.2.2 ⟨by omega, by omega⟩) 77 rfl (fun c71 => ?_) (fun c71 => ?_)
      ·
        refine wc_aload_n dJ11_siftDownUsingComparator_77 rfl ?_
        refine wc_iload_n dJ11_siftDownUsingComparator_78 rfl ?_
        refine wc_aload dJ11_siftDownUsingComparator_79 rfl ?_
        refine wc_aastore dJ11_siftDownUsingComparator_81 kq rfl hX.2.2.2.2.2.2 rfl ⟨by omega, by omega⟩ (Or.inr ⟨_, _, hP.kd, rfl⟩) _ rfl ?_
        refine wc_iload dJ11_siftDownUsingComparator_82 rfl ?_
        refine wc_istore_n dJ11_siftDownUsingComparator_84 rfl ?_
        refine wc_goto dJ11_siftDownUsingComparator_85 5 rfl ?_
        rw [Int.toNat_natCast]
        have hF : FrQ q t (stC t q k (mnC t (e c) : Int)) := FrQ.st
        have hX2 := hX.fr hF
        have hst := hU.step hk hc (by have := hcl.2.1; omega) hmin
        have hC2 := hC.sw hX hk hc.2.1 (by omega)
        have hep : swF2 e k c c = e k := by unfold swF2; rw [if_neg (by omega), if_pos rfl]
        have hmm : mnC (stC t q k (mnC t (e c) : Int)) (swF2 e k c c) = mnC t (e k) := by rw [hep, hF.mn hq]
        have := ih c (stC t q k (mnC t (e c) : Int)) (swF2 e k c) (some (.inl (c : Int))) (some (.inr (mnC t (e c)))) o8 (by omega) hc.2.1 hX2 hC2 hst
        rw [hmm] at this
        refine this.mn (fun v u ⟨a1, e', a2, a3, a4, a5, a6⟩ => ⟨a1, e', hF.tr a2, fun i hi => ⟨(a3 i hi).1, by rw [(a3 i hi).2, hF.mn hq]⟩, (SmS.sw hk hc.2.1).tr a4, a5, fun i hi => by rw [a6 i hi, sg_st, if_neg (by omega)]⟩)
      ·
        refine wc_goto dJ11_siftDownUsingComparator_74 88 rfl ?_
        exact hfin _ _ _ (fun i i0 i1 hi => by have := hmin i i0 i1 hi; have := hcl.2.1; omega)
    have hch : ∀ i, 0 < i → parN i = k → i = 2 * k + 1 ∨ i = 2 * k + 2 := fun i i0 hi => by unfold parN at hi; omega
    have hkr := isM_le (hC.1 k hk) h00
    by_cases hleaf : (n : Int) / 2 ≤ k
    ·
      refine wc_iload_n dJ11_siftDownUsingComparator_5 rfl ?_
      refine wc_iload dJ11_siftDownUsingComparator_6 rfl ?_
      refine wc_icmp dJ11_siftDownUsingComparator_8 (cB_ge (show rng _ by omega) (show rng _ by omega)) 88 rfl (fun c8 => ?_) (fun c8 => ?_)
      ·
        exact hfin _ _ _ (fun i i0 i1 hi => by rcases hch i i0 hi with r | r <;> omega)
      ·
        omega
    · have c1n : 2 * k + 1 < n := by omega
      have ec : 2 * (k : Int) + 1 = ((2 * k + 1 : Nat) : Int) := by omega
      have er : ((2 * k + 1 : Nat) : Int) + 1 = ((2 * k + 2 : Nat) : Int) := by omega
      have hq1 := hC.2 (2 * k + 1) c1n (by omega)
      have hP1 := hX.2.2.1.mem h00 (hC.1 _ c1n)
      by_cases hr : 2 * k + 2 < n
      · have hq2 := hC.2 (2 * k + 2) hr (by omega)
        have hcr := hcmp _ _ c1n hr
        refine wc_iload_n dJ11_siftDownUsingComparator_5 rfl ?_
        refine wc_iload dJ11_siftDownUsingComparator_6 rfl ?_
        refine wc_icmp dJ11_siftDownUsingComparator_8 (cB_ge (show rng _ by omega) (show rng _ by omega)) 88 rfl (fun c8 => ?_) (fun c8 => ?_)
        ·
          omega
        ·
          refine wc_iload_n dJ11_siftDownUsingComparator_11 rfl ?_
          refine wc_iconst dJ11_siftDownUsingComparator_12 ?_
          refine wc_shlk dJ11_siftDownUsingComparator_13 ⟨by omega, by omega⟩ ?_
          refine wc_iconst dJ11_siftDownUsingComparator_14 ?_
          refine wc_iadd dJ11_siftDownUsingComparator_15 ?_
          rw [ec]
          refine wc_istore dJ11_siftDownUsingComparator_16 rfl ?_
          refine wc_aload_n dJ11_siftDownUsingComparator_18 rfl ?_
          refine wc_iload dJ11_siftDownUsingComparator_19 rfl ?_
          refine wc_aaload (y := mnC t (e (2 * k + 1))) dJ11_siftDownUsingComparator_21 kq rfl rfl ⟨by omega, by omega⟩ (by rw [Int.toNat_natCast, hq1]; exact Int.toNat_natCast _) ?_
          refine wc_astore dJ11_siftDownUsingComparator_22 rfl ?_
          refine wc_iload dJ11_siftDownUsingComparator_24 rfl ?_
          refine wc_iconst dJ11_siftDownUsingComparator_26 ?_
          refine wc_iadd dJ11_siftDownUsingComparator_27 ?_
          rw [er]
          refine wc_istore dJ11_siftDownUsingComparator_28 rfl ?_
          refine wc_iload dJ11_siftDownUsingComparator_30 rfl ?_
          refine wc_iload_n dJ11_siftDownUsingComparator_32 rfl ?_
          refine wc_icmp dJ11_siftDownUsingComparator_33 (cB_ge (show rng _ by omega) (show rng _ by omega)) 61 rfl (fun c33 => ?_) (fun c33 => ?_)
          ·
            omega
          ·
            refine wc_aload dJ11_siftDownUsingComparator_36 rfl ?_
            refine wc_aload dJ11_siftDownUsingComparator_38 rfl ?_
            refine wc_aload_n dJ11_siftDownUsingComparator_40 rfl ?_
            refine wc_iload dJ11_siftDownUsingComparator_41 rfl ?_
            refine wc_aaload (y := mnC t (e (2 * k + 2))) dJ11_siftDownUsingComparator_43 kq rfl rfl ⟨by omega, by omega⟩ (by rw [Int.toNat_natCast, hq2]; exact Int.toNat_natCast _) ?_
            refine wc_call dJ11_siftDownUsingComparator_44 rfl (cc_compare hX.1 hX.2.1 hX.2.2.1 hX.2.2.2.1 (hC.1 _ c1n) (hC.1 _ hr)) (by omega) (hx_F (kG31_149 rfl) rfl rfl rfl) ?_
            rintro _ _ ⟨rfl, rfl⟩
            refine wc_if dJ11_siftDownUsingComparator_49 (cB_le hcr.2.2 ⟨by omega, by omega⟩) 61 rfl (fun c49 => ?_) (fun c49 => ?_)
            ·
              exact hgo (2 * k + 1) _ ⟨by omega, c1n, by unfold parN; omega⟩ (fun i i0 i1 hi => by rcases hch i i0 hi with r | r; rw [r]; exact Int.le_refl _; rw [r]; have := hcr.2.1; omega)
            ·
              refine wc_aload_n dJ11_siftDownUsingComparator_52 rfl ?_
              refine wc_iload dJ11_siftDownUsingComparator_53 rfl ?_
              refine wc_dup dJ11_siftDownUsingComparator_55 ?_
              refine wc_istore dJ11_siftDownUsingComparator_56 rfl ?_
              refine wc_aaload (y := mnC t (e (2 * k + 2))) dJ11_siftDownUsingComparator_58 kq rfl rfl ⟨by omega, by omega⟩ (by rw [Int.toNat_natCast, hq2]; exact Int.toNat_natCast _) ?_
              refine wc_astore dJ11_siftDownUsingComparator_59 rfl ?_
              exact hgo (2 * k + 2) _ ⟨by omega, hr, by unfold parN; omega⟩ (fun i i0 i1 hi => by rcases hch i i0 hi with r | r; rw [r]; have := hcr.2.1; omega; rw [r]; exact Int.le_refl _)
      ·
        refine wc_iload_n dJ11_siftDownUsingComparator_5 rfl ?_
        refine wc_iload dJ11_siftDownUsingComparator_6 rfl ?_
        refine wc_icmp dJ11_siftDownUsingComparator_8 (cB_ge (show rng _ by omega) (show rng _ by omega)) 88 rfl (fun c8 => ?_) (fun c8 => ?_)
        ·
          omega
        ·
          refine wc_iload_n dJ11_siftDownUsingComparator_11 rfl ?_
          refine wc_iconst dJ11_siftDownUsingComparator_12 ?_
          refine wc_shlk dJ11_siftDownUsingComparator_13 ⟨by omega, by omega⟩ ?_
          refine wc_iconst dJ11_siftDownUsingComparator_14 ?_
          refine wc_iadd dJ11_siftDownUsingComparator_15 ?_
          rw [ec]
          refine wc_istore dJ11_siftDownUsingComparator_16 rfl ?_
          refine wc_aload_n dJ11_siftDownUsingComparator_18 rfl ?_
          refine wc_iload dJ11_siftDownUsingComparator_19 rfl ?_
          refine wc_aaload (y := mnC t (e (2 * k + 1))) dJ11_siftDownUsingComparator_21 kq rfl rfl ⟨by omega, by omega⟩ (by rw [Int.toNat_natCast, hq1]; exact Int.toNat_natCast _) ?_
          refine wc_astore dJ11_siftDownUsingComparator_22 rfl ?_
          refine wc_iload dJ11_siftDownUsingComparator_24 rfl ?_
          refine wc_iconst dJ11_siftDownUsingComparator_26 ?_
          refine wc_iadd dJ11_siftDownUsingComparator_27 ?_
          rw [er]
          refine wc_istore dJ11_siftDownUsingComparator_28 rfl ?_
          refine wc_iload dJ11_siftDownUsingComparator_30 rfl ?_
          refine wc_iload_n dJ11_siftDownUsingComparator_32 rfl ?_
          refine wc_icmp dJ11_siftDownUsingComparator_33 (cB_ge (show rng _ by omega) (show rng _ by omega)) 61 rfl (fun c33 => ?_) (fun c33 => ?_)
          ·
            exact hgo (2 * k + 1) _ ⟨by omega, c1n, by unfold parN; omega⟩ (fun i i0 i1 hi => by rcases hch i i0 hi with r | r; rw [r]; exact Int.le_refl _; omega)
          ·
            omega
theorem cc_siftDown (hn : n ≤ 10) (h0 : 0 < n) (hX : QX w0 w t q) (hC : QC w t q e n 0) (hU : HD (keyW w0 w) e n 0) : Ct kap 3 rJ11_siftDownUsingComparator [.inl 0, .inr (mnC t (e 0)), .inr q, .inl (n : Int), .inr 19] t (SfP w0 w q n e t) := by
  intro d hd
  refine wc_iload_n dJ11_siftDownUsingComparator_0 rfl ?_
  refine wc_iconst dJ11_siftDownUsingComparator_1 ?_
  refine wc_ushr1 dJ11_siftDownUsingComparator_2 ⟨by omega, by omega⟩ ?_
  refine wc_istore dJ11_siftDownUsingComparator_3 rfl ?_
  exact cc_siftDown_5 hn hd n 0 t e _ _ _ (by omega) h0 hX hC hU
theorem cc_siftUpC (hn : n ≤ 10) (hk : k < n) (hX : QX w0 w t q) (hC : QC w t q e n k) (hU : HU (keyW w0 w) e n k) : Ct kap 3 rJ11_siftUpUsingComparator [.inl (k : Int), .inr (mnC t (e k)), .inr q, .inr 19] t (SfP w0 w q n e t) := fun d hd => cc_siftUp hn hd k t e none none hk hX hC hU
end PQ2
