/-! THE CLASS'S METHODS, 10: gives -/
set_option maxRecDepth 100000
theorem Wc.nv {T : Nat → Option CK} {d : Nat} {M : MRec} {pc : Nat} {ls : AL} {st : List AV} {τ : CT} {Q : CO → CT → Prop} (K : 1000 ≤ n0C τ ∧ n0C τ ≤ nvC τ → Wc T d M pc ls st τ Q) : Wc T d M pc ls st τ Q := fun E h R => K R.2.1 E h R
section GIV3
variable {w : Nat → Int} {τ t u : CT} {m c v p s A T : Int} {d k y x n : Nat} {Q : Option AV → CT → Prop} {g : GS} {TT : Nat → Option CK}
theorem led_ex (h0 : w 0 ≤ 10) (hm : isM w m) : 0 ≤ ledF w := by
  have hr := isM_le hm h0
  unfold ledF
  split
  · omega
  · rcases fstI_rng (fun m => decide (isM w m)) 10 0 (by omega) with e | ⟨e, -⟩
    · have := fstI_no 10 0 (by omega) (show fstI (fun m => decide (isM w m)) 10 0 < 0 by omega) m (by omega) (by omega)
      exact absurd (decide_eq_true hm) (by rw [this]; decide)
    · exact e
theorem ChN.ext (h1 : ∀ y, 110 ≤ y → y < nvC t → u.2.1 y = t.2.1 y ∧ sg u y = sg t y) (h2 : sg u 103 = sg t 103) (h3 : nvC t ≤ nvC u) : ∀ {k y : Nat}, ChN w t k y → ChN w u k y := by
  intro k
  induction k with
  | zero => intro y h; exact h
  | succ k ih =>
    intro y h
    refine ⟨fun hc => ?_, fun hc => ih (h.2 hc)⟩
    obtain ⟨⟨g1, g2, g3⟩, g4, g5, g6, g7⟩ := h.1 hc
    have e := h1 y g1 g2
    unfold mnC at *
    rw [e.1, e.2, h2]
    exact ⟨⟨g1, by omega, g3⟩, g4, g5, g6, ih g7⟩
theorem nch_sg {a yb y' : Nat} (h1 : x ≠ y') (h2 : x ≠ 30 + m.toNat) : sg (nchC t y' a yb m) x = sg t x := by
  unfold nchC
  rw [sg_fi' h2, sg_st' h1, sg_st' h1, sg_st' h1, sg_st' h1]
theorem newC_frs {kk : CK} {s : Nat} {f : Nat → Int} (hn : 1000 ≤ n0C t ∧ n0C t ≤ nvC t) : FrS t (newC t kk s f) := by
  have hs : ∀ x, x ≠ nvC t → sg (newC t kk s f) x = sg t x := fun x h1 => sg_new h1
  have hd : ∀ y, y < nvC t → (newC t kk s f).2.1 y = t.2.1 y := fun y hy => by
    show (if y = nvC t then some kk else t.2.1 y) = _
    rw [if_neg (by omega)]
  refine ⟨⟨rfl, Nat.le_succ _⟩, fun v hv => hs v (by omega), fun j _ _ => by rw [hs 10 (by omega)], fun y y1 y2 => ⟨hd y y2, fun _ => hs y (by omega)⟩, hs 18 (by omega), fun y y1 y2 => ⟨hd y (by omega), hs y (by omega)⟩⟩
/-- a new chain cell at the next name -/
abbrev nch2 (t : CT) (yb : Nat) (m : Int) : CT := nchC (newC t chK 4 (fun _ => 0)) (nvC t) (mnC t m) yb m
theorem nch2_sg {yb : Nat} (h1 : x ≠ nvC t) (h2 : x ≠ 30 + m.toNat) : sg (nch2 t yb m) x = sg t x := by
  unfold nch2
  rw [nch_sg h1 h2, sg_new h1]
theorem nch2_frs {yb : Nat} (hn : 1000 ≤ n0C t ∧ n0C t ≤ nvC t) (hm : 0 ≤ m ∧ m ≤ 9) : FrS t (nch2 t yb m) := by
  have hs : ∀ x, x ≠ nvC t → x ≠ 30 + m.toNat → sg (nch2 t yb m) x = sg t x := fun x h1 h2 => nch2_sg h1 h2
  have hd : ∀ y, y < nvC t → (nch2 t yb m).2.1 y = t.2.1 y := fun y hy => by
    show (if y = nvC t then some chK else t.2.1 y) = _
    rw [if_neg (by omega)]
  refine ⟨⟨rfl, Nat.le_succ _⟩, fun v hv => hs v (by omega) (by omega), fun j _ _ => by rw [hs 10 (by omega) (by omega)], fun y y1 y2 => ⟨hd y y2, fun _ => hs y (by omega) (by omega)⟩, hs 18 (by omega) (by omega), fun y y1 y2 => ⟨hd y (by omega), hs y (by omega) (by omega)⟩⟩
theorem nch2_chn {yb : Nat} (hn : 1000 ≤ n0C t ∧ n0C t ≤ nvC t) (hk : k ≤ 9) (hc : isC w k) (h : ChN w t k yb) : ChN w (nch2 t yb (9 - k)) (k + 1) (nvC t) := by
  refine ⟨fun _ => ?_, fun q => absurd hc q⟩
  have h30 : nvC t ≠ 30 + (9 - (k : Int)).toNat := by omega
  have e0 : ∀ j, sg (nch2 t yb (9 - k)) (nvC t) j = sg (stC (stC (stC (stC (newC t chK 4 (fun _ => 0)) (nvC t) 3 10) (nvC t) 0 (mnC t (9 - k))) (nvC t) 1 yb) (nvC t) 2 ((30 + (9 - (k : Int)).toNat : Nat) : Int)) (nvC t) j := fun j => by
    unfold nch2 nchC
    rw [sg_fi' h30]
  refine ⟨⟨by omega, Nat.lt_succ_self _, ?_⟩, ?_, ?_, ?_, ?_⟩
  · show (if nvC t = nvC t then some chK else _) = _
    rw [if_pos rfl]
  · rw [e0, sg_st, if_neg (by decide), sg_st, if_neg (by decide), sg_st, if_pos rfl]
    unfold mnC
    rw [nch2_sg (by omega) (by omega), Int.toNat_natCast]
  · rw [e0, sg_st, if_pos rfl]
    omega
  · rw [e0, sg_st, if_neg (by decide), sg_st, if_neg (by decide), sg_st, if_neg (by decide), sg_st, if_pos rfl]
    rfl
  · rw [e0, sg_st, if_neg (by decide), sg_st, if_pos rfl, Int.toNat_natCast]
    refine h.ext (fun y y1 y2 => ⟨?_, nch2_sg (by omega) (by omega)⟩) (nch2_sg (by omega) (by omega)) (Nat.le_succ _)
    show (if y = nvC t then some chK else t.2.1 y) = _
    rw [if_neg (by omega)]
theorem gr_n0 (hn : nN w = 0) : ∀ (k : Nat) (g : GS), grF (wofF w) (nN w) k g = g := by
  intro k
  induction k with
  | zero => intro g; rfl
  | succ k ih =>
    intro g
    show grF (wofF w) (nN w) k (gr1F (wofF w) (nN w) k g) = g
    rw [ih]
    unfold gr1F
    rw [hn]
    rfl
/-- rows of sums that are empty -/
def RW (w : Nat → Int) (k : Nat) (t : CT) : Prop := ∀ j : Nat, j < k → isC w j → ∀ i, i < 1024 → sg t (30 + (9 - j)) i = -1
/-- places are given -/
def GvP (w : Nat → Int) (τ u : CT) : Prop := FrS τ u ∧ PLs w u ∧ SlR (slF w) u ∧ (nvC u ≤ nvC τ + 10 ∧ uC u ≤ uC τ + 40)
theorem cc_gives_17 (hW : HW w) (h : St w τ) (hd : 2 ≤ d) : ∀ (n : Nat) (t : CT) (y : Nat), n ≤ 10 → FrS τ t → PLs w t → (∀ m : Int, n ≤ m → m < 10 → sg t 15 m.toNat = -5) → RW w (10 - n) t → (nvC t ≤ nvC τ + (10 - n) ∧ uC t ≤ uC τ + 4 * (10 - n)) → ChN w t (10 - n) y →
    (∀ (u : CT) (y' : Nat), FrS τ u → PLs w u → SlR (fun _ => -1) u → RW w 10 u → (nvC u ≤ nvC τ + 10 ∧ uC u ≤ uC τ + 40) → ChN w u 10 y' → Wc kap d rX0_gives 71 [some (.inr 10), some (.inr y'), some (.inl (ldO w)), some (.inl (-1))] [] u (nQ Q)) →
    Wc kap d rX0_gives 17 [some (.inr 10), some (.inr y), some (.inl (ldO w)), some (.inl ((n : Int) - 1))] [] t (nQ Q) := by
  intro n
  induction n with
  | zero =>
    intro t y hn g hP hs hR hb hC K
    refine wc_iload_n dX0_gives_17 rfl ?_
    refine wc_if dX0_gives_18 (cB_lt ⟨by omega, by omega⟩ ⟨by omega, by omega⟩) 71 rfl (fun c18 => ?_) (fun c18 => ?_)
    ·
      exact K t y g hP (fun m m0 m1 => by rw [hs m m0 m1]; rfl) hR hb hC
    ·
      omega
  | succ n ih =>
    intro t y hn g hP hs hR hb hC K
    have hst := g.st h
    have e1 : ((n + 1 : Nat) : Int) - 1 = (n : Int) := by omega
    rw [e1]
    have hj : 10 - n = (10 - (n + 1)) + 1 := by omega
    have e9 : (9 - ((10 - (n + 1) : Nat) : Int)) = (n : Int) := by omega
    have hF1 : FrS t (stC t 15 (n : Int).toNat (-5)) := frs_st (by omega)
    have hs1 : ∀ m : Int, n ≤ m → m < 10 → sg (stC t 15 (n : Int).toNat (-5)) 15 m.toNat = -5 := fun m m0 m1 => by
      rw [sg_st]
      by_cases e : m.toNat = (n : Int).toNat
      · rw [if_pos e]
      · rw [if_neg e]; exact hs m (by omega) m1
    have hP1 : PLs w (stC t 15 (n : Int).toNat (-5)) := hP.of hW.1 (fun v hv => sg_st' (by omega)) (by rw [sg_st' (by decide)]) (by rw [sg_st' (by decide)])
    have hst1 := hF1.st hst
    have hC1 : ChN w (stC t 15 (n : Int).toNat (-5)) (10 - (n + 1)) y := hC.g2 FrG2.s15
    have hskip : ¬ isC w (10 - (n + 1)) → Wc kap d rX0_gives 17 [some (.inr 10), some (.inr y), some (.inl (ldO w)), some (.inl ((n : Int) + -1))] [] (stC t 15 (n : Int).toNat (-5)) (nQ Q) := fun hc => by
      refine ih _ y (by omega) (g.tr hF1) hP1 (fun m m0 m1 => hs1 m m0 m1) (fun j hjj hcj i hi => ?_) ⟨by show nvC t ≤ _; omega, by show uC t ≤ _; omega⟩ (by rw [hj]; exact ⟨fun q => absurd q hc, fun _ => hC1⟩) K
      rw [sg_st' (by omega)]
      exact hR j (by rcases Nat.lt_or_ge j (10 - (n + 1)) with q | q; exact q; exact absurd (show isC w (10 - (n + 1)) by rw [show 10 - (n + 1) = j by omega]; exact hcj) hc) hcj i hi
    have hiC : isC w (10 - (n + 1)) ↔ isM w n ∧ (n : Int) ≠ ledF w := by
      show (isM w (9 - ((10 - (n + 1) : Nat) : Int)) ∧ (9 - ((10 - (n + 1) : Nat) : Int)) ≠ ledF w) ↔ _
      rw [e9]
    refine wc_iload_n dX0_gives_17 rfl ?_
    refine wc_if dX0_gives_18 (cB_lt ⟨by omega, by omega⟩ ⟨by omega, by omega⟩) 71 rfl (fun c18 => ?_) (fun c18 => ?_)
    ·
      omega
    ·
      refine wc_aload_n dX0_gives_21 rfl ?_
      refine wc_getC dX0_gives_22 (kF0_98 rfl) rfl rfl ?_
      refine wc_iload_n dX0_gives_25 rfl ?_
      refine wc_bipush dX0_gives_26 (by decide) ?_
      refine wc_iastore dX0_gives_28 rfl ⟨by decide, Or.inl (by decide)⟩ rfl ⟨by omega, by omega⟩ _ rfl ?_
      refine wc_aload_n dX0_gives_29 rfl ?_
      refine wc_getC dX0_gives_30 (kF0_19 rfl) rfl rfl ?_
      refine wc_getC dX0_gives_33 (kF0_80 rfl) rfl rfl ?_
      refine wc_iload_n dX0_gives_36 rfl ?_
      refine wc_aaload dX0_gives_37 rfl rfl rfl ⟨by omega, by omega⟩ rfl ?_
      refine wc_ifnull dX0_gives_38 (hst1.1.nn hW.1.1.2 ⟨by omega, by omega⟩) 65 rfl (fun c38 => ?_) (fun c38 => ?_)
      ·
        refine wc_iinc dX0_gives_65 rfl ?_
        refine wc_goto dX0_gives_68 17 rfl ?_
        exact hskip (fun q => hst1.1.notM hW.1.1.2 c38 (hiC.mp q).1)
      ·
        refine wc_iload_n dX0_gives_41 rfl ?_
        refine wc_iload_n dX0_gives_42 rfl ?_
        refine wc_icmp dX0_gives_43 (cB_eq (show rng _ by omega) (show rng _ by unfold ldO; have := ledF_rng w hW.1.1.2; split <;> omega)) 65 rfl (fun c43 => ?_) (fun c43 => ?_)
        ·
          refine wc_iinc dX0_gives_65 rfl ?_
          refine wc_goto dX0_gives_68 17 rfl ?_
          exact hskip (fun q => (hiC.mp q).2 (by rw [c43]; unfold ldO; rw [if_neg (by have := led_ex hW.1.1.2 (hiC.mp q).1; omega)]))
        ·
          have hmn := hst1.1.isIn hW.1.1.2 ⟨by omega, by omega⟩ c38
          have hcc := hiC.mpr ⟨hmn, fun q => c43 (by unfold ldO; rw [if_neg (by omega)]; exact q)⟩
          refine Wc.nv (fun hnv => ?_)
          have hnv : 1000 ≤ n0C t ∧ n0C t ≤ nvC t := hnv
          have hnv1 : 1000 ≤ n0C (stC t 15 (n : Int).toNat (-5)) ∧ n0C (stC t 15 (n : Int).toNat (-5)) ≤ nvC (stC t 15 (n : Int).toNat (-5)) := hnv
          have hFn : FrS (stC t 15 (n : Int).toNat (-5)) (newC (stC t 15 (n : Int).toNat (-5)) chK 4 (fun _ => 0)) := newC_frs hnv1
          have hmeq : mnC (newC (stC t 15 (n : Int).toNat (-5)) chK 4 (fun _ => 0)) n = mnC (stC t 15 (n : Int).toNat (-5)) n := by unfold mnC; rw [sg_new (by show 103 ≠ nvC t; omega)]
          have hmlt : mnC (stC t 15 (n : Int).toNat (-5)) n < nvC t := (hst1.1.mem hW.1.1.2 hmn).1.2.1
          refine wc_new dX0_gives_46 (kN0_37 rfl) rfl ?_
          refine wc_dup dX0_gives_49 ?_
          refine wc_aload_n dX0_gives_50 rfl ?_
          refine wc_aload_n dX0_gives_51 rfl ?_
          refine wc_getC dX0_gives_52 (kF0_19 rfl) rfl rfl ?_
          refine wc_getC dX0_gives_55 (kF0_80 rfl) rfl rfl ?_
          refine wc_iload_n dX0_gives_58 rfl ?_
          refine wc_aaload (y := mnC (newC (stC t 15 (n : Int).toNat (-5)) chK 4 (fun _ => 0)) n) dX0_gives_59 rfl rfl rfl ⟨by omega, by omega⟩ rfl ?_
          refine wc_aload_n dX0_gives_60 rfl ?_
          refine wc_call dX0_gives_61 rfl (cc_chain (yb := y) (t := newC (stC t 15 (n : Int).toNat (-5)) chK 4 (fun _ => 0)) (y := nvC t) (m := n) (by omega) (by show (if nvC t = nvC t then some chK else _) = _; rw [if_pos rfl]) ⟨by omega, Or.inr hnv.2⟩ (hFn.wd hst1.2.1 hst1.1) hW.1.1.2 hmn (by rw [hmeq]; omega)) (by omega) (hx_I (kI0_101 rfl) rfl (kd_nw (by have := hnv; show 110 ≤ nvC t; omega)) rfl rfl) ?_
          rintro _ _ ⟨rfl, rfl⟩
          refine wc_astore_n dX0_gives_64 rfl ?_
          refine wc_iinc dX0_gives_65 rfl ?_
          refine wc_goto dX0_gives_68 17 rfl ?_
          rw [hmeq]
          have hfr : FrS (stC t 15 (n : Int).toNat (-5)) (nch2 (stC t 15 (n : Int).toNat (-5)) y (n : Int)) := nch2_frs hnv1 (by omega)
          have hchn := nch2_chn (w := w) (t := stC t 15 (n : Int).toNat (-5)) (k := 10 - (n + 1)) hnv1 (by omega) hcc hC1
          rw [e9] at hchn
          have hx : ∀ x, x < 110 → x ≠ 30 + n → sg (nch2 (stC t 15 (n : Int).toNat (-5)) y (n : Int)) x = sg (stC t 15 (n : Int).toNat (-5)) x := fun x h1 h2 => nch2_sg (by show x ≠ nvC t; omega) (by omega)
          refine ih (nch2 (stC t 15 (n : Int).toNat (-5)) y (n : Int)) (nvC t) (by omega) ((g.tr hF1).tr hfr) (hP1.of hW.1 (fun v hv => hx v (by omega) (by omega)) (by rw [hx 10 (by omega) (by omega)]) (by rw [hx 10 (by omega) (by omega)])) (fun m m0 m1 => by rw [hx 15 (by omega) (by omega)]; exact hs1 m m0 m1) (fun j hjj hcj i hi => ?_) ⟨by show nvC t + 1 ≤ _; omega, by show uC t + 4 ≤ _; omega⟩ (by rw [hj]; exact hchn) K
          by_cases e : j = 10 - (n + 1)
          · have e30 : 30 + (9 - j) = 30 + (n : Int).toNat := by omega
            rw [e30]
            show sg (fiC _ _ 0 1024 (-1)) _ i = -1
            rw [sg_fi, if_pos hi]
          · rw [hx _ (by omega) (by omega), sg_st' (by omega)]
            exact hR j (by omega) hcj i hi
theorem cc_gives (hW : HW w) (h : St w τ) : Ct kap 60 rX0_gives [.inr 10] τ (fun v u => none = v ∧ GvP w τ u) := by
  intro d hd
  have hn10 := nC_le hW.1
  have hS4 := hW.1.2.2.2.1
  have hgo : ∀ t, FrS τ t → PLs w t → (nvC t = nvC τ ∧ uC t = uC τ) → Wc kap d rX0_gives 17 [some (.inr 10), some (.inr 0), some (.inl (ldO w)), some (.inl 9)] [] t (nQ (fun v u => none = v ∧ GvP w τ u)) := fun t g hP hb => by
    refine cc_gives_17 hW h (by omega) 10 t 0 (by omega) g hP (fun m m0 m1 => by omega) (fun j hj => by omega) ⟨by omega, by omega⟩ rfl (fun u y' g2 hP2 hS2 hR2 hb2 hC2 => ?_)
    have hX : CX w u := ⟨g2.st h, hP2, fun j hj hc T T0 T1 => by
      rw [hR2 j hj hc T.toNat (by omega)]
      exact ⟨by omega, fun q => by omega⟩⟩
    have hend : (grF (wofF w) (nN w) 10 (lftF w (nN w) 0 0, 0, 0, fun _ => -1)).2.2.2 = (fun _ => -1) → SlR (slF w) u := fun e m m0 m1 => by
      unfold slF givF
      rw [e]
      exact hS2 m m0 m1
    refine wc_aload_n dX0_gives_71 rfl ?_
    refine wc_ifnull dX0_gives_72 (by rcases hC2.nn with e | e; exact Or.inl e; exact Or.inr (by rw [kd_dyn e.1 e.2]; rfl)) 87 rfl (fun c72 => ?_) (fun c72 => ?_)
    ·
      refine wc_vreturn dX0_gives_87 rfl ?_
      rw [c72] at hC2
      exact ⟨rfl, g2, hP2, hend (by rw [gr_of0 10 _ hC2]), hb2⟩
    ·
      refine wc_aload_n dX0_gives_75 rfl ?_
      refine wc_getI dX0_gives_76 (kF0_71 rfl) rfl rfl ?_
      rw [hP2.2.1]
      refine wc_if dX0_gives_79 (cB_le (show rng _ by have := nC_0 hW.1; omega) ⟨by omega, by omega⟩) 87 rfl (fun c79 => ?_) (fun c79 => ?_)
      ·
        refine wc_vreturn dX0_gives_87 rfl ?_
        refine ⟨rfl, g2, hP2, hend ?_, hb2⟩
        by_cases q : ledF w < 0
        · have : ∀ k y, ChN w u k y → y = 0 := by
            intro k
            induction k with
            | zero => intro y h; exact h
            | succ k ih =>
              intro y h
              exact ih y (h.2 (fun hc => by have := led_ex hW.1.1.2 hc.1; omega))
          exact absurd (this 10 y' hC2) c72
        · rw [gr_n0 (by unfold nC at c79; rw [if_neg q] at c79; unfold nN; omega)]
      ·
        have hl : 0 ≤ ledF w := by
          unfold nC at c79
          split at c79 <;> omega
        refine wc_aload_n dX0_gives_82 rfl ?_
        refine wc_iconst dX0_gives_83 ?_
        refine wc_call dX0_gives_84 rfl (giv_all hW hl 10 (by omega) y' u 0 (lftF w (nN w) 0 0) (lftF w (nN w) 0 0, 0, 0, fun _ => -1) c72 hX hC2 (BR.zero (by unfold nN; omega)) rfl (fun _ _ => rfl) hS2) (by omega) (hx_V (kV0_105 rfl) rfl (by rcases hC2.nn with e | e; exact absurd e c72; exact kd_dyn e.1 e.2) rfl rfl) ?_
        rintro _ _ ⟨rfl, hF, hC, hR⟩
        refine wc_vreturn dX0_gives_87 rfl ?_
        exact ⟨rfl, g2.tr hF.frs, hC.2.1, hR, by unfold nvC uC at *; rw [hF.1]; exact hb2⟩
  refine wc_aload_n dX0_gives_0 rfl ?_
  refine wc_call dX0_gives_1 rfl (cc_laysPlaces h hW.1 hW.2.1 hW.2.2) (by omega) (hx_V (kV0_94 rfl) rfl rfl rfl rfl) ?_
  rintro _ _ ⟨rfl, g, hP, hb⟩
  refine wc_null dX0_gives_4 ?_
  refine wc_astore_n dX0_gives_5 rfl ?_
  refine wc_aload_n dX0_gives_6 rfl ?_
  refine wc_getC dX0_gives_7 (kF0_19 rfl) rfl rfl ?_
  refine wc_call dX0_gives_10 rfl (cc_leads (g.st h).1 hW.1.1 (hW.2.1 _)) (by omega) (hx_V (kV0_55 rfl) rfl rfl rfl rfl) ?_
  rintro _ _ ⟨rfl, rfl⟩
  refine wc_istore_n dX0_gives_13 rfl ?_
  refine wc_bipush dX0_gives_14 (by decide) ?_
  refine wc_istore_n dX0_gives_16 rfl ?_
  exact hgo _ g hP ⟨by unfold nvC; rw [hb], by unfold uC; rw [hb]⟩
end GIV3
