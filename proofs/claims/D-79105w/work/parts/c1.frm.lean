/-! HOW MANY ARE GIVEN, THEIR SUM; isFormed -/
set_option maxRecDepth 100000
def dsV (f : Int → Int) (V : Int → Int → Int) : Nat → Int → Int
  | 0, _ => 0
  | n + 1, i => (if 0 ≤ f i then 10000 - V i (f i) else 0) + dsV f V n (i + 1)
section FRM
variable {w w0 : Nat → Int} {τ t u : CT} {m c v p s A T a : Int} {d k y x n : Nat} {Q : Option AV → CT → Prop} {g : GS} {TT : Nat → Option CK} {f : Int → Int} {V : Int → Int → Int}
theorem gvN_upd (ha : f a < 0) (hs : 0 ≤ s) : ∀ (n : Nat) (i : Int), gvN (fun m => if m = a then s else f m) n i = gvN f n i + if i ≤ a ∧ a < i + n then 1 else 0 := by
  intro n
  induction n with
  | zero => intro i; rw [if_neg (by omega)]; rfl
  | succ n ih =>
    intro i
    unfold gvN
    rw [ih]
    by_cases e : i = a
    · rw [if_pos e, if_pos hs, if_neg (show ¬ 0 ≤ f i by rw [e]; omega), if_neg (by omega), if_pos (by omega)]; omega
    · rw [if_neg e]
      by_cases e2 : i + 1 ≤ a ∧ a < i + 1 + n
      · rw [if_pos e2, if_pos (show i ≤ a ∧ a < i + ((n + 1 : Nat) : Int) by omega)]; omega
      · rw [if_neg e2, if_neg (show ¬ (i ≤ a ∧ a < i + ((n + 1 : Nat) : Int)) by omega)]; omega
theorem dsV_upd (ha : f a < 0) (hs : 0 ≤ s) : ∀ (n : Nat) (i : Int), dsV (fun m => if m = a then s else f m) V n i = dsV f V n i + if i ≤ a ∧ a < i + n then 10000 - V a s else 0 := by
  intro n
  induction n with
  | zero => intro i; rw [if_neg (by omega)]; rfl
  | succ n ih =>
    intro i
    unfold dsV
    rw [ih]
    by_cases e : i = a
    · subst e
      rw [if_pos rfl, if_pos hs, if_neg (show ¬ 0 ≤ f i by omega), if_neg (by omega), if_pos (by omega)]; omega
    · rw [if_neg e]
      by_cases e2 : i + 1 ≤ a ∧ a < i + 1 + n
      · rw [if_pos e2, if_pos (show i ≤ a ∧ a < i + ((n + 1 : Nat) : Int) by omega)]; omega
      · rw [if_neg e2, if_neg (show ¬ (i ≤ a ∧ a < i + ((n + 1 : Nat) : Int)) by omega)]; omega
theorem gr_cnt {N : Nat} : ∀ (k : Nat) (g : GS), k ≤ 10 → (∀ j : Nat, j < k → g.2.2.2 (9 - j) = -1) → gvN (grF V N k g).2.2.2 10 0 = gvN g.2.2.2 10 0 + ((grF V N k g).2.1 - g.2.1) ∧ dsV (grF V N k g).2.2.2 V 10 0 = dsV g.2.2.2 V 10 0 + ((grF V N k g).2.2.1 - g.2.2.1) := by
  intro k
  induction k with
  | zero => intro g _ _; exact ⟨by show _ = _ + (g.2.1 - g.2.1); rw [Int.sub_self, Int.add_zero]; rfl, by show _ = _ + (g.2.2.1 - g.2.2.1); rw [Int.sub_self, Int.add_zero]; rfl⟩
  | succ k ih =>
    intro g hk hg
    have h1 := ih (gr1F V N k g) (by omega) (fun j hj => by
      unfold gr1F
      split
      · exact hg j (by omega)
      · dsimp only
        rw [if_neg (by omega)]
        exact hg j (by omega))
    have h2 : gvN (gr1F V N k g).2.2.2 10 0 = gvN g.2.2.2 10 0 + ((gr1F V N k g).2.1 - g.2.1) ∧ dsV (gr1F V N k g).2.2.2 V 10 0 = dsV g.2.2.2 V 10 0 + ((gr1F V N k g).2.2.1 - g.2.2.1) := by
      unfold gr1F
      split
      · exact ⟨by omega, by omega⟩
      · rename_i q
        dsimp only
        rw [gvN_upd (by rw [hg k (by omega)]; omega) (by omega), dsV_upd (by rw [hg k (by omega)]; omega) (by omega), if_pos (by omega), if_pos (by omega)]
        exact ⟨by omega, by omega⟩
    show gvN (grF V N k (gr1F V N k g)).2.2.2 10 0 = gvN g.2.2.2 10 0 + ((grF V N k (gr1F V N k g)).2.1 - g.2.1) ∧ dsV (grF V N k (gr1F V N k g)).2.2.2 V 10 0 = dsV g.2.2.2 V 10 0 + ((grF V N k (gr1F V N k g)).2.2.1 - g.2.2.1)
    omega
theorem giv_cnt : gvN (slF w) 10 0 = (givF w).2.1 ∧ dsV (slF w) (wofF w) 10 0 = (givF w).2.2.1 := by
  have h := gr_cnt (V := wofF w) (N := (sltF w (w 3)).toNat) 10 (lftF w (sltF w (w 3)).toNat 0 0, 0, 0, fun _ => -1) (by omega) (fun _ _ => rfl)
  have e1 : gvN (fun _ => -1) 10 0 = 0 := rfl
  have e2 : dsV (fun _ => -1) (wofF w) 10 0 = 0 := rfl
  dsimp only at h
  rw [e1, e2] at h
  exact ⟨by show gvN (grF (wofF w) _ 10 _).2.2.2 10 0 = (grF (wofF w) _ 10 _).2.1; omega, by show dsV (grF (wofF w) _ 10 _).2.2.2 (wofF w) 10 0 = (grF (wofF w) _ 10 _).2.2.1; omega⟩
theorem dsF_self (h : 0 ≤ slF w m) : dsF w w m = frF w (slF w m) (celF w m) ∧ 0 ≤ dsF w w m ∧ 10000 - wofF w m (slF w m) = dsF w w m := by
  have hp := slF_pl w m h
  have e : dsF w w m = frF w (slF w m) (celF w m) := by
    unfold dsF enF
    rw [if_neg (by omega), if_neg (by omega)]
  have e2 : wofF w m (slF w m) = 10000 - frF w (slF w m) (celF w m) := by
    unfold wofF
    rw [if_pos ⟨hp.1, hp.2.1, hp.2.2.1⟩, if_neg (by omega)]
  exact ⟨e, by omega, by omega⟩
theorem dsN_V : ∀ (n : Nat) (i : Int), dsN (slF w) (dsF w w) n i = dsV (slF w) (wofF w) n i := by
  intro n
  induction n with
  | zero => intro i; rfl
  | succ n ih =>
    intro i
    unfold dsN dsV
    rw [ih]
    by_cases h : 0 ≤ slF w i
    · rw [if_pos h, if_pos h, (dsF_self h).2.2]
    · rw [if_neg h, if_neg h]
theorem dsN_0 : ∀ (n : Nat) (i : Int), 0 ≤ dsN (slF w) (dsF w w) n i ∧ (dsN (slF w) (dsF w w) n i = 0 ↔ ∀ m, i ≤ m → m < i + n → 0 ≤ slF w m → dsF w w m = 0) ∧ dsN (slF w) (dsF w w) n i ≤ 1000 * n := by
  intro n
  induction n with
  | zero => intro i; exact ⟨Int.le_refl _, ⟨fun _ m m0 m1 => by omega, fun _ => rfl⟩, Int.le_refl _⟩
  | succ n ih =>
    intro i
    obtain ⟨a1, a2, a3⟩ := ih (i + 1)
    unfold dsN
    by_cases h : 0 ≤ slF w i
    · obtain ⟨b1, b2, -⟩ := dsF_self h
      have hr := dsF_rng (w0 := w) (c := celF w i) h
      rw [if_pos h]
      refine ⟨by omega, ⟨fun q m m0 m1 hm => ?_, fun q => ?_⟩, by omega⟩
      · by_cases e : m = i
        · subst e; omega
        · exact a2.mp (by omega) m (by omega) (by omega) hm
      · have := q i (by omega) (by omega) h
        have := a2.mpr (fun m m0 m1 hm => q m (by omega) (by omega) hm)
        omega
    · rw [if_neg h]
      refine ⟨by omega, ⟨fun q m m0 m1 hm => ?_, fun q => ?_⟩, by omega⟩
      · by_cases e : m = i
        · subst e; exact absurd hm h
        · exact a2.mp (by omega) m (by omega) (by omega) hm
      · have := a2.mpr (fun m m0 m1 hm => q m (by omega) (by omega) hm)
        omega
theorem pl_open (h : 0 ≤ pl0F w s) : blkF w (pl0F w s) = false := by
  unfold blkF
  rw [decide_eq_false_iff_not]
  unfold pl0F plcF at *
  by_cases e : s = ancF w (w 3)
  · rw [if_pos e] at h; omega
  · rw [if_neg e] at h ⊢
    split
    · rename_i q; rw [if_pos q] at h; omega
    · rename_i q
      rw [if_neg q] at h
      split
      · rename_i q2; exact q2.2
      · rename_i q2; rw [if_neg q2] at h; omega
theorem fr_BF (h : 0 ≤ pl0F w s) : BF (blkF w) (pl0F w s) (frF w s) := bfs_BF ⟨h, plc_lt w s⟩ (pl_open h)
theorem dsN_ok : dsN (slF w) (dsF w w) 10 0 = 0 ↔ ∀ m, 0 ≤ m → m < 10 → okF w m := by
  rw [(dsN_0 10 0).2.1]
  constructor
  · intro q m m0 m1 hs
    have := q m m0 (by omega) hs
    rw [(dsF_self hs).1] at this
    exact ((fr_BF (slF_pl w m hs).2.2.1).1 _).mp this
  · intro q m m0 m1 hs
    rw [(dsF_self hs).1]
    exact ((fr_BF (slF_pl w m hs).2.2.1).1 _).mpr (q m m0 (by omega) hs)
theorem gvN_r : ∀ (n : Nat) (i : Int), 0 ≤ gvN f n i ∧ gvN f n i ≤ n := by
  intro n
  induction n with
  | zero => intro i; exact ⟨Int.le_refl _, Int.le_refl _⟩
  | succ n ih =>
    intro i
    have := ih (i + 1)
    unfold gvN
    split <;> omega
theorem GvP.gd (h : GvP w τ u) : Gd w u := ⟨h.2.2.1, h.2.1⟩
theorem cc_isFormed (hW : HW w) (h : St w τ) : Ct kap 61 rX0_isFormed [.inr 10] τ (fun v u => GvP w τ u ∧ ((formF w ∧ some (.inl 1) = v) ∨ (¬ formF w ∧ some (.inl 0) = v))) := by
  intro d hd
  have hlr := ledF_rng w hW.1.1.2
  have h3 := hW.1.2.1
  have hld : ldO w < 0 ↔ ledF w < 0 := by unfold ldO; split <;> omega
  have hldr : rng (ldO w) := by unfold ldO; split <;> omega
  have hc := giv_cnt (w := w)
  have hgn := gvN_r (f := slF w) 10 0
  have hdn := dsN_0 (w := w) 10 0
  have hok := dsN_ok (w := w)
  refine wc_aload_n dX0_isFormed_0 rfl ?_
  refine wc_call dX0_isFormed_1 rfl (cc_gives hW h) (by omega) (hx_V (kV0_120 rfl) rfl rfl rfl rfl) ?_
  rintro _ _ ⟨rfl, hG⟩
  have hS2 := hG.1.st h
  have hA := hS2.2.2 (w 3) (by omega) (by omega)
  have e7 := hS2.1.1.2.2.2.2.2
  have hGd := hG.gd
  refine wc_aload_n dX0_isFormed_4 rfl ?_
  refine wc_getC dX0_isFormed_5 (kF0_19 rfl) rfl rfl ?_
  refine wc_getC dX0_isFormed_8 (kF0_59 rfl) rfl rfl ?_
  refine wc_aload_n dX0_isFormed_11 rfl ?_
  refine wc_getC dX0_isFormed_12 (kF0_19 rfl) rfl rfl ?_
  refine wc_getI dX0_isFormed_15 (kF0_63 rfl) rfl rfl ?_
  rw [e7]
  refine wc_aaload dX0_isFormed_18 rfl rfl rfl ⟨by omega, by omega⟩ rfl ?_
  refine wc_astore_n dX0_isFormed_19 rfl ?_
  refine wc_aload_n dX0_isFormed_20 rfl ?_
  refine wc_getC dX0_isFormed_21 (kF0_19 rfl) rfl rfl ?_
  refine wc_call dX0_isFormed_24 rfl (cc_leads hS2.1 hW.1.1 (hW.2.1 _)) (by omega) (hx_V (kV0_55 rfl) rfl rfl rfl rfl) ?_
  rintro _ _ ⟨rfl, rfl⟩
  refine wc_if dX0_isFormed_27 (cB_lt hldr ⟨by omega, by omega⟩) 34 rfl (fun c27 => ?_) (fun c27 => ?_)
  ·
    refine wc_iconst dX0_isFormed_34 ?_
    refine wc_breturn dX0_isFormed_35 rfl (by omega) ?_
    exact ⟨hG, Or.inr ⟨fun q => by have := q.1; omega, rfl⟩⟩
  ·
    refine wc_aload_n dX0_isFormed_30 rfl ?_
    refine wc_ifnonnull dX0_isFormed_31 (by by_cases q : 0 < sltF w (w 3); exact Or.inr (by rw [kd_dyn (by have := (hA.1 q).1; omega) (hA.1 q).1.2.2]; rfl); exact Or.inl (by rw [hA.2 q]; rfl)) 36 rfl (fun c31 => ?_) (fun c31 => ?_)
    ·
      have hs0 : 0 < sltF w (w 3) := Classical.byContradiction (fun q => c31 (by rw [hA.2 q]; rfl))
      have hl0 : 0 ≤ ledF w := by omega
      refine wc_aload_n dX0_isFormed_36 rfl ?_
      refine wc_call dX0_isFormed_37 rfl (cc_distances hW.1 hGd hS2.1) (by omega) (hx_V (kV0_122 rfl) rfl rfl rfl rfl) ?_
      rintro _ _ ⟨rfl, rfl⟩
      refine wc_if dX0_isFormed_40 (cB_ne (show rng _ by omega) ⟨by omega, by omega⟩) 62 rfl (fun c40 => ?_) (fun c40 => ?_)
      ·
        refine wc_iconst dX0_isFormed_62 ?_
        refine wc_breturn dX0_isFormed_63 rfl (by omega) ?_
        exact ⟨hG, Or.inr ⟨fun q => c40 (hok.mpr q.2.2), rfl⟩⟩
      ·
        refine wc_aload_n dX0_isFormed_43 rfl ?_
        refine wc_call dX0_isFormed_44 rfl (cc_given hW.1 hGd) (by omega) (hx_V (kV0_125 rfl) rfl rfl rfl rfl) ?_
        rintro _ _ ⟨rfl, rfl⟩
        refine wc_if dX0_isFormed_47 (cB_gt (show rng _ by omega) ⟨by omega, by omega⟩) 58 rfl (fun c47 => ?_) (fun c47 => ?_)
        ·
          refine wc_iconst dX0_isFormed_58 ?_
          refine wc_goto dX0_isFormed_59 63 rfl ?_
          refine wc_breturn dX0_isFormed_63 rfl (by omega) ?_
          exact ⟨hG, Or.inl ⟨⟨hl0, Or.inl (by omega), hok.mp (by omega)⟩, rfl⟩⟩
        ·
          refine wc_aload_n dX0_isFormed_50 rfl ?_
          refine wc_call dX0_isFormed_51 rfl (cc_size (kd_dyn (by have := (hA.1 hs0).1; omega) (hA.1 hs0).1.2.2) rfl (kd_dyn (by have := (hA.1 hs0).2.2.1; omega) (hA.1 hs0).2.2.1.2.2)) (by omega) (hx_V (kV0_66 rfl) rfl (kd_dyn (by have := (hA.1 hs0).1; omega) (hA.1 hs0).1.2.2) rfl rfl) ?_
          rintro _ _ ⟨rfl, rfl⟩
          refine wc_iconst dX0_isFormed_54 ?_
          refine wc_icmp dX0_isFormed_55 (cB_ne (show rng _ by have := hW.1.2.2.2.1; omega) ⟨by omega, by omega⟩) 62 rfl (fun c55 => ?_) (fun c55 => ?_)
          ·
            refine wc_iconst dX0_isFormed_62 ?_
            refine wc_breturn dX0_isFormed_63 rfl (by omega) ?_
            exact ⟨hG, Or.inr ⟨fun q => by rcases q.2.1 with r | r; omega; exact c55 (by omega), rfl⟩⟩
          ·
            refine wc_iconst dX0_isFormed_58 ?_
            refine wc_goto dX0_isFormed_59 63 rfl ?_
            refine wc_breturn dX0_isFormed_63 rfl (by omega) ?_
            exact ⟨hG, Or.inl ⟨⟨hl0, Or.inr (by omega), hok.mp (by omega)⟩, rfl⟩⟩
    ·
      refine wc_iconst dX0_isFormed_34 ?_
      refine wc_breturn dX0_isFormed_35 rfl (by omega) ?_
      refine ⟨hG, Or.inr ⟨fun q => ?_, rfl⟩⟩
      have hn0 : ¬ 0 < sltF w (w 3) := fun q2 => by have := (hA.1 q2).1.1; rw [c31] at this; omega
      have hg0 : gvN (slF w) 10 0 = 0 := by
        have hz : ∀ m, slF w m < 0 := fun m => by
          have := slF_rng w hW.1.2.2.2.1 m
          by_cases r : 0 ≤ slF w m
          · have := this.2.1 r; omega
          · omega
        have : ∀ (n : Nat) (i : Int), gvN (slF w) n i = 0 := by
          intro n
          induction n with
          | zero => intro i; rfl
          | succ n ih => intro i; unfold gvN; rw [ih, if_neg (by have := hz i; omega)]; rfl
        exact this 10 0
      rcases q.2.1 with r | r
      · exact r (hc.1.symm.trans hg0)
      · omega
end FRM
