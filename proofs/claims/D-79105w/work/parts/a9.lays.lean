/-! THE CLASS'S METHODS, 3: distances -/
set_option maxRecDepth 100000
def enF (f : Int → Int) (i : Int) : Int := if f i < 0 then 16777216 else f i
/-- a row of distances t and the queue -/
def flC (τ : CT) (t : Nat) (F : Int → Int) (q : Nat → Int) : CT := (τ.1, τ.2.1, fun a i => if a = t ∧ (i : Int) < 120 then F i else if a = 11 then q i else τ.2.2 a i)
section FLC
variable {τ : CT} {t : Nat} {F : Int → Int} {q : Nat → Int} {x v c z : Int} {w : Nat → Int}
theorem flC_id : flC τ t (fun i => sg τ t i.toNat) (sg τ 11) = τ := by
  unfold flC sg
  refine Prod.ext rfl (Prod.ext rfl (funext fun a => funext fun i => ?_))
  dsimp only
  split
  · rename_i h; rw [h.1, Int.toNat_natCast]
  · split
    · rename_i h; rw [h]
    · rfl
theorem flC_f (hx : 0 ≤ x ∧ x < 120) : sg (flC τ t F q) t x.toNat = F x := by
  unfold flC sg
  dsimp only
  rw [if_pos ⟨rfl, by omega⟩, Int.toNat_of_nonneg hx.1]
theorem flC_q (ht : t ≠ 11) (i : Nat) : sg (flC τ t F q) 11 i = q i := by
  unfold flC sg
  dsimp only
  rw [if_neg (by omega), if_pos rfl]
theorem flC_o {a : Nat} (h1 : a ≠ t) (h2 : a ≠ 11) : sg (flC τ t F q) a = sg τ a := by
  unfold flC sg
  funext i
  dsimp only
  rw [if_neg (by omega), if_neg h2]
theorem flC_sf (hx : 0 ≤ x ∧ x < 120) : stC (flC τ t F q) t x.toNat v = flC τ t (fun i => if i = x then v else F i) q := by
  unfold stC flC
  refine Prod.ext rfl (Prod.ext rfl (funext fun a => funext fun i => ?_))
  dsimp only
  by_cases h : a = t ∧ i = x.toNat
  · rw [if_pos h, if_pos ⟨h.1, by omega⟩, if_pos (by omega)]
  · rw [if_neg h]
    by_cases h2 : a = t ∧ (i : Int) < 120
    · rw [if_pos h2, if_pos h2, if_neg (by omega)]
    · rw [if_neg h2, if_neg h2]
theorem flC_sq {i : Nat} (ht : t ≠ 11) : stC (flC τ t F q) 11 i v = flC τ t F (fun j => if j = i then v else q j) := by
  unfold stC flC
  refine Prod.ext rfl (Prod.ext rfl (funext fun a => funext fun j => ?_))
  dsimp only
  by_cases h : a = 11
  · subst h
    by_cases hj : j = i
    · rw [if_pos ⟨rfl, hj⟩, if_neg (by omega), if_pos rfl, if_pos hj]
    · rw [if_neg (by omega), if_neg (by omega), if_pos rfl, if_neg (by omega), if_pos rfl, if_neg hj]
  · rw [if_neg (by omega), if_neg h, if_neg h]
theorem flC_congr {G : Int → Int} (h : ∀ i, 0 ≤ i → i < 120 → F i = G i) : flC τ t F q = flC τ t G q := by
  unfold flC
  refine Prod.ext rfl (Prod.ext rfl (funext fun a => funext fun i => ?_))
  dsimp only
  split
  · rename_i hi; exact h _ (by omega) hi.2
  · rfl
theorem flC_kd {T : Nat → Option CK} {y : Nat} : kd T (flC τ t F q) y = kd T τ y := rfl
theorem flC_fr (ht : t < 100 ∧ t ≠ 11 ∧ t ≠ 10 ∧ t ≠ 17 ∧ t ≠ 18 ∧ t ≠ 19 ∧ t ≠ 20 ∧ t ≠ 21 ∧ t ≠ 22) : FrS τ (flC τ t F q) := ⟨⟨rfl, Nat.le_refl _⟩, fun v hv => flC_o (by omega) (by omega), fun j _ _ => by rw [flC_o (by omega) (by omega)], fun y y1 y2 => ⟨rfl, fun _ => flC_o (by omega) (by omega)⟩, flC_o (by omega) (by omega), fun y y1 y2 => ⟨rfl, flC_o (by omega) (by omega)⟩⟩
/-- the rows of distances -/
abbrev dstN (t : Nat) : Prop := t = 16 ∨ (40 ≤ t ∧ t < 50)
theorem dst_kd {T : Nat} (h : dstN t) : kd kap τ t = some (ckI 0 120) := by
  rcases h with rfl | h
  · rfl
  · have := kap_from (τ := τ) (i := t - 40) (by omega)
    rw [show 40 + (t - 40) = t by omega] at this
    exact this
theorem en_far {f : Int → Int} {i : Int} (h : f i < 1000) : enF f i = 16777216 ↔ f i < 0 := by
  unfold enF
  split <;> omega
theorem en_rng {f : Int → Int} {i : Int} (h : -1 ≤ f i ∧ f i < 1000) : 0 ≤ enF f i ∧ enF f i ≤ 16777216 := by
  unfold enF
  split <;> omega
theorem enF_upd {f : Int → Int} {x y : Int} (h : 0 ≤ f y) : (fun i => if i = x then enF f y + 1 else enF f i) = enF (fun i => if i = x then f y + 1 else f i) := by
  funext i
  unfold enF
  by_cases hi : i = x
  · simp only [if_pos hi]
    rw [if_neg (by omega), if_neg (by omega)]
  · simp only [if_neg hi]
variable {d : Nat} {Q : Option AV → CT → Prop}
theorem cc_lays_19 (ht : dstN t) {o4 o5 o6 : Option AV} {q : Nat → Int} : ∀ (n : Nat) (k : Int) (F : Int → Int), k + n = 120 → 0 ≤ k → Wc kap d rX0_lays 19 [some (.inr 10), some (.inl c), some (.inr t), some (.inl 120), o4, o5, o6] [] (flC τ t (fun i => if k ≤ i then 16777216 else F i) q) (nQ Q) → Wc kap d rX0_lays 2 [some (.inr 10), some (.inl c), some (.inr t), some (.inl k), o4, o5, o6] [] (flC τ t F q) (nQ Q) := by
  intro n
  induction n with
  | zero =>
    intro k F hk h0 K
    refine wc_iload_n dX0_lays_2 rfl ?_
    refine wc_bipush dX0_lays_3 (by decide) ?_
    refine wc_icmp dX0_lays_5 (cB_ge ⟨by omega, by omega⟩ ⟨by omega, by omega⟩) 19 rfl (fun c5 => ?_) (fun c5 => ?_)
    ·
      have e : k = 120 := by omega
      subst e
      rw [flC_congr (G := F) (fun i h1 h2 => if_neg (by omega))] at K
      exact K
    ·
      omega
  | succ n ih =>
    intro k F hk h0 K
    have hkd : kd kap (flC τ t F q) t = some (ckI 0 120) := dst_kd (T := 0) ht
    refine wc_iload_n dX0_lays_2 rfl ?_
    refine wc_bipush dX0_lays_3 (by decide) ?_
    refine wc_icmp dX0_lays_5 (cB_ge ⟨by omega, by omega⟩ ⟨by omega, by omega⟩) 19 rfl (fun c5 => ?_) (fun c5 => ?_)
    ·
      omega
    ·
      refine wc_aload_n dX0_lays_8 rfl ?_
      refine wc_iload_n dX0_lays_9 rfl ?_
      refine wc_ldcN 16777216 dX0_lays_10 (kK0_18 rfl) (by decide) ?_
      refine wc_iastore dX0_lays_12 hkd ⟨by omega, by omega⟩ rfl ⟨by omega, by omega⟩ _ rfl ?_
      refine wc_iinc dX0_lays_13 rfl ?_
      refine wc_goto dX0_lays_16 2 rfl ?_
      rw [flC_sf ⟨by omega, by omega⟩]
      refine ih (k + 1) _ (by omega) (by omega) ?_
      rw [flC_congr (G := fun i => if k ≤ i then 16777216 else F i) (fun i h1 h2 => by by_cases e1 : i = k <;> by_cases e2 : k + 1 ≤ i <;> by_cases e3 : k ≤ i <;> simp [e1, e2, e3] <;> omega)]
      exact K
/-- the loop over the four ways -/
theorem cc_lays_57 (ht : dstN t) (hw : Wd w τ) (hb : BitO w) (hd : 3 ≤ d) {k c0 : Int} : ∀ (n : Nat) (v : Int) (s : BS) (q : Nat → Int) (o6 : Option AV), v + n = 4 → 0 ≤ v → BI s → 0 ≤ k ∧ k < s.2.2 → s.2.1 k = c → (∀ i, 0 ≤ i → i < s.2.2 → q i.toNat = s.2.1 i) →
    (∀ (s' : BS) (q' : Nat → Int) (o : Option AV), s' = bct (blkF w) c n v s → BI s' → s.2.2 ≤ s'.2.2 → (∀ i, i < s.2.2 → s'.2.1 i = s.2.1 i) → (∀ i, 0 ≤ i → i < s'.2.2 → q' i.toNat = s'.2.1 i) → Wc kap d rX0_lays 136 [some (.inr 10), some (.inl c0), some (.inr t), some (.inl s'.2.2), some (.inl k), some (.inl 4), o] [] (flC τ t (enF s'.1) q') (nQ Q)) →
    Wc kap d rX0_lays 57 [some (.inr 10), some (.inl c0), some (.inr t), some (.inl s.2.2), some (.inl k), some (.inl v), o6] [] (flC τ t (enF s.1) q) (nQ Q) := by
  intro n
  induction n with
  | zero =>
    intro v s q o6 hv h0 hI hk hc hq K
    have e : v = 4 := by omega
    subst e
    refine wc_iload dX0_lays_57 rfl ?_
    refine wc_iconst dX0_lays_59 ?_
    refine wc_icmp dX0_lays_60 (cB_ge ⟨by omega, by omega⟩ ⟨by omega, by omega⟩) 136 rfl (fun c60 => ?_) (fun c60 => ?_)
    ·
      exact K s q o6 rfl hI (Int.le_refl _) (fun _ _ => rfl) hq
    ·
      omega
  | succ n ih =>
    intro v s q o6 hv h0 hI hk hc hq K
    have hcr := (hI.2.1 k hk.1 hk.2).1
    rw [hc] at hcr
    have hbs := besF_rng c v
    have hst := bst_BI (blk := blkF w) (c := c) (v := v) hI hk hc
    have hle := hI.le
    have hle2 := hst.1.le
    have hqk : q k.toNat = c := (hq k hk.1 hk.2).trans hc
    have ht11 : t ≠ 11 := by omega
    have hkd : ∀ F q, kd kap (flC τ t F q) t = some (ckI 0 120) := fun F q => dst_kd (T := 0) ht
    have hfb := hI.f (besF c v)
    have hfc := hI.f c
    have hskip : bst (blkF w) c v s = s → ∀ o, Wc kap d rX0_lays 57 [some (.inr 10), some (.inl c0), some (.inr t), some (.inl s.2.2), some (.inl k), some (.inl (v + 1)), o] [] (flC τ t (enF s.1) q) (nQ Q) := fun he o => ih (v + 1) s q o (by omega) (by omega) hI hk hc hq (fun s' q' o' h1 h2 h3 h4 h5 => K s' q' o' (by rw [h1, bct, he]) h2 h3 h4 h5)
    refine wc_iload dX0_lays_57 rfl ?_
    refine wc_iconst dX0_lays_59 ?_
    refine wc_icmp dX0_lays_60 (cB_ge ⟨by omega, by omega⟩ ⟨by omega, by omega⟩) 136 rfl (fun c60 => ?_) (fun c60 => ?_)
    ·
      omega
    ·
      refine wc_aload_n dX0_lays_63 rfl ?_
      refine wc_getC dX0_lays_64 (kF0_29 rfl) rfl rfl ?_
      refine wc_iload dX0_lays_67 rfl ?_
      refine wc_iaload dX0_lays_69 rfl rfl rfl ⟨by omega, by omega⟩ _ rfl ?_
      rw [flC_q ht11, hqk]
      refine wc_iload dX0_lays_70 rfl ?_
      refine wc_call dX0_lays_72 rfl (cc_neighbor hcr (by omega)) (by omega) (hx_S (kS0_32 rfl) (kSn0_32 rfl) rfl rfl) ?_
      rintro _ _ ⟨rfl, rfl⟩
      refine wc_istore dX0_lays_75 rfl ?_
      refine wc_iload dX0_lays_77 rfl ?_
      refine wc_if dX0_lays_79 (cB_lt (show rng _ by omega) ⟨by omega, by omega⟩) 130 rfl (fun c79 => ?_) (fun c79 => ?_)
      ·
        refine wc_iinc dX0_lays_130 rfl ?_
        refine wc_goto dX0_lays_133 57 rfl ?_
        exact hskip (by unfold bst; rw [if_pos (Or.inl c79)]) _
      ·
        refine wc_aload_n dX0_lays_82 rfl ?_
        refine wc_getC dX0_lays_83 (kF0_19 rfl) rfl rfl ?_
        refine wc_getC dX0_lays_86 (kF0_23 rfl) rfl rfl ?_
        refine wc_iload dX0_lays_89 rfl ?_
        refine wc_baload dX0_lays_91 rfl rfl rfl ⟨by omega, by omega⟩ _ rfl ?_
        rw [flC_o (by omega) (by omega), hw.obs ⟨by omega, hbs.2⟩]
        refine wc_if dX0_lays_92 (cB_ne (show rng _ by rcases hb (besF c v) (by omega) hbs.2 with e | e <;> rw [e] <;> omega) ⟨by omega, by omega⟩) 130 rfl (fun c92 => ?_) (fun c92 => ?_)
        ·
          refine wc_iinc dX0_lays_130 rfl ?_
          refine wc_goto dX0_lays_133 57 rfl ?_
          exact hskip (by unfold bst; rw [if_pos (Or.inr (Or.inl (by unfold blkF; rw [decide_eq_true_eq]; rcases hb (besF c v) (by omega) hbs.2 with e | e; exact absurd e c92; exact e)))]) _
        ·
          refine wc_aload_n dX0_lays_95 rfl ?_
          refine wc_iload dX0_lays_96 rfl ?_
          refine wc_iaload dX0_lays_98 (hkd _ _) rfl rfl ⟨by omega, by omega⟩ _ rfl ?_
          rw [flC_f ⟨by omega, hbs.2⟩]
          refine wc_ldcN 16777216 dX0_lays_99 (kK0_18 rfl) (by decide) ?_
          refine wc_icmp dX0_lays_101 (cB_ne (show rng _ by have := en_rng (f := s.1) (i := besF c v) (by omega); omega) (by decide)) 130 rfl (fun c101 => ?_) (fun c101 => ?_)
          ·
            refine wc_iinc dX0_lays_130 rfl ?_
            refine wc_goto dX0_lays_133 57 rfl ?_
            exact hskip (by unfold bst; rw [if_pos (Or.inr (Or.inr (by have := mt (en_far (f := s.1) (i := besF c v) (by omega)).mpr c101; omega)))]) _
          ·
            refine wc_aload_n dX0_lays_104 rfl ?_
            refine wc_iload dX0_lays_105 rfl ?_
            refine wc_aload_n dX0_lays_107 rfl ?_
            refine wc_aload_n dX0_lays_108 rfl ?_
            refine wc_getC dX0_lays_109 (kF0_29 rfl) rfl rfl ?_
            refine wc_iload dX0_lays_112 rfl ?_
            refine wc_iaload dX0_lays_114 rfl rfl rfl ⟨by omega, by omega⟩ _ rfl ?_
            rw [flC_q ht11, hqk]
            refine wc_iaload dX0_lays_115 (hkd _ _) rfl rfl ⟨by omega, by omega⟩ _ rfl ?_
            rw [flC_f hcr]
            refine wc_iconst dX0_lays_116 ?_
            refine wc_iadd dX0_lays_117 ?_
            have hfar : s.1 (besF c v) < 0 := (en_far (by omega)).mp (Classical.not_not.mp c101)
            have hbl : ¬ blkF w (besF c v) = true := fun h => by have := of_decide_eq_true h; omega
            have he : bst (blkF w) c v s = (fun i => if i = besF c v then s.1 c + 1 else s.1 i, fun i => if i = s.2.2 then besF c v else s.2.1 i, s.2.2 + 1) := by
              unfold bst
              rw [if_neg (fun q => by rcases q with q | q | q; exact c79 q; exact hbl q; omega)]
            rw [he] at hst hle2
            dsimp only at hle2
            refine wc_iastore dX0_lays_118 (hkd _ _) ⟨by omega, by omega⟩ rfl ⟨by omega, by omega⟩ _ rfl ?_
            refine wc_aload_n dX0_lays_119 rfl ?_
            refine wc_getC dX0_lays_120 (kF0_29 rfl) rfl rfl ?_
            refine wc_iload_n dX0_lays_123 rfl ?_
            refine wc_iload dX0_lays_124 rfl ?_
            refine wc_iastore dX0_lays_126 rfl ⟨by decide, Or.inl (by decide)⟩ rfl ⟨by omega, by omega⟩ _ rfl ?_
            rw [flC_sf ⟨by omega, hbs.2⟩, flC_sq ht11]
            refine wc_iinc dX0_lays_127 rfl ?_
            refine wc_iinc dX0_lays_130 rfl ?_
            refine wc_goto dX0_lays_133 57 rfl ?_
            have hc0 := (hI.2.1 k hk.1 hk.2).2.1
            rw [hc] at hc0
            have ef := enF_upd (f := s.1) (x := besF c v) (y := c) hc0
            rw [ef]
            exact ih (v + 1) (fun i => if i = besF c v then s.1 c + 1 else s.1 i, fun i => if i = s.2.2 then besF c v else s.2.1 i, s.2.2 + 1) _ _ (by omega) (by omega) hst.1 ⟨hk.1, by dsimp only; omega⟩ (by rw [hst.2.2 k hk.2]; exact hc) (fun i i0 i1 => by
              dsimp only at i1 ⊢
              by_cases hi : i = s.2.2
              · rw [if_pos hi, if_pos (by omega)]
              · rw [if_neg hi, if_neg (by omega)]
                exact hq i i0 (by omega)) (fun s' q' o' h1 h2 h3 h4 h5 => K s' q' o' (by rw [h1, bct, he]) h2 (by dsimp only at h3; omega) (fun i hi => by rw [h4 i (by dsimp only; omega)]; dsimp only; rw [if_neg (by omega)]) h5)
/-- the loop over the queue -/
theorem cc_lays_48 (ht : dstN t) (hw : Wd w τ) (hb : BitO w) (hd : 3 ≤ d) {c0 : Int} : ∀ (n : Nat) (k : Int) (s : BS) (q : Nat → Int) (o5 o6 : Option AV), k + n = 120 → 0 ≤ k → BI s → (∀ i, 0 ≤ i → i < s.2.2 → q i.toNat = s.2.1 i) →
    (∀ (q' : Nat → Int), Q none (flC τ t (enF (blp (blkF w) n k s).1) q')) →
    Wc kap d rX0_lays 48 [some (.inr 10), some (.inl c0), some (.inr t), some (.inl s.2.2), some (.inl k), o5, o6] [] (flC τ t (enF s.1) q) (nQ Q) := by
  intro n
  induction n with
  | zero =>
    intro k s q o5 o6 hk h0 hI hq K
    have hle := hI.le
    have hge := hI.1
    refine wc_iload dX0_lays_48 rfl ?_
    refine wc_iload_n dX0_lays_50 rfl ?_
    refine wc_icmp dX0_lays_51 (cB_ge ⟨by omega, by omega⟩ ⟨by omega, by omega⟩) 142 rfl (fun c51 => ?_) (fun c51 => ?_)
    ·
      refine wc_vreturn dX0_lays_142 rfl ?_
      exact K q
    ·
      omega
  | succ n ih =>
    intro k s q o5 o6 hk h0 hI hq K
    have hle := hI.le
    have hge := hI.1
    refine wc_iload dX0_lays_48 rfl ?_
    refine wc_iload_n dX0_lays_50 rfl ?_
    refine wc_icmp dX0_lays_51 (cB_ge ⟨by omega, by omega⟩ ⟨by omega, by omega⟩) 142 rfl (fun c51 => ?_) (fun c51 => ?_)
    ·
      refine wc_vreturn dX0_lays_142 rfl ?_
      have := K q
      rw [blp, if_neg (by omega)] at this
      exact this
    ·
      refine wc_iconst dX0_lays_54 ?_
      refine wc_istore dX0_lays_55 rfl ?_
      refine cc_lays_57 ht hw hb hd 4 0 s q _ (by omega) (by omega) hI ⟨h0, by omega⟩ rfl hq (fun s' q' o h1 h2 h3 h4 h5 => ?_)
      refine wc_iinc dX0_lays_136 rfl ?_
      refine wc_goto dX0_lays_139 48 rfl ?_
      exact ih (k + 1) s' q' _ _ (by omega) (by omega) h2 h5 (fun q2 => by have := K q2; rw [blp, if_pos (by omega), ← h1] at this; exact this)
theorem cc_lays (ht : dstN t) (hw : Wd w τ) (hb : BitO w) (hc : 0 ≤ c ∧ c < 120) : Ct kap 3 rX0_lays [.inr 10, .inl c, .inr t] τ (fun v u => none = v ∧ ∃ q, u = flC τ t (enF (bfsF (blkF w) c)) q) := by
  intro d hd
  have hkd : ∀ F q, kd kap (flC τ t F q) t = some (ckI 0 120) := fun F q => dst_kd (T := 0) ht
  have ht11 : t ≠ 11 := by omega
  have hbc := hb c hc.1 hc.2
  refine wc_iconst dX0_lays_0 ?_
  refine wc_istore_n dX0_lays_1 rfl ?_
  rw [← flC_id (τ := τ) (t := t)]
  refine cc_lays_19 ht 120 0 _ (by omega) (by omega) ?_
  rw [flC_congr (G := fun _ => 16777216) (fun i h1 h2 => if_pos h1), flC_id (τ := τ) (t := t)]
  refine wc_aload_n dX0_lays_19 rfl ?_
  refine wc_getC dX0_lays_20 (kF0_19 rfl) rfl rfl ?_
  refine wc_getC dX0_lays_23 (kF0_23 rfl) rfl rfl ?_
  refine wc_iload_n dX0_lays_26 rfl ?_
  refine wc_baload dX0_lays_27 rfl rfl rfl ⟨by omega, by omega⟩ _ rfl ?_
  rw [flC_o (by omega) (by omega), hw.obs hc]
  refine wc_if dX0_lays_28 (cB_eq (show rng _ by omega) ⟨by omega, by omega⟩) 32 rfl (fun c28 => ?_) (fun c28 => ?_)
  ·
    refine wc_aload_n dX0_lays_32 rfl ?_
    refine wc_iload_n dX0_lays_33 rfl ?_
    refine wc_iconst dX0_lays_34 ?_
    refine wc_iastore dX0_lays_35 (hkd _ _) ⟨by omega, by omega⟩ rfl ⟨by omega, by omega⟩ _ rfl ?_
    rw [flC_sf hc]
    refine wc_aload_n dX0_lays_36 rfl ?_
    refine wc_getC dX0_lays_37 (kF0_29 rfl) rfl rfl ?_
    refine wc_iconst dX0_lays_40 ?_
    refine wc_iload_n dX0_lays_41 rfl ?_
    refine wc_iastore dX0_lays_42 rfl ⟨by decide, Or.inl (by decide)⟩ rfl ⟨by omega, by omega⟩ _ rfl ?_
    rw [flC_sq ht11]
    refine wc_iconst dX0_lays_43 ?_
    refine wc_istore_n dX0_lays_44 rfl ?_
    refine wc_iconst dX0_lays_45 ?_
    refine wc_istore dX0_lays_46 rfl ?_
    have hnb : ¬ blkF w c = true := fun h => by have := of_decide_eq_true h; omega
    have ef : (fun i => if i = c then (0 : Int) else 16777216) = enF (b0F c).1 := by
      funext i
      unfold enF b0F
      by_cases hi : i = c
      · simp [hi]
      · simp [hi]
    rw [ef]
    exact cc_lays_48 ht hw hb hd 120 0 (b0F c) _ _ _ (by omega) (by omega) (b0_BI hc) (fun i i0 i1 => by have i1 : i < 1 := i1; rw [if_pos (by omega)]; rfl) (fun q' => ⟨rfl, q', by rw [bfsF, if_neg hnb]⟩)
  ·
    refine wc_vreturn dX0_lays_31 rfl ?_
    exact ⟨rfl, _, by rw [bfsF, if_pos (by unfold blkF; rw [decide_eq_true_eq]; omega)]; rfl⟩
end FLC
