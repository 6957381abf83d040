/-! THE CLASS'S METHODS, 11: distances of members, how many are given, the sum -/
set_option maxRecDepth 100000
/-- how many have a slot, the sum over them -/
def gvN (f : Int → Int) : Nat → Int → Int
  | 0, _ => 0
  | n + 1, i => (if 0 ≤ f i then 1 else 0) + gvN f n (i + 1)
def dsN (f D : Int → Int) : Nat → Int → Int
  | 0, _ => 0
  | n + 1, i => (if 0 ≤ f i then D i else 0) + dsN f D n (i + 1)
/-- the places given by the row w0 stand -/
def Gd (w0 : Nat → Int) (t : CT) : Prop := SlR (slF w0) t ∧ PLs w0 t
/-- a member's distance from its place -/
def dsF (w0 w : Nat → Int) (m : Int) : Int := if slF w0 m < 0 then -5 else enF (frF w0 (slF w0 m)) (celF w m)
section FORM
variable {w w0 : Nat → Int} {τ t u : CT} {m c v p s A T : Int} {d k y x n : Nat} {Q : Option AV → CT → Prop} {g : GS} {TT : Nat → Option CK}
theorem sl_nC (hS : WS w0) (h : 0 ≤ slF w0 m) : slF w0 m < nC w0 ∧ nC w0 ≤ 10 := by
  have h1 := slF_pl w0 m h
  have h2 := led_ex hS.1.2 h1.1
  have h3 := (slF_rng w0 hS.2.2.2.1 m).2.1 h
  refine ⟨?_, nC_le hS⟩
  unfold nC
  rw [if_neg (by omega)]
  exact h3
theorem Gd.sl (h : Gd w0 t) (hm : 0 ≤ m ∧ m < 10) : sg t 15 m.toNat = gC (slF w0 m) := h.1 m hm.1 hm.2
theorem gC_r (hS : WS w0) : -5 ≤ gC (slF w0 m) ∧ gC (slF w0 m) ≤ 9 := by
  have := slF_rng w0 hS.2.2.2.1 m
  unfold gC
  split <;> omega
theorem gC_neg {x : Int} : gC x < 0 ↔ x < 0 := by
  unfold gC
  split <;> omega
theorem gC_pos {x : Int} (h : 0 ≤ x) : gC x = x := by
  unfold gC
  rw [if_neg (by omega)]
theorem Gd.row (hS : WS w0) (h : Gd w0 t) (h0 : 0 ≤ slF w0 m) (hx : 0 ≤ c ∧ c < 120) : sg t (40 + (slF w0 m).toNat) c.toNat = enF (frF w0 (slF w0 m)) c := (h.2.1 _ h0 (sl_nC hS h0).1).2 (slF_pl w0 m h0).2.2.1 c hx.1 hx.2
theorem dsF_rng (h0 : 0 ≤ slF w0 m) : -1 ≤ frF w0 (slF w0 m) c ∧ frF w0 (slF w0 m) c < 120 := fr_rng (slF_pl w0 m h0).2.2.1
theorem dsF_r : -5 ≤ dsF w0 w m ∧ dsF w0 w m ≤ 16777216 := by
  unfold dsF
  split
  · omega
  · have := dsF_rng (w0 := w0) (m := m) (c := celF w m) (by omega)
    have := en_rng (f := frF w0 (slF w0 m)) (i := celF w m) (by omega)
    omega
theorem cc_distanceOf (hS : WS w0) (h : Gd w0 t) (hw : Wd w t) (h0 : w 0 ≤ 10) (hm : isM w m) (hc : celF w m < 120) : Cf kap 0 rX0_distanceOf [.inr 10, .inr (mnC t m)] t (some (.inl (dsF w0 w m))) t := by
  intro d hd
  have hr := isM_le hm h0
  have hM := hw.mem h0 hm
  have hkm := hM.kd (T := kap)
  have e0 := hM.2.1
  have hg := gC_r (m := m) hS
  have hcm : 0 ≤ celF w m := hm.2
  have hsl := slF_rng w0 hS.2.2.2.1 m
  refine wc_aload_n dX0_distanceOf_0 rfl ?_
  refine wc_getC dX0_distanceOf_1 (kF0_98 rfl) rfl rfl ?_
  refine wc_aload_n dX0_distanceOf_4 rfl ?_
  refine wc_getI dX0_distanceOf_5 (kF0_109 rfl) hkm rfl ?_
  rw [e0]
  refine wc_iaload dX0_distanceOf_8 rfl rfl rfl ⟨by omega, by omega⟩ _ rfl ?_
  rw [h.sl ⟨by omega, by omega⟩]
  refine wc_if dX0_distanceOf_9 (cB_ge (show rng _ by omega) ⟨by omega, by omega⟩) 17 rfl (fun c9 => ?_) (fun c9 => ?_)
  ·
    refine wc_aload_n dX0_distanceOf_17 rfl ?_
    refine wc_getC dX0_distanceOf_18 (kF0_45 rfl) rfl rfl ?_
    refine wc_aload_n dX0_distanceOf_21 rfl ?_
    refine wc_getC dX0_distanceOf_22 (kF0_98 rfl) rfl rfl ?_
    refine wc_aload_n dX0_distanceOf_25 rfl ?_
    refine wc_getI dX0_distanceOf_26 (kF0_109 rfl) hkm rfl ?_
    rw [e0]
    refine wc_iaload dX0_distanceOf_29 rfl rfl rfl ⟨by omega, by omega⟩ _ rfl ?_
    rw [h.sl ⟨by omega, by omega⟩]
    have hp : 0 ≤ slF w0 m := by
      have := gC_neg (x := slF w0 m)
      omega
    rw [gC_pos hp]
    refine wc_aaloadC dX0_distanceOf_30 rfl rfl rfl ⟨by omega, by omega⟩ (if_pos (by omega)) ?_
    refine wc_aload_n dX0_distanceOf_31 rfl ?_
    refine wc_getI dX0_distanceOf_32 (kF0_49 rfl) hkm rfl ?_
    rw [hM.2.2.1]
    refine wc_iaload dX0_distanceOf_35 (kap_from (by omega)) rfl rfl ⟨hcm, by omega⟩ _ rfl ?_
    rw [h.row hS hp ⟨hcm, hc⟩]
    refine wc_ireturn dX0_distanceOf_36 rfl ?_
    refine ⟨?_, rfl⟩
    unfold dsF
    rw [if_neg (by omega)]
  ·
    refine wc_bipush dX0_distanceOf_12 (by decide) ?_
    refine wc_goto dX0_distanceOf_14 36 rfl ?_
    refine wc_ireturn dX0_distanceOf_36 rfl ?_
    refine ⟨?_, rfl⟩
    unfold dsF
    rw [if_pos (gC_neg.mp (by omega))]
theorem cc_placeOf (hS : WS w0) (h : Gd w0 t) (hw : Wd w t) (h0 : w 0 ≤ 10) (hm : isM w m) : Cf kap 0 rX0_placeOf [.inr 10, .inr (mnC t m)] t (some (.inl (if slF w0 m < 0 then -5 else pl0F w0 (slF w0 m)))) t := by
  intro d hd
  have hr := isM_le hm h0
  have hM := hw.mem h0 hm
  have hkm := hM.kd (T := kap)
  have e0 := hM.2.1
  have hg := gC_r (m := m) hS
  have hsl := slF_rng w0 hS.2.2.2.1 m
  refine wc_aload_n dX0_placeOf_0 rfl ?_
  refine wc_getC dX0_placeOf_1 (kF0_98 rfl) rfl rfl ?_
  refine wc_aload_n dX0_placeOf_4 rfl ?_
  refine wc_getI dX0_placeOf_5 (kF0_109 rfl) hkm rfl ?_
  rw [e0]
  refine wc_iaload dX0_placeOf_8 rfl rfl rfl ⟨by omega, by omega⟩ _ rfl ?_
  rw [h.sl ⟨by omega, by omega⟩]
  refine wc_if dX0_placeOf_9 (cB_ge (show rng _ by omega) ⟨by omega, by omega⟩) 17 rfl (fun c9 => ?_) (fun c9 => ?_)
  ·
    refine wc_aload_n dX0_placeOf_17 rfl ?_
    refine wc_getC dX0_placeOf_18 (kF0_42 rfl) rfl rfl ?_
    refine wc_aload_n dX0_placeOf_21 rfl ?_
    refine wc_getC dX0_placeOf_22 (kF0_98 rfl) rfl rfl ?_
    refine wc_aload_n dX0_placeOf_25 rfl ?_
    refine wc_getI dX0_placeOf_26 (kF0_109 rfl) hkm rfl ?_
    rw [e0]
    refine wc_iaload dX0_placeOf_29 rfl rfl rfl ⟨by omega, by omega⟩ _ rfl ?_
    rw [h.sl ⟨by omega, by omega⟩]
    have hp : 0 ≤ slF w0 m := by
      have := gC_neg (x := slF w0 m)
      omega
    rw [gC_pos hp]
    refine wc_iaload dX0_placeOf_30 rfl rfl rfl ⟨by omega, by omega⟩ _ rfl ?_
    rw [(h.2.1 _ hp (sl_nC hS hp).1).1]
    refine wc_ireturn dX0_placeOf_31 rfl ?_
    exact ⟨by rw [if_neg (by omega)], rfl⟩
  ·
    refine wc_bipush dX0_placeOf_12 (by decide) ?_
    refine wc_goto dX0_placeOf_14 31 rfl ?_
    refine wc_ireturn dX0_placeOf_31 rfl ?_
    exact ⟨by rw [if_pos (gC_neg.mp (by omega))], rfl⟩
theorem cc_given_loop (hS : WS w0) (h : Gd w0 t) : ∀ (n : Nat) (i a : Int), i + n = 10 → 0 ≤ i → 1 ≤ d → Wc kap d rX0_given 4 [some (.inr 10), some (.inl a), some (.inl i)] [] t (nQ (fun v u => some (.inl (a + gvN (slF w0) n i)) = v ∧ t = u)) := by
  intro n
  induction n with
  | zero =>
    intro i a hi h0 hd
    refine wc_iload_n dX0_given_4 rfl ?_
    refine wc_bipush dX0_given_5 (by decide) ?_
    refine wc_icmp dX0_given_7 (cB_ge ⟨by omega, by omega⟩ ⟨by omega, by omega⟩) 36 rfl (fun c7 => ?_) (fun c7 => ?_)
    ·
      refine wc_iload_n dX0_given_36 rfl ?_
      refine wc_ireturn dX0_given_37 rfl ?_
      exact ⟨by simp [gvN], rfl⟩
    ·
      omega
  | succ n ih =>
    intro i a hi h0 hd
    have hg := gC_r (m := i) hS
    have hn := gC_neg (x := slF w0 i)
    refine wc_iload_n dX0_given_4 rfl ?_
    refine wc_bipush dX0_given_5 (by decide) ?_
    refine wc_icmp dX0_given_7 (cB_ge ⟨by omega, by omega⟩ ⟨by omega, by omega⟩) 36 rfl (fun c7 => ?_) (fun c7 => ?_)
    ·
      omega
    ·
      refine wc_iload_n dX0_given_10 rfl ?_
      refine wc_aload_n dX0_given_11 rfl ?_
      refine wc_getC dX0_given_12 (kF0_98 rfl) rfl rfl ?_
      refine wc_iload_n dX0_given_15 rfl ?_
      refine wc_iaload dX0_given_16 rfl rfl rfl ⟨by omega, by omega⟩ _ rfl ?_
      rw [h.sl ⟨by omega, by omega⟩]
      refine wc_if dX0_given_17 (cB_lt (show rng _ by omega) ⟨by omega, by omega⟩) 24 rfl (fun c17 => ?_) (fun c17 => ?_)
      ·
        refine wc_iconst dX0_given_24 ?_
        refine wc_call dX0_given_25 rfl (cc_bit (Or.inl rfl)) (by omega) (hx_S (kS0_112 rfl) (kSn0_112 rfl) rfl rfl) ?_
        rintro _ _ ⟨rfl, rfl⟩
        refine wc_iadd dX0_given_28 ?_
        refine wc_istore_n dX0_given_29 rfl ?_
        refine wc_iinc dX0_given_30 rfl ?_
        refine wc_goto dX0_given_33 4 rfl ?_
        refine (ih _ _ (by omega) (by omega) hd).mn (fun v u q => ⟨?_, q.2⟩)
        rw [← q.1, gvN, if_neg (by omega), Int.add_assoc]
      ·
        refine wc_iconst dX0_given_20 ?_
        refine wc_goto dX0_given_21 25 rfl ?_
        refine wc_call dX0_given_25 rfl (cc_bit (Or.inr rfl)) (by omega) (hx_S (kS0_112 rfl) (kSn0_112 rfl) rfl rfl) ?_
        rintro _ _ ⟨rfl, rfl⟩
        refine wc_iadd dX0_given_28 ?_
        refine wc_istore_n dX0_given_29 rfl ?_
        refine wc_iinc dX0_given_30 rfl ?_
        refine wc_goto dX0_given_33 4 rfl ?_
        refine (ih _ _ (by omega) (by omega) hd).mn (fun v u q => ⟨?_, q.2⟩)
        rw [← q.1, gvN, if_pos (by omega), Int.add_assoc]
theorem cc_given (hS : WS w0) (h : Gd w0 t) : Cf kap 1 rX0_given [.inr 10] t (some (.inl (gvN (slF w0) 10 0))) t := by
  intro d hd
  refine wc_iconst dX0_given_0 ?_
  refine wc_istore_n dX0_given_1 rfl ?_
  refine wc_iconst dX0_given_2 ?_
  refine wc_istore_n dX0_given_3 rfl ?_
  refine (cc_given_loop hS h 10 0 0 (by omega) (by omega) hd).mn (fun v u q => ⟨?_, q.2⟩)
  rw [← q.1, Int.zero_add]
/-- the sum of the distances, in the row that gave the places -/
theorem cc_distances_loop (hS : WS w0) (h : Gd w0 t) (hw : Wd w0 t) : ∀ (n : Nat) (i a : Int), i + n = 10 → 0 ≤ i → 1 ≤ d → Wc kap d rX0_distances 4 [some (.inr 10), some (.inl a), some (.inl i)] [] t (nQ (fun v u => some (.inl (a + dsN (slF w0) (dsF w0 w0) n i)) = v ∧ t = u)) := by
  intro n
  induction n with
  | zero =>
    intro i a hi h0 hd
    refine wc_iload_n dX0_distances_4 rfl ?_
    refine wc_bipush dX0_distances_5 (by decide) ?_
    refine wc_icmp dX0_distances_7 (cB_ge ⟨by omega, by omega⟩ ⟨by omega, by omega⟩) 45 rfl (fun c7 => ?_) (fun c7 => ?_)
    ·
      refine wc_iload_n dX0_distances_45 rfl ?_
      refine wc_ireturn dX0_distances_46 rfl ?_
      exact ⟨by simp [dsN], rfl⟩
    ·
      omega
  | succ n ih =>
    intro i a hi h0 hd
    have hg := gC_r (m := i) hS
    have hn := gC_neg (x := slF w0 i)
    refine wc_iload_n dX0_distances_4 rfl ?_
    refine wc_bipush dX0_distances_5 (by decide) ?_
    refine wc_icmp dX0_distances_7 (cB_ge ⟨by omega, by omega⟩ ⟨by omega, by omega⟩) 45 rfl (fun c7 => ?_) (fun c7 => ?_)
    ·
      omega
    ·
      refine wc_iload_n dX0_distances_10 rfl ?_
      refine wc_aload_n dX0_distances_11 rfl ?_
      refine wc_getC dX0_distances_12 (kF0_98 rfl) rfl rfl ?_
      refine wc_iload_n dX0_distances_15 rfl ?_
      refine wc_iaload dX0_distances_16 rfl rfl rfl ⟨by omega, by omega⟩ _ rfl ?_
      rw [h.sl ⟨by omega, by omega⟩]
      refine wc_if dX0_distances_17 (cB_lt (show rng _ by omega) ⟨by omega, by omega⟩) 36 rfl (fun c17 => ?_) (fun c17 => ?_)
      ·
        refine wc_iconst dX0_distances_36 ?_
        refine wc_iadd dX0_distances_37 ?_
        refine wc_istore_n dX0_distances_38 rfl ?_
        refine wc_iinc dX0_distances_39 rfl ?_
        refine wc_goto dX0_distances_42 4 rfl ?_
        refine (ih _ _ (by omega) (by omega) hd).mn (fun v u q => ⟨?_, q.2⟩)
        rw [← q.1, dsN, if_neg (by omega), Int.add_assoc]
      ·
        refine wc_aload_n dX0_distances_20 rfl ?_
        refine wc_aload_n dX0_distances_21 rfl ?_
        refine wc_getC dX0_distances_22 (kF0_19 rfl) rfl rfl ?_
        refine wc_getC dX0_distances_25 (kF0_80 rfl) rfl rfl ?_
        refine wc_iload_n dX0_distances_28 rfl ?_
        refine wc_aaload dX0_distances_29 rfl rfl rfl ⟨by omega, by omega⟩ rfl ?_
        refine wc_call dX0_distances_30 rfl (cc_distanceOf hS h hw hS.1.2 (slF_pl w0 i (by omega)).1 (hS.2.2.1 i h0 (by omega)).2) (by omega) (hx_V (kV0_116 rfl) rfl rfl rfl rfl) ?_
        rintro _ _ ⟨rfl, rfl⟩
        refine wc_goto dX0_distances_33 37 rfl ?_
        refine wc_iadd dX0_distances_37 ?_
        refine wc_istore_n dX0_distances_38 rfl ?_
        refine wc_iinc dX0_distances_39 rfl ?_
        refine wc_goto dX0_distances_42 4 rfl ?_
        refine (ih _ _ (by omega) (by omega) hd).mn (fun v u q => ⟨?_, q.2⟩)
        rw [← q.1, dsN, if_pos (by omega), Int.add_assoc]
theorem cc_distances (hS : WS w0) (h : Gd w0 t) (hw : Wd w0 t) : Cf kap 1 rX0_distances [.inr 10] t (some (.inl (dsN (slF w0) (dsF w0 w0) 10 0))) t := by
  intro d hd
  refine wc_iconst dX0_distances_0 ?_
  refine wc_istore_n dX0_distances_1 rfl ?_
  refine wc_iconst dX0_distances_2 ?_
  refine wc_istore_n dX0_distances_3 rfl ?_
  refine (cc_distances_loop hS h hw 10 0 0 (by omega) (by omega) hd).mn (fun v u q => ⟨?_, q.2⟩)
  rw [← q.1, Int.zero_add]
end FORM
