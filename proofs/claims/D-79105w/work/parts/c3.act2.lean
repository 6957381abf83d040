/-! THE CLASS'S METHODS, 13: good cells, partners -/
set_option maxRecDepth 100000
/-- what the current row w has to do with the row w0 that gave the places: leaders, members, obstacles, reach -/
def RC (w0 w : Nat → Int) : Prop := SW w0 w ∧ ∀ m, isM w m → 0 ≤ slF w0 m → 0 ≤ frF w0 (slF w0 m) (celF w m)
section AC2
variable {w w0 : Nat → Int} {τ t u : CT} {m c v p s A T a o : Int} {d k y x n i j : Nat} {Q : Option AV → CT → Prop} {TT : Nat → Option CK}
theorem RC.led (h : RC w0 w) (h0 : w0 0 ≤ 10) : ledF w = ledF w0 := h.1.led h0
theorem RC.blk (h : RC w0 w) (hc : 0 ≤ c) : blkF w c = blkF w0 c := by
  unfold blkF
  rw [h.1.1 _ (by omega)]
theorem RC.isM (h : RC w0 w) (h0 : w0 0 ≤ 10) (m : Int) : isM w m ↔ isM w0 m := h.1.isM h0 m
/-- a reached cell's open neighbour is reached -/
theorem fr_nb {x : Int} (hp : 0 ≤ pl0F w0 s) (hx : 0 ≤ frF w0 s x) (hv : 0 ≤ v ∧ v < 4) (hy : 0 ≤ besF x v) (hb : blkF w0 (besF x v) = false) : 0 ≤ frF w0 s (besF x v) := ((fr_BF hp).2.2.1 x v hx hv.1 hv.2 hy hb).1
theorem fr_op {x : Int} (hp : 0 ≤ pl0F w0 s) (hx : 0 ≤ frF w0 s x) : blkF w0 x = false ∧ 0 ≤ x ∧ x < 120 := (fr_BF hp).2.2.2 x hx
theorem blk_f {w : Nat → Int} {c : Int} : blkF w c = false ↔ ¬ w (72 + c).toNat = 1 := by unfold blkF; rw [decide_eq_false_iff_not]
/-- a cell one nearer to the place -/
abbrev gdP (w0 w : Nat → Int) (m c : Int) : Prop := 0 ≤ c ∧ frF w0 (slF w0 m) c = frF w0 (slF w0 m) (celF w m) - 1
theorem cc_isGood (hS : WS w0) (hG : Gd w0 t) (h : Wd w t) (hI : IR w) (hR : RC w0 w) (hm : isM w m) (hs : 0 ≤ slF w0 m) (hd0 : 0 < frF w0 (slF w0 m) (celF w m)) (hc : -1 ≤ c ∧ c < 120) : Cb kap 1 rX0_isGood [.inr 10, .inr (mnC t m), .inl c] t (gdP w0 w m c) := by
  intro d hd
  have h0 := hI.1.2
  have hr := isM_le hm h0
  have hM := h.mem h0 hm
  have hk := hM.kd (T := kap)
  have hcm : 0 ≤ celF w m ∧ celF w m < 120 := ⟨hm.2, hI.2.2.2 m hr.1 hr.2⟩
  have hsn := slF_rng w0 hS.2.2.2.1 m
  have hfd := dsF_rng (w0 := w0) (m := m) (c := celF w m) hs
  have hfc := dsF_rng (w0 := w0) (m := m) (c := c) hs
  have hpl := slF_pl w0 m hs
  have hds : dsF w0 w m = frF w0 (slF w0 m) (celF w m) := by unfold dsF enF; rw [if_neg (by omega), if_neg (by omega)]
  have hen := en_rng (f := frF w0 (slF w0 m)) (i := c) (by omega)
  refine wc_iload_n dX0_isGood_0 rfl ?_
  refine wc_if dX0_isGood_1 (cB_lt (show rng _ by omega) ⟨by omega, by omega⟩) 46 rfl (fun c1 => ?_) (fun c1 => ?_)
  ·
    refine wc_iconst dX0_isGood_46 ?_
    refine wc_breturn dX0_isGood_47 rfl (by omega) ?_
    exact ⟨rfl, Or.inr ⟨fun q => by have := q.1; omega, rfl⟩⟩
  ·
    refine wc_aload_n dX0_isGood_4 rfl ?_
    refine wc_getC dX0_isGood_5 (kF0_19 rfl) rfl rfl ?_
    refine wc_getC dX0_isGood_8 (kF0_23 rfl) rfl rfl ?_
    refine wc_iload_n dX0_isGood_11 rfl ?_
    refine wc_baload dX0_isGood_12 rfl rfl rfl ⟨by omega, by omega⟩ _ rfl ?_
    rw [h.obs ⟨by omega, hc.2⟩]
    have hbo := hI.2.2.1 c (by omega) hc.2
    refine wc_if dX0_isGood_13 (cB_ne (show rng _ by omega) ⟨by omega, by omega⟩) 46 rfl (fun c13 => ?_) (fun c13 => ?_)
    ·
      refine wc_iconst dX0_isGood_46 ?_
      refine wc_breturn dX0_isGood_47 rfl (by omega) ?_
      refine ⟨rfl, Or.inr ⟨fun q => ?_, rfl⟩⟩
      have a := (fr_op hpl.2.2.1 (x := c) (by have := q.2; omega)).1
      rw [← hR.blk q.1] at a
      exact blk_f.mp a (by omega)
    ·
      refine wc_aload_n dX0_isGood_16 rfl ?_
      refine wc_getC dX0_isGood_17 (kF0_45 rfl) rfl rfl ?_
      refine wc_aload_n dX0_isGood_20 rfl ?_
      refine wc_getC dX0_isGood_21 (kF0_98 rfl) rfl rfl ?_
      refine wc_aload_n dX0_isGood_24 rfl ?_
      refine wc_getI dX0_isGood_25 (kF0_109 rfl) hk rfl ?_
      rw [hM.2.1]
      refine wc_iaload dX0_isGood_28 rfl rfl rfl ⟨by omega, by omega⟩ _ rfl ?_
      rw [hG.sl ⟨by omega, by omega⟩, gC_pos hs]
      refine wc_aaloadC dX0_isGood_29 rfl rfl rfl ⟨by omega, by omega⟩ (if_pos (by omega)) ?_
      refine wc_iload_n dX0_isGood_30 rfl ?_
      refine wc_iaload dX0_isGood_31 (kap_from (by omega)) rfl rfl ⟨by omega, by omega⟩ _ rfl ?_
      rw [hG.row hS hs ⟨by omega, hc.2⟩]
      refine wc_aload_n dX0_isGood_32 rfl ?_
      refine wc_aload_n dX0_isGood_33 rfl ?_
      refine wc_call dX0_isGood_34 rfl (cc_distanceOf hS hG h h0 hm hcm.2) (by omega) (hx_V (kV0_116 rfl) rfl rfl rfl rfl) ?_
      rintro _ _ ⟨rfl, rfl⟩
      rw [hds]
      refine wc_iconst dX0_isGood_37 ?_
      refine wc_isub dX0_isGood_38 ?_
      refine wc_icmp dX0_isGood_39 (cB_ne (show rng _ by omega) (show rng _ by omega)) 46 rfl (fun c39 => ?_) (fun c39 => ?_)
      ·
        refine wc_iconst dX0_isGood_46 ?_
        refine wc_breturn dX0_isGood_47 rfl (by omega) ?_
        refine ⟨rfl, Or.inr ⟨fun q => c39 ?_, rfl⟩⟩
        unfold enF
        rw [if_neg (by have := q.2; omega)]
        exact q.2
      ·
        refine wc_iconst dX0_isGood_42 ?_
        refine wc_goto dX0_isGood_43 47 rfl ?_
        refine wc_breturn dX0_isGood_47 rfl (by omega) ?_
        refine ⟨rfl, Or.inl ⟨⟨by omega, ?_⟩, rfl⟩⟩
        have e : enF (frF w0 (slF w0 m)) c = frF w0 (slF w0 m) (celF w m) - 1 := Classical.not_not.mp c39
        unfold enF at e
        split at e <;> omega
theorem stp_iff {F : Int → Int} {dd : Int} : stpF F w m dd v = true ↔ (0 ≤ besF (celF w m) v ∧ F (besF (celF w m) v) = dd - 1) ∧ onF w (besF (celF w m) v) < 0 := by
  unfold stpF
  rw [decide_eq_true_eq]
  exact ⟨fun q => ⟨⟨q.1, q.2.1⟩, q.2.2⟩, fun q => ⟨q.1.1, q.1.2, q.2⟩⟩
abbrev stpW (w0 w : Nat → Int) (m : Int) : Int → Bool := stpF (frF w0 (slF w0 m)) w m (frF w0 (slF w0 m) (celF w m))
theorem cc_freeFor_loop (hS : WS w0) (hG : Gd w0 t) (h : Wd w t) (hI : IR w) (hR : RC w0 w) (hm : isM w m) (hs : 0 ≤ slF w0 m) (hd0 : 0 < frF w0 (slF w0 m) (celF w m)) (hd : 3 ≤ d) : ∀ (n : Nat) (i : Int) (o3 : Option AV), i + n = 4 → 0 ≤ i → fstI (stpW w0 w m) n i = wayF (stpW w0 w m) → Wc kap d rX0_freeFor 2 [some (.inr 10), some (.inr (mnC t m)), some (.inl i), o3] [] t (nQ (fun v u => some (.inl (wcF w m (stpW w0 w m))) = v ∧ t = u)) := by
  have h0 := hI.1.2
  have hr := isM_le hm h0
  have hM := h.mem h0 hm
  have hk := hM.kd (T := kap)
  have hc : 0 ≤ celF w m ∧ celF w m < 120 := ⟨hm.2, hI.2.2.2 m hr.1 hr.2⟩
  have hpl := slF_pl w0 m hs
  intro n
  induction n with
  | zero =>
    intro i o3 hi i0 hf
    refine wc_iload_n dX0_freeFor_2 rfl ?_
    refine wc_iconst dX0_freeFor_3 ?_
    refine wc_icmp dX0_freeFor_4 (cB_ge ⟨by omega, by omega⟩ ⟨by omega, by omega⟩) 44 rfl (fun c4 => ?_) (fun c4 => ?_)
    ·
      refine wc_iconst dX0_freeFor_44 ?_
      refine wc_ireturn dX0_freeFor_45 rfl ?_
      refine ⟨?_, rfl⟩
      unfold wcF
      rw [← hf]
      rfl
    ·
      omega
  | succ n ih =>
    intro i o3 hi i0 hf
    have hbs := besF_rng (celF w m) i
    have hno : stpW w0 w m i = false → ∀ o3, Wc kap d rX0_freeFor 2 [some (.inr 10), some (.inr (mnC t m)), some (.inl (i + 1)), o3] [] t (nQ (fun v u => some (.inl (wcF w m (stpW w0 w m))) = v ∧ t = u)) := fun q o3 => ih (i + 1) o3 (by omega) (by omega) ((fstI_skip q).symm.trans hf)
    refine wc_iload_n dX0_freeFor_2 rfl ?_
    refine wc_iconst dX0_freeFor_3 ?_
    refine wc_icmp dX0_freeFor_4 (cB_ge ⟨by omega, by omega⟩ ⟨by omega, by omega⟩) 44 rfl (fun c4 => ?_) (fun c4 => ?_)
    ·
      omega
    ·
      refine wc_aload_n dX0_freeFor_7 rfl ?_
      refine wc_getI dX0_freeFor_8 (kF0_49 rfl) hk rfl ?_
      rw [hM.2.2.1]
      refine wc_iload_n dX0_freeFor_11 rfl ?_
      refine wc_call dX0_freeFor_12 rfl (cc_neighbor hc ⟨i0, by omega⟩) (by omega) (hx_S (kS0_32 rfl) (kSn0_32 rfl) rfl rfl) ?_
      rintro _ _ ⟨rfl, rfl⟩
      refine wc_istore_n dX0_freeFor_15 rfl ?_
      refine wc_aload_n dX0_freeFor_16 rfl ?_
      refine wc_aload_n dX0_freeFor_17 rfl ?_
      refine wc_iload_n dX0_freeFor_18 rfl ?_
      refine wc_call dX0_freeFor_19 rfl (cc_isGood hS hG h hI hR hm hs hd0 hbs) (by omega) (hx_V (kV0_158 rfl) rfl rfl rfl rfl) ?_
      rintro _ _ ⟨rfl, ⟨h19, rfl⟩ | ⟨h19, rfl⟩⟩
      ·
        refine wc_ifF dX0_freeFor_22 (by decide) 38 rfl ?_
        refine wc_aload_n dX0_freeFor_25 rfl ?_
        refine wc_getC dX0_freeFor_26 (kF0_19 rfl) rfl rfl ?_
        refine wc_iload_n dX0_freeFor_29 rfl ?_
        refine wc_call dX0_freeFor_30 rfl (cc_isFree h hI.2.2.1 ⟨h19.1, hbs.2⟩) (by omega) (hx_V (kV0_162 rfl) rfl rfl rfl rfl) ?_
        rintro _ _ ⟨rfl, ⟨h30, rfl⟩ | ⟨h30, rfl⟩⟩
        ·
          refine wc_ifF dX0_freeFor_33 (by decide) 38 rfl ?_
          refine wc_iload_n dX0_freeFor_36 rfl ?_
          refine wc_ireturn dX0_freeFor_37 rfl ?_
          have hy : stpW w0 w m i = true := stp_iff.mpr ⟨h19, h30.2⟩
          have hw : wayF (stpW w0 w m) = i := hf.symm.trans (fstI_hit hy)
          refine ⟨?_, rfl⟩
          unfold wcF
          rw [hw, if_pos i0]
        ·
          refine wc_ifT dX0_freeFor_33 (by decide) 38 rfl ?_
          refine wc_iinc dX0_freeFor_38 rfl ?_
          refine wc_goto dX0_freeFor_41 2 rfl ?_
          exact hno (by
            rcases hq : stpW w0 w m i with _ | _
            · rfl
            · refine absurd ⟨?_, (stp_iff.mp hq).2⟩ h30
              have a := (fr_op hpl.2.2.1 (x := besF (celF w m) i) (by have := h19.2; omega)).1
              rw [← hR.blk h19.1] at a
              exact blk_f.mp a) _
      ·
        refine wc_ifT dX0_freeFor_22 (by decide) 38 rfl ?_
        refine wc_iinc dX0_freeFor_38 rfl ?_
        refine wc_goto dX0_freeFor_41 2 rfl ?_
        exact hno (by rcases hq : stpW w0 w m i with _ | _; rfl; exact absurd (stp_iff.mp hq).1 h19) _
theorem cc_freeFor (hS : WS w0) (hG : Gd w0 t) (h : Wd w t) (hI : IR w) (hR : RC w0 w) (hm : isM w m) (hs : 0 ≤ slF w0 m) (hd0 : 0 < frF w0 (slF w0 m) (celF w m)) : Cf kap 3 rX0_freeFor [.inr 10, .inr (mnC t m)] t (some (.inl (wcF w m (stpW w0 w m)))) t := by
  intro d hd
  refine wc_iconst dX0_freeFor_0 ?_
  refine wc_istore_n dX0_freeFor_1 rfl ?_
  exact cc_freeFor_loop hS hG h hI hR hm hs hd0 hd 4 0 _ (by omega) (by omega) rfl
theorem cc_gains (hS : WS w0) (hG : Gd w0 t) (h : Wd w t) (hI : IR w) (hR : RC w0 w) (hr1 : rng (w 1)) (hm : isM w m) (ho : isM w o) (hnb : 0 ≤ slF w0 o → 0 ≤ frF w0 (slF w0 o) (celF w m)) : Cb kap 3 rX0_gains [.inr 10, .inr (mnC t m), .inr (mnC t o)] t (mexF (slF w0) (frF w0) w o (celF w o) (celF w m)) := by
  intro d hd
  have h0 := hI.1.2
  have hr := isM_le hm h0
  have hro := isM_le ho h0
  have hM := h.mem h0 hm
  have hk := hM.kd (T := kap)
  have hO := h.mem h0 ho
  have hko := hO.kd (T := kap)
  have hcm : 0 ≤ celF w m ∧ celF w m < 120 := ⟨hm.2, hI.2.2.2 m hr.1 hr.2⟩
  have hco : 0 ≤ celF w o ∧ celF w o < 120 := ⟨ho.2, hI.2.2.2 o hro.1 hro.2⟩
  have hg := gC_r (m := o) hS
  have hgn := gC_neg (x := slF w0 o)
  have hlr := ledF_rng w h0
  have hle := led_ex h0 ho
  have hldr : ldO w = ledF w := by unfold ldO; rw [if_neg (by omega)]
  have hsn := slF_rng w0 hS.2.2.2.1 o
  refine wc_aload_n dX0_gains_0 rfl ?_
  refine wc_getI dX0_gains_1 (kF0_109 rfl) hko rfl ?_
  rw [hO.2.1]
  refine wc_aload_n dX0_gains_4 rfl ?_
  refine wc_getC dX0_gains_5 (kF0_19 rfl) rfl rfl ?_
  refine wc_call dX0_gains_8 rfl (cc_leads h hI.1 hr1) (by omega) (hx_V (kV0_55 rfl) rfl rfl rfl rfl) ?_
  rintro _ _ ⟨rfl, rfl⟩
  rw [hldr]
  refine wc_icmp dX0_gains_11 (cB_eq (show rng _ by omega) (show rng _ by omega)) 57 rfl (fun c11 => ?_) (fun c11 => ?_)
  ·
    refine wc_iconst dX0_gains_57 ?_
    refine wc_breturn dX0_gains_58 rfl (by omega) ?_
    exact ⟨rfl, Or.inr ⟨fun q => q.1 c11, rfl⟩⟩
  ·
    refine wc_aload_n dX0_gains_14 rfl ?_
    refine wc_getC dX0_gains_15 (kF0_98 rfl) rfl rfl ?_
    refine wc_aload_n dX0_gains_18 rfl ?_
    refine wc_getI dX0_gains_19 (kF0_109 rfl) hko rfl ?_
    rw [hO.2.1]
    refine wc_iaload dX0_gains_22 rfl rfl rfl ⟨by omega, by omega⟩ _ rfl ?_
    rw [hG.sl ⟨by omega, by omega⟩]
    refine wc_if dX0_gains_23 (cB_lt (show rng _ by omega) ⟨by omega, by omega⟩) 57 rfl (fun c23 => ?_) (fun c23 => ?_)
    ·
      refine wc_iconst dX0_gains_57 ?_
      refine wc_breturn dX0_gains_58 rfl (by omega) ?_
      exact ⟨rfl, Or.inr ⟨fun q => by have := q.2.1; omega, rfl⟩⟩
    ·
      refine wc_aload_n dX0_gains_26 rfl ?_
      refine wc_aload_n dX0_gains_27 rfl ?_
      have hso : 0 ≤ slF w0 o := by omega
      have hfo := hR.2 o ho hso
      have hfm := hnb hso
      have hf1 := dsF_rng (w0 := w0) (m := o) (c := celF w o) hso
      have hf2 := dsF_rng (w0 := w0) (m := o) (c := celF w m) hso
      have hds : dsF w0 w o = frF w0 (slF w0 o) (celF w o) := by unfold dsF enF; rw [if_neg (by omega), if_neg (by omega)]
      refine wc_call dX0_gains_28 rfl (cc_distanceOf hS hG h h0 ho hco.2) (by omega) (hx_V (kV0_116 rfl) rfl rfl rfl rfl) ?_
      rintro _ _ ⟨rfl, rfl⟩
      refine wc_aload_n dX0_gains_31 rfl ?_
      refine wc_getC dX0_gains_32 (kF0_45 rfl) rfl rfl ?_
      refine wc_aload_n dX0_gains_35 rfl ?_
      refine wc_getC dX0_gains_36 (kF0_98 rfl) rfl rfl ?_
      refine wc_aload_n dX0_gains_39 rfl ?_
      refine wc_getI dX0_gains_40 (kF0_109 rfl) hko rfl ?_
      rw [hO.2.1]
      refine wc_iaload dX0_gains_43 rfl rfl rfl ⟨by omega, by omega⟩ _ rfl ?_
      rw [hG.sl ⟨by omega, by omega⟩, gC_pos hso]
      refine wc_aaloadC dX0_gains_44 rfl rfl rfl ⟨by omega, by omega⟩ (if_pos (by omega)) ?_
      refine wc_aload_n dX0_gains_45 rfl ?_
      refine wc_getI dX0_gains_46 (kF0_49 rfl) hk rfl ?_
      rw [hM.2.2.1]
      refine wc_iaload dX0_gains_49 (kap_from (by omega)) rfl rfl ⟨by omega, by omega⟩ _ rfl ?_
      rw [hG.row hS hso hcm, hds, show enF (frF w0 (slF w0 o)) (celF w m) = frF w0 (slF w0 o) (celF w m) by unfold enF; rw [if_neg (by omega)]]
      refine wc_icmp dX0_gains_50 (cB_le (show rng _ by omega) (show rng _ by omega)) 57 rfl (fun c50 => ?_) (fun c50 => ?_)
      ·
        refine wc_iconst dX0_gains_57 ?_
        refine wc_breturn dX0_gains_58 rfl (by omega) ?_
        exact ⟨rfl, Or.inr ⟨fun q => by have := q.2.2; omega, rfl⟩⟩
      ·
        refine wc_iconst dX0_gains_53 ?_
        refine wc_goto dX0_gains_54 58 rfl ?_
        refine wc_breturn dX0_gains_58 rfl (by omega) ?_
        exact ⟨rfl, Or.inl ⟨⟨c11, hso, by omega⟩, rfl⟩⟩
end AC2
