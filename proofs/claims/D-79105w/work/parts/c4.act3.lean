/-! THE CLASS'S METHODS, 14: a member acts -/
set_option maxRecDepth 100000
/-- rows as lists of changes -/
def upL (w : Nat → Int) : List (Nat × Int) → (Nat → Int)
  | [] => w
  | q :: r => updW (upL w r) q.1 q.2
section AC3
variable {w w0 : Nat → Int} {τ t u : CT} {m c v p s A T a o : Int} {d k y x n i j : Nat} {Q : Option AV → CT → Prop} {TT : Nat → Option CK}
abbrev excW0 (w0 w : Nat → Int) (m : Int) : Int → Bool := excF (slF w0) (frF w0) (frF w0 (slF w0 m)) w m (frF w0 (slF w0 m) (celF w m))
theorem exc_iff : excW0 w0 w m v = true ↔ gdP w0 w m (besF (celF w m) v) ∧ 0 ≤ onF w (besF (celF w m) v) ∧ mexF (slF w0) (frF w0) w (onF w (besF (celF w m) v)) (besF (celF w m) v) (celF w m) := by
  unfold excW0 excF
  rw [decide_eq_true_eq]
  exact ⟨fun q => ⟨⟨q.1, q.2.1⟩, q.2.2.1, q.2.2.2⟩, fun q => ⟨q.1.1, q.1.2, q.2.1, q.2.2⟩⟩
/-- the partner's cell -/
def ptC (w0 w : Nat → Int) (t : CT) (m : Int) : Nat := if 0 ≤ wayF (excW0 w0 w m) then mnC t (onF w (besF (celF w m) (wayF (excW0 w0 w m)))) else 0
theorem cc_partnerOf_loop (hS : WS w0) (hG : Gd w0 t) (h : Wd w t) (hI : IR w) (hR : RC w0 w) (hr1 : rng (w 1)) (hm : isM w m) (hs : 0 ≤ slF w0 m) (hd0 : 0 < frF w0 (slF w0 m) (celF w m)) (hd : 4 ≤ d) : ∀ (n : Nat) (i : Int) (o3 : Option AV), i + n = 4 → 0 ≤ i → fstI (excW0 w0 w m) n i = wayF (excW0 w0 w m) → Wc kap d rX0_partnerOf 2 [some (.inr 10), some (.inr (mnC t m)), some (.inl i), o3] [] t (nQ (fun v u => some (.inr (ptC w0 w t m)) = v ∧ t = u)) := by
  have h0 := hI.1.2
  have hr := isM_le hm h0
  have hM := h.mem h0 hm
  have hk := hM.kd (T := kap)
  have hc : 0 ≤ celF w m ∧ celF w m < 120 := ⟨hm.2, hI.2.2.2 m hr.1 hr.2⟩
  have hpl := slF_pl w0 m hs
  intro n
  induction n with
  | zero =>
    intro i o3 hi i0 hf
    refine wc_iload_n dX0_partnerOf_2 rfl ?_
    refine wc_iconst dX0_partnerOf_3 ?_
    refine wc_icmp dX0_partnerOf_4 (cB_ge ⟨by omega, by omega⟩ ⟨by omega, by omega⟩) 86 rfl (fun c4 => ?_) (fun c4 => ?_)
    ·
      refine wc_null dX0_partnerOf_86 ?_
      refine wc_areturn dX0_partnerOf_87 rfl ?_
      refine ⟨?_, rfl⟩
      unfold ptC
      rw [← hf]
      rfl
    ·
      omega
  | succ n ih =>
    intro i o3 hi i0 hf
    have hbs := besF_rng (celF w m) i
    have hon := onF_rng w (besF (celF w m) i)
    have hno : excW0 w0 w m i = false → ∀ o3, Wc kap d rX0_partnerOf 2 [some (.inr 10), some (.inr (mnC t m)), some (.inl (i + 1)), o3] [] t (nQ (fun v u => some (.inr (ptC w0 w t m)) = v ∧ t = u)) := fun q o3 => ih (i + 1) o3 (by omega) (by omega) ((fstI_skip q).symm.trans hf)
    have hnb : gdP w0 w m (besF (celF w m) i) → ∀ o, isM w o → celF w o = besF (celF w m) i → 0 ≤ slF w0 o → 0 ≤ frF w0 (slF w0 o) (celF w m) := fun hg o ho hco hso => by
      have hfo := hR.2 o ho hso
      rw [hco] at hfo
      obtain ⟨v', hv', e⟩ := bes_back hc ⟨i0, by omega⟩ rfl hg.1
      have := fr_nb (w0 := w0) (slF_pl w0 o hso).2.2.1 hfo hv' (by rw [e]; exact hc.1) (by rw [e]; exact (fr_op hpl.2.2.1 (by omega)).1)
      rw [e] at this
      exact this
    refine wc_iload_n dX0_partnerOf_2 rfl ?_
    refine wc_iconst dX0_partnerOf_3 ?_
    refine wc_icmp dX0_partnerOf_4 (cB_ge ⟨by omega, by omega⟩ ⟨by omega, by omega⟩) 86 rfl (fun c4 => ?_) (fun c4 => ?_)
    ·
      omega
    ·
      refine wc_aload_n dX0_partnerOf_7 rfl ?_
      refine wc_getI dX0_partnerOf_8 (kF0_49 rfl) hk rfl ?_
      rw [hM.2.2.1]
      refine wc_iload_n dX0_partnerOf_11 rfl ?_
      refine wc_call dX0_partnerOf_12 rfl (cc_neighbor hc ⟨i0, by omega⟩) (by omega) (hx_S (kS0_32 rfl) (kSn0_32 rfl) rfl rfl) ?_
      rintro _ _ ⟨rfl, rfl⟩
      refine wc_istore_n dX0_partnerOf_15 rfl ?_
      refine wc_aload_n dX0_partnerOf_16 rfl ?_
      refine wc_aload_n dX0_partnerOf_17 rfl ?_
      refine wc_iload_n dX0_partnerOf_18 rfl ?_
      refine wc_call dX0_partnerOf_19 rfl (cc_isGood hS hG h hI hR hm hs hd0 hbs) (by omega) (hx_V (kV0_158 rfl) rfl rfl rfl rfl) ?_
      rintro _ _ ⟨rfl, ⟨h19, rfl⟩ | ⟨h19, rfl⟩⟩
      ·
        refine wc_ifF dX0_partnerOf_22 (by decide) 80 rfl ?_
        refine wc_aload_n dX0_partnerOf_25 rfl ?_
        refine wc_getC dX0_partnerOf_26 (kF0_19 rfl) rfl rfl ?_
        refine wc_getC dX0_partnerOf_29 (kF0_150 rfl) rfl rfl ?_
        refine wc_iload_n dX0_partnerOf_32 rfl ?_
        refine wc_iaload dX0_partnerOf_33 rfl rfl rfl ⟨h19.1, by omega⟩ _ rfl ?_
        rw [h.at ⟨h19.1, hbs.2⟩]
        refine wc_if dX0_partnerOf_34 (cB_lt (show rng _ by omega) ⟨by omega, by omega⟩) 80 rfl (fun c34 => ?_) (fun c34 => ?_)
        ·
          refine wc_iinc dX0_partnerOf_80 rfl ?_
          refine wc_goto dX0_partnerOf_83 2 rfl ?_
          exact hno (by rcases hq : excW0 w0 w m i with _ | _; rfl; have := (exc_iff.mp hq).2.1; omega) _
        ·
          refine wc_aload_n dX0_partnerOf_37 rfl ?_
          refine wc_aload_n dX0_partnerOf_38 rfl ?_
          refine wc_aload_n dX0_partnerOf_39 rfl ?_
          refine wc_getC dX0_partnerOf_40 (kF0_19 rfl) rfl rfl ?_
          refine wc_getC dX0_partnerOf_43 (kF0_80 rfl) rfl rfl ?_
          refine wc_aload_n dX0_partnerOf_46 rfl ?_
          refine wc_getC dX0_partnerOf_47 (kF0_19 rfl) rfl rfl ?_
          refine wc_getC dX0_partnerOf_50 (kF0_150 rfl) rfl rfl ?_
          refine wc_iload_n dX0_partnerOf_53 rfl ?_
          refine wc_iaload dX0_partnerOf_54 rfl rfl rfl ⟨h19.1, by omega⟩ _ rfl ?_
          rw [h.at ⟨h19.1, hbs.2⟩]
          have ho := (hon.2.2 (by omega)).1
          have hco : celF w (onF w (besF (celF w m) i)) = besF (celF w m) i := (hon.2.2 (by omega)).2
          refine wc_aaload dX0_partnerOf_55 rfl rfl rfl ⟨by omega, by omega⟩ rfl ?_
          refine wc_call dX0_partnerOf_56 rfl (cc_gains hS hG h hI hR hr1 hm ho (hnb h19 _ ho hco)) (by omega) (hx_V (kV0_166 rfl) rfl rfl rfl rfl) ?_
          rintro _ _ ⟨rfl, ⟨h56, rfl⟩ | ⟨h56, rfl⟩⟩
          ·
            refine wc_ifF dX0_partnerOf_59 (by decide) 80 rfl ?_
            refine wc_aload_n dX0_partnerOf_62 rfl ?_
            refine wc_getC dX0_partnerOf_63 (kF0_19 rfl) rfl rfl ?_
            refine wc_getC dX0_partnerOf_66 (kF0_80 rfl) rfl rfl ?_
            refine wc_aload_n dX0_partnerOf_69 rfl ?_
            refine wc_getC dX0_partnerOf_70 (kF0_19 rfl) rfl rfl ?_
            refine wc_getC dX0_partnerOf_73 (kF0_150 rfl) rfl rfl ?_
            refine wc_iload_n dX0_partnerOf_76 rfl ?_
            refine wc_iaload dX0_partnerOf_77 rfl rfl rfl ⟨h19.1, by omega⟩ _ rfl ?_
            rw [h.at ⟨h19.1, hbs.2⟩]
            refine wc_aaload dX0_partnerOf_78 rfl rfl rfl ⟨by omega, by omega⟩ rfl ?_
            refine wc_areturn dX0_partnerOf_79 rfl ?_
            have hy : excW0 w0 w m i = true := exc_iff.mpr ⟨h19, by omega, by rw [hco] at h56; exact h56⟩
            have hw : wayF (excW0 w0 w m) = i := hf.symm.trans (fstI_hit hy)
            refine ⟨?_, rfl⟩
            unfold ptC
            rw [hw, if_pos i0]
          ·
            refine wc_ifT dX0_partnerOf_59 (by decide) 80 rfl ?_
            refine wc_iinc dX0_partnerOf_80 rfl ?_
            refine wc_goto dX0_partnerOf_83 2 rfl ?_
            exact hno (by
              rcases hq : excW0 w0 w m i with _ | _
              · rfl
              · rw [hco] at h56
                exact absurd (exc_iff.mp hq).2.2 h56) _
      ·
        refine wc_ifT dX0_partnerOf_22 (by decide) 80 rfl ?_
        refine wc_iinc dX0_partnerOf_80 rfl ?_
        refine wc_goto dX0_partnerOf_83 2 rfl ?_
        exact hno (by rcases hq : excW0 w0 w m i with _ | _; rfl; exact absurd (exc_iff.mp hq).1 h19) _
theorem cc_partnerOf (hS : WS w0) (hG : Gd w0 t) (h : Wd w t) (hI : IR w) (hR : RC w0 w) (hr1 : rng (w 1)) (hm : isM w m) (hs : 0 ≤ slF w0 m) (hd0 : 0 < frF w0 (slF w0 m) (celF w m)) : Cf kap 4 rX0_partnerOf [.inr 10, .inr (mnC t m)] t (some (.inr (ptC w0 w t m))) t := by
  intro d hd
  refine wc_iconst dX0_partnerOf_0 ?_
  refine wc_istore_n dX0_partnerOf_1 rfl ?_
  exact cc_partnerOf_loop hS hG h hI hR hr1 hm hs hd0 hd 4 0 _ (by omega) (by omega) rfl
theorem asd_upd (h0 : w 0 ≤ 10) (hm : 0 ≤ m ∧ m ≤ 9) {i : Nat} (hi : i ≠ 0 ∧ ∀ m : Int, 0 ≤ m → m ≤ 9 → i ≠ (12 + 6 * m + 0).toNat) (hb : i < 72) : wcF (updW w i v) m (asdF (updW w i v) m) = wcF w m (asdF w m) := by
  have e : asdF (updW w i v) m = asdF w m := by
    funext c
    unfold asdF
    rw [celF_upd hi.2 hm, onF_upd h0 hi]
    rw [decide_eq_decide]
    constructor
    · intro q; exact ⟨q.1, by have := q.2.1; rw [upd_ne (by omega)] at this; exact this, q.2.2⟩
    · intro q; exact ⟨q.1, by rw [upd_ne (by omega)]; exact q.2.1, q.2.2⟩
  unfold wcF
  rw [e, celF_upd hi.2 hm]
theorem goes_run (hm : 0 ≤ m) : goesF (updW w (12 + 6 * m + 1).toNat a) m c = goesF w m c := by
  rw [goes_alt hm, goes_alt hm]
  unfold celW
  rw [upd_ne (by omega), upd_comm (i := (12 + 6 * m + 1).toNat) (by omega), upd_comm (i := (12 + 6 * m + 1).toNat) (j := (12 + 6 * m + 2).toNat) (by omega), upd_same]
theorem asd_at (h : 0 ≤ wayF (asdF w m)) : 0 ≤ besF (celF w m) (wayF (asdF w m)) ∧ ¬ w (72 + besF (celF w m) (wayF (asdF w m))).toNat = 1 ∧ onF w (besF (celF w m) (wayF (asdF w m))) < 0 := by
  rcases fstI_rng (asdF w m) 4 0 (by omega) with e | ⟨-, -, e, -⟩
  · unfold wayF at h; omega
  · exact of_decide_eq_true e
theorem cc_waitsOrGoes (h : Wd w t) (hI : IR w) (hb : bdW 2000000000 w) (hm : isM w m) : Ct kap 4 rX0_waitsOrGoes [.inr 10, .inr (mnC t m)] t (fun v u => ∃ (r : Int) (w2 : Nat → Int), some (.inl r) = v ∧ FrA t u ∧ Wd w2 u ∧ (w2 0 ≤ 10 ∧ isM w2 m) ∧ updW w2 (12 + 6 * m + 5).toNat r = if 2 ≤ w (12 + 6 * m + 1).toNat ∧ 0 ≤ wayF (asdF w m) then asideW w m (besF (celF w m) (wayF (asdF w m))) else waitW w m) := by
  intro d hd
  have h0 := hI.1.2
  have hr := isM_le hm h0
  have hM := h.mem h0 hm
  have hk := hM.kd (T := kap)
  have hw := h.wr h0 hm
  have hbr := hb (12 + 6 * m + 1).toNat
  have hW1 := h.fld (j := 3) (p := 1) (v := w (12 + 6 * m + 1).toNat + 1) (Or.inr (Or.inl ⟨rfl, rfl⟩)) h0 hm
  have hF1 := FrA.sM (t := t) (m := m) (j := 3) (v := w (12 + 6 * m + 1).toNat + 1) ⟨hr.1, by omega⟩ hM.1.1
  have hmn1 := hF1.mn m
  have h01 : updW w (12 + 6 * m + 1).toNat (w (12 + 6 * m + 1).toNat + 1) 0 ≤ 10 := by rw [upd_ne (by omega)]; exact h0
  have hm1 := (isM_upd (v := w (12 + 6 * m + 1).toNat + 1) h0 (fldI hr (p := 1) (by omega)) m).mpr hm
  have hI1 := hI.upd (v := w (12 + 6 * m + 1).toNat + 1) (fldI hr (p := 1) (by omega)) (Or.inl (by omega))
  have haw := asd_upd (v := w (12 + 6 * m + 1).toNat + 1) h0 hr (fldI hr (p := 1) (by omega)) (by omega)
  have hM1 := hW1.mem h01 hm1
  rw [hmn1] at hM1
  have hwa : ¬ (2 ≤ w (12 + 6 * m + 1).toNat ∧ 0 ≤ wayF (asdF w m)) → Wc kap d rX0_waitsOrGoes 53 [some (.inr 10), some (.inr (mnC t m)), some (.inl (-1))] [] (stC t (mnC t m) 3 (w (12 + 6 * m + 1).toNat + 1)) (nQ (fun v u => ∃ (r : Int) (w2 : Nat → Int), some (.inl r) = v ∧ FrA t u ∧ Wd w2 u ∧ (w2 0 ≤ 10 ∧ isM w2 m) ∧ updW w2 (12 + 6 * m + 5).toNat r = if 2 ≤ w (12 + 6 * m + 1).toNat ∧ 0 ≤ wayF (asdF w m) then asideW w m (besF (celF w m) (wayF (asdF w m))) else waitW w m)) := fun hn => by
    have hcw := cc_waits hW1 hI1 hm1
    rw [hmn1] at hcw
    refine wc_aload_n dX0_waitsOrGoes_53 rfl ?_
    refine wc_aload_n dX0_waitsOrGoes_54 rfl ?_
    refine wc_call dX0_waitsOrGoes_55 rfl (hcw) (by omega) (hx_V (kV0_155 rfl) rfl rfl rfl rfl) ?_
    rintro _ _ ⟨rfl, hF2, hW2⟩
    refine wc_iconst dX0_waitsOrGoes_58 ?_
    refine wc_ireturn dX0_waitsOrGoes_59 rfl ?_
    refine ⟨3, _, rfl, hF1.tr hF2, hW2, ⟨?_, ?_⟩, by rw [if_neg hn]; rfl⟩
    · unfold waitsF cntW
      rw [upd_ne (by omega), upd_ne (by omega)]
      exact h01
    · unfold waitsF cntW
      exact (isM_upd (by rw [upd_ne (by omega)]; exact h01) ⟨by omega, fun m' a b => by omega⟩ m).mpr ((isM_upd h01 (fldI hr (p := 3) (by omega)) m).mpr hm1)
  have hca := cc_asideOf hW1 hI1 hm1
  rw [hmn1, haw] at hca
  refine wc_aload_n dX0_waitsOrGoes_0 rfl ?_
  refine wc_dup dX0_waitsOrGoes_1 ?_
  refine wc_getI dX0_waitsOrGoes_2 (kF0_135 rfl) hk rfl ?_
  rw [hM.2.2.2.2.1]
  refine wc_iconst dX0_waitsOrGoes_5 ?_
  refine wc_iadd dX0_waitsOrGoes_6 ?_
  refine wc_putI dX0_waitsOrGoes_7 (kF0_135 rfl) rfl hk rfl hw (Or.inl rfl) ?_
  refine wc_aload_n dX0_waitsOrGoes_10 rfl ?_
  refine wc_getI dX0_waitsOrGoes_11 (kF0_135 rfl) hk rfl ?_
  rw [hM1.2.2.2.2.1, upd_at]
  refine wc_iconst dX0_waitsOrGoes_14 ?_
  refine wc_icmp dX0_waitsOrGoes_15 (cB_lt (show rng _ by omega) ⟨by omega, by omega⟩) 26 rfl (fun c15 => ?_) (fun c15 => ?_)
  ·
    refine wc_iconst dX0_waitsOrGoes_26 ?_
    refine wc_istore_n dX0_waitsOrGoes_27 rfl ?_
    refine wc_iload_n dX0_waitsOrGoes_28 rfl ?_
    refine wc_if dX0_waitsOrGoes_29 (cB_lt (show rng _ by omega) ⟨by omega, by omega⟩) 53 rfl (fun c29 => ?_) (fun c29 => ?_)
    ·
      exact hwa (fun q => by omega)
    ·
      omega
  ·
    refine wc_aload_n dX0_waitsOrGoes_18 rfl ?_
    refine wc_aload_n dX0_waitsOrGoes_19 rfl ?_
    refine wc_call dX0_waitsOrGoes_20 rfl (hca) (by omega) (hx_V (kV0_173 rfl) rfl rfl rfl rfl) ?_
    rintro _ _ ⟨rfl, rfl⟩
    refine wc_goto dX0_waitsOrGoes_23 27 rfl ?_
    refine wc_istore_n dX0_waitsOrGoes_27 rfl ?_
    refine wc_iload_n dX0_waitsOrGoes_28 rfl ?_
    refine wc_if dX0_waitsOrGoes_29 (cB_lt (show rng _ by unfold wcF; have := besF_rng (celF w m) (wayF (asdF w m)); split <;> omega) ⟨by omega, by omega⟩) 53 rfl (fun c29 => ?_) (fun c29 => ?_)
    ·
      have hwn : ¬ 0 ≤ wayF (asdF w m) := fun q => by
        have := (asd_at q).1
        unfold wcF at c29
        rw [if_pos q] at c29
        omega
      have hwc : wcF w m (asdF w m) = -1 := by unfold wcF; rw [if_neg hwn]
      rw [hwc]
      exact hwa (fun q => hwn q.2)
    ·
      have hwp : 0 ≤ wayF (asdF w m) := by
        unfold wcF at c29
        split at c29
        · rename_i q; exact q
        · omega
      have hat := asd_at hwp
      have hwc : wcF w m (asdF w m) = besF (celF w m) (wayF (asdF w m)) := by unfold wcF; rw [if_pos hwp]
      rw [hwc]
      have hbs := besF_rng (celF w m) (wayF (asdF w m))
      have hcs := cc_steps (c := besF (celF w m) (wayF (asdF w m))) hW1 hI1 hm1 ⟨hat.1, hbs.2⟩ (by rw [onF_upd h0 (fldI hr (p := 1) (by omega))]; exact hat.2.2)
      rw [hmn1, goes_run hr.1] at hcs
      refine wc_aload_n dX0_waitsOrGoes_32 rfl ?_
      refine wc_aload_n dX0_waitsOrGoes_33 rfl ?_
      refine wc_iload_n dX0_waitsOrGoes_34 rfl ?_
      refine wc_call dX0_waitsOrGoes_35 rfl (hcs) (by omega) (hx_V (kV0_153 rfl) rfl rfl rfl rfl) ?_
      rintro _ _ ⟨rfl, hF2, hW2⟩
      refine wc_aload_n dX0_waitsOrGoes_38 rfl ?_
      refine wc_getC dX0_waitsOrGoes_39 (kF0_19 rfl) rfl rfl ?_
      refine wc_getC dX0_waitsOrGoes_42 (kF0_141 rfl) rfl rfl ?_
      refine wc_iconst dX0_waitsOrGoes_45 ?_
      refine wc_dup2 dX0_waitsOrGoes_46 ?_
      refine wc_iaload dX0_waitsOrGoes_47 rfl rfl rfl ⟨by omega, by omega⟩ _ rfl ?_
      rw [hW2.acc (k := 4) (by omega)]
      refine wc_iconst dX0_waitsOrGoes_48 ?_
      refine wc_iadd dX0_waitsOrGoes_49 ?_
      refine wc_iastore dX0_waitsOrGoes_50 rfl ⟨by decide, Or.inl (by decide)⟩ rfl ⟨by omega, by omega⟩ _ rfl ?_
      refine wc_iconst dX0_waitsOrGoes_51 ?_
      refine wc_ireturn dX0_waitsOrGoes_52 rfl ?_
      have h00 : goesF w m (besF (celF w m) (wayF (asdF w m))) 0 ≤ 10 := by
        rw [goes_alt hr.1, upd_ne (by omega), upd_ne (by omega)]
        show celW w m _ 0 ≤ 10
        rw [celW_0 hr.1]
        exact h0
      have hm2 : isM (goesF w m (besF (celF w m) (wayF (asdF w m)))) m := by
        rw [goes_alt hr.1]
        exact (isM_upd (by rw [upd_ne (by omega)]; rw [celW_0 hr.1]; exact h0) (fldI hr (p := 1) (by omega)) m).mpr ((isM_upd (by rw [celW_0 hr.1]; exact h0) (fldI hr (p := 2) (by omega)) m).mpr ((isM_cel h0 hm hat.1 m).mpr hm))
      refine ⟨5, cntW (goesF w m (besF (celF w m) (wayF (asdF w m)))) 4, rfl, (hF1.tr hF2).tr FrA.s105, hW2.cnt h00 (k := 4) (by omega), ⟨?_, ?_⟩, by rw [if_pos ⟨by omega, hwp⟩]; rfl⟩
      · unfold cntW
        rw [upd_ne (by omega)]
        exact h00
      · exact (isM_upd h00 ⟨by omega, fun m' a b => by omega⟩ m).mpr hm2
end AC3
