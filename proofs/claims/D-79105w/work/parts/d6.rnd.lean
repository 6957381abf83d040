/-! THE CLASS'S METHODS, 17: a round begins for the members -/
set_option maxRecDepth 100000
section RND
variable {w w0 w1 : Nat → Int} {τ t t0 u : CT} {a b m c v : Int} {d p q n k : Nat} {e : Nat → Int} {Q : Option AV → CT → Prop}
theorem cc_begins (hS : WS w0) (hG : Gd w0 t) (h : Wd w t) (hI : IR w) (hm : isM w m) : Ct kap 0 rX0_begins [.inr 10, .inr (mnC t m), .inl (ledF w)] t (fun v u => none = v ∧ FrA t u ∧ Wd (bgF (slF w0) w m) u) := by
  intro d hd
  have h0 := hI.1.2
  have hr := isM_le hm h0
  have hM := h.mem h0 hm
  have hk := hM.kd (T := kap)
  have hw := h.wr h0 hm
  have hlr := ledF_rng w h0
  have hg := gC_r (m := m) hS
  have hgn := gC_neg (x := slF w0 m)
  have hW1 := h.fld (j := 6) (p := 4) (v := w (12 + 6 * m + 4).toNat + 1) (Or.inr (Or.inr (Or.inr (Or.inr ⟨rfl, rfl⟩)))) h0 hm
  have hF1 := FrA.sM (t := t) (m := m) (j := 6) (v := w (12 + 6 * m + 4).toNat + 1) ⟨hr.1, by omega⟩ hM.1.1
  have hmn1 := hF1.mn m
  have h01 : updW w (12 + 6 * m + 4).toNat (w (12 + 6 * m + 4).toNat + 1) 0 ≤ 10 := by rw [upd_ne (by omega)]; exact h0
  have hm1 := (isM_upd (v := w (12 + 6 * m + 4).toNat + 1) h0 (fldI hr (p := 4) (by omega)) m).mpr hm
  have hn0 : mnC t m ≠ 15 := by have := hM.1.1; omega
  have e0 : sg (stC t (mnC t m) 6 (w (12 + 6 * m + 4).toNat + 1)) (mnC t m) 0 = m := by rw [sg_st, if_neg (by decide)]; exact hM.2.1
  have hrz : ∀ r : Int, Wd (updW (updW w (12 + 6 * m + 4).toNat (w (12 + 6 * m + 4).toNat + 1)) (12 + 6 * m + 5).toNat r) (stC (stC t (mnC t m) 6 (w (12 + 6 * m + 4).toNat + 1)) (mnC t m) 2 r) ∧ FrA t (stC (stC t (mnC t m) 6 (w (12 + 6 * m + 4).toNat + 1)) (mnC t m) 2 r) := fun r => by
    have hW2 := hW1.fld (j := 2) (p := 5) (v := r) (Or.inl ⟨rfl, rfl⟩) h01 hm1
    have hF2 := FrA.sM (t := stC t (mnC t m) 6 (w (12 + 6 * m + 4).toNat + 1)) (m := m) (j := 2) (v := r) ⟨hr.1, by omega⟩ (by rw [hmn1]; exact hM.1.1)
    rw [hmn1] at hW2 hF2
    exact ⟨hW2, hF1.tr hF2⟩
  refine wc_aload_n dX0_begins_0 rfl ?_
  refine wc_dup dX0_begins_1 ?_
  refine wc_getI dX0_begins_2 (kF0_193 rfl) hk rfl ?_
  rw [hM.2.2.2.2.2.2.2]
  refine wc_iconst dX0_begins_5 ?_
  refine wc_iadd dX0_begins_6 ?_
  refine wc_putI dX0_begins_7 (kF0_193 rfl) rfl hk rfl hw (Or.inl rfl) ?_
  refine wc_aload_n dX0_begins_10 rfl ?_
  refine wc_getI dX0_begins_11 (kF0_109 rfl) hk rfl ?_
  rw [e0]
  refine wc_iload_n dX0_begins_14 rfl ?_
  refine wc_icmp dX0_begins_15 (cB_eq (show rng _ by omega) (show rng _ by omega)) 39 rfl (fun c15 => ?_) (fun c15 => ?_)
  ·
    refine wc_vreturn dX0_begins_39 rfl ?_
    refine ⟨rfl, hF1, ?_⟩
    unfold bgF
    rw [if_pos hm, if_pos c15]
    exact hW1
  ·
    refine wc_aload_n dX0_begins_18 rfl ?_
    refine wc_aload_n dX0_begins_19 rfl ?_
    refine wc_getC dX0_begins_20 (kF0_98 rfl) rfl rfl ?_
    refine wc_aload_n dX0_begins_23 rfl ?_
    refine wc_getI dX0_begins_24 (kF0_109 rfl) hk rfl ?_
    rw [e0]
    refine wc_iaload dX0_begins_27 rfl rfl rfl ⟨by omega, by omega⟩ _ rfl ?_
    rw [sg_st' (Ne.symm hn0), hG.sl ⟨hr.1, by omega⟩]
    refine wc_if dX0_begins_28 (cB_ge (show rng _ by omega) ⟨by omega, by omega⟩) 35 rfl (fun c28 => ?_) (fun c28 => ?_)
    ·
      refine wc_iconst dX0_begins_35 ?_
      refine wc_putI dX0_begins_36 (kF0_170 rfl) rfl hk rfl hw (Or.inl rfl) ?_
      refine wc_vreturn dX0_begins_39 rfl ?_
      refine ⟨rfl, (hrz 1).2, ?_⟩
      unfold bgF
      rw [if_pos hm, if_neg c15, if_neg (by omega)]
      exact (hrz 1).1
    ·
      refine wc_iconst dX0_begins_31 ?_
      refine wc_goto dX0_begins_32 36 rfl ?_
      refine wc_putI dX0_begins_36 (kF0_170 rfl) rfl hk rfl hw (Or.inl rfl) ?_
      refine wc_vreturn dX0_begins_39 rfl ?_
      refine ⟨rfl, (hrz 2).2, ?_⟩
      unfold bgF
      rw [if_pos hm, if_neg c15, if_pos (by omega)]
      exact (hrz 2).1
theorem bg_same (h0 : w 0 ≤ 10) (hm : 0 ≤ m ∧ m ≤ 9) {sl : Int → Int} : SC w (bgF sl w m) := bgF_SC hm
/-- rows during the beginning differ only in rounds and reasons -/
theorem SC.isM (h : SC w0 w) (h0 : w0 0 ≤ 10) (m : Int) : isM w m ↔ isM w0 m := isM_congr (h.1 0 (by omega)) h0 (fun m m0 m1 => by rw [h.2 m m0 m1]) m
theorem SC.led (h : SC w0 w) (h0 : w0 0 ≤ 10) : ledF w = ledF w0 := ledF_congr (h.1 0 (by omega)) (h.1 1 (by omega)) h0 (fun m m0 m1 => by rw [h.2 m m0 m1])
theorem SC.ir (h : SC w0 w) (hI : IR w0) : IR w := by
  obtain ⟨h1, h2, h3, h4⟩ := hI
  have e0 := h.1 0 (by omega)
  refine ⟨by rw [e0]; exact h1, fun a b ha hb he => ?_, fun c c0 c1 => by rw [h.1 _ (by omega)]; exact h3 c c0 c1, fun m m0 m1 => by rw [h.2 m m0 m1]; exact h4 m m0 m1⟩
  rw [h.isM h1.2] at ha hb
  have ra := isM_le ha h1.2
  have rb := isM_le hb h1.2
  rw [h.2 a ra.1 ra.2, h.2 b rb.1 rb.2] at he
  exact h2 a b ha hb he
theorem SC.ds (h : SC w0 w) (hm : 0 ≤ m ∧ m ≤ 9) : dsF w0 w m = dsF w0 w0 m := by
  unfold dsF
  rw [h.2 m hm.1 hm.2]
theorem SC.rc (h : SC w0 w) (hS : WS w0) : RC w0 w := ⟨SW.of h (fun m m0 m1 => (hS.2.2.1 m m0 m1).2), fun m hm hs => by
  have hm0 := (h.isM hS.1.2 m).mp hm
  have hr := isM_le hm0 hS.1.2
  rw [h.2 m hr.1 hr.2]
  exact (slF_pl w0 m hs).2.2.2⟩
theorem inB_iff (hS : WS w0) (h : SC w0 w) (hm : isM w m) : inB (slF w0) (frF w0) w m = true ↔ (m ≠ ledF w ∧ 0 < dsF w0 w m) := by
  have hm0 := (h.isM hS.1.2 m).mp hm
  have hr := isM_le hm0 hS.1.2
  unfold inB
  rw [decide_eq_true_eq]
  constructor
  · rintro ⟨-, h1, h2, h3⟩
    have hp := (slF_pl w0 m h2).2.2.2
    refine ⟨h1, ?_⟩
    rw [h.2 m hr.1 hr.2] at h3
    rw [h.ds hr, (dsF_self h2).1]
    omega
  · rintro ⟨h1, h2⟩
    rw [h.ds hr] at h2
    have hs : 0 ≤ slF w0 m := by
      unfold dsF at h2
      split at h2 <;> omega
    refine ⟨hm, h1, hs, ?_⟩
    rw [h.2 m hr.1 hr.2]
    rw [(dsF_self hs).1] at h2
    omega
/-- the queue while the members begin: all that act among those below m -/
def RQ (w1 w : Nat → Int) (t : CT) (p q : Nat) (m : Int) (L : TL) : Prop := ∃ (n : Nat) (e : Nat → Int), PQs w1 w t p q n e ∧ n ≤ 9 ∧ (∀ m', ElN n e m' ↔ ∃ i, i < L.length ∧ (tg L i).1 = m') ∧ Srt (dsF w1 w1) L ∧ LOk (dsF w1 w1) m L ∧ ∀ i, i < L.length → (tg L i).1 ≠ ledF w1 ∧ 0 < dsF w1 w1 (tg L i).1
end RND
