/-! ACTING KEEPS THE ROW'S CONDITIONS AND REACH -/
set_option maxRecDepth 100000
section RCS
variable {w w0 : Nat → Int} {m c v p s A T a o : Int} {d k y x n i j : Nat}
theorem IR.goes (h : IR w) (hm : isM w m) (hc : 0 ≤ c ∧ c < 120) (ho : onF w c < 0) : IR (goesF w m c) := by
  have hr := isM_le hm h.1.2
  rw [goes_alt hr.1]
  exact ((h.cel hm hc ho).upd (fldI hr (p := 2) (by omega)) (Or.inl (by omega))).upd (fldI hr (p := 1) (by omega)) (Or.inl (by omega))
theorem goes_cel (hm : 0 ≤ m ∧ m ≤ 9) (ha : 0 ≤ a ∧ a ≤ 9) : celF (goesF w m c) a = if a = m then c else celF w a := by
  rw [goes_alt hm.1, celF_upd (fldI hm (p := 1) (by omega)).2 ha, celF_upd (fldI hm (p := 2) (by omega)).2 ha]
  by_cases e : a = m
  · rw [if_pos e, e, celW_self]
  · rw [if_neg e, celW_ne hm.1 ha.1 e]
theorem IR.isx (h : IR w) (hm : 0 ≤ m ∧ m ≤ 9) : IR (isxF w m) := by
  unfold isxF
  exact ((h.upd (fldI hm (p := 2) (by omega)) (Or.inl (by omega))).upd (fldI hm (p := 1) (by omega)) (Or.inl (by omega))).upd (fldI hm (p := 5) (by omega)) (Or.inl (by omega))
theorem isx_cel (hm : 0 ≤ m ∧ m ≤ 9) (ha : 0 ≤ a ∧ a ≤ 9) : celF (isxF w m) a = celF w a := by
  unfold isxF
  rw [celF_upd (fldI hm (p := 5) (by omega)).2 ha, celF_upd (fldI hm (p := 1) (by omega)).2 ha, celF_upd (fldI hm (p := 2) (by omega)).2 ha]
theorem cntI {k : Int} (hk : 0 ≤ k ∧ k < 8) : (4 + k).toNat ≠ 0 ∧ ∀ m' : Int, 0 ≤ m' → m' ≤ 9 → (4 + k).toNat ≠ (12 + 6 * m' + 0).toNat := ⟨by omega, fun m' a b => by omega⟩
theorem IR.cnt {k : Int} (h : IR w) (hk : 0 ≤ k ∧ k < 8) : IR (cntW w k) := by
  unfold cntW
  exact h.upd (cntI hk) (Or.inl (by omega))
theorem cnt_cel {k : Int} (hk : 0 ≤ k ∧ k < 8) (ha : 0 ≤ a ∧ a ≤ 9) : celF (cntW w k) a = celF w a := by
  unfold cntW
  exact celF_upd (cntI hk).2 ha
theorem IR.waits (h : IR w) (hm : 0 ≤ m ∧ m ≤ 9) : IR (waitsF w m) := by
  unfold waitsF
  exact (h.upd (fldI hm (p := 3) (by omega)) (Or.inl (by omega))).cnt (by omega)
theorem waits_cel (hm : 0 ≤ m ∧ m ≤ 9) (ha : 0 ≤ a ∧ a ≤ 9) : celF (waitsF w m) a = celF w a := by
  unfold waitsF
  rw [cnt_cel (by omega) ha, celF_upd (fldI hm (p := 3) (by omega)).2 ha]
/-- what acting does to the cells -/
theorem act_cells (hI : IR w) (hR : RC w0 w) (hm : isM w m) (hs : 0 ≤ slF w0 m) (hd0 : 0 < frF w0 (slF w0 m) (celF w m)) : IR (actF (slF w0) (frF w0) w m) ∧ ((∀ a, 0 ≤ a → a ≤ 9 → celF (actF (slF w0) (frF w0) w m) a = celF w a) ∨ (∃ v, (0 ≤ v ∧ v < 4) ∧ 0 ≤ besF (celF w m) v ∧ blkF w (besF (celF w m) v) = false ∧ ∀ a, 0 ≤ a → a ≤ 9 → celF (actF (slF w0) (frF w0) w m) a = if a = m then besF (celF w m) v else celF w a) ∨ (∃ v o, (0 ≤ v ∧ v < 4) ∧ isM w o ∧ o ≠ m ∧ celF w o = besF (celF w m) v ∧ frF w0 (slF w0 m) (besF (celF w m) v) = frF w0 (slF w0 m) (celF w m) - 1 ∧ ∀ a, 0 ≤ a → a ≤ 9 → celF (actF (slF w0) (frF w0) w m) a = if a = m then celF w o else if a = o then celF w m else celF w a)) := by
  have h0 := hI.1.2
  have hr := isM_le hm h0
  have hpl := slF_pl w0 m hs
  unfold actF
  rw [if_neg (by omega)]
  by_cases h1 : 0 ≤ wayF (stpW w0 w m)
  · rw [if_pos h1]
    have hat : stpW w0 w m (wayF (stpW w0 w m)) = true ∧ wayF (stpW w0 w m) < 4 := by
      rcases fstI_rng (stpW w0 w m) 4 0 (by omega) with e | ⟨-, e2, e, -⟩
      · unfold wayF at h1; omega
      · exact ⟨e, by unfold wayF; omega⟩
    have hat2 := stp_iff.mp hat.1
    have hbs := besF_rng (celF w m) (wayF (stpW w0 w m))
    have hop := (fr_op hpl.2.2.1 (x := besF (celF w m) (wayF (stpW w0 w m))) (by omega)).1
    refine ⟨?_, Or.inr (Or.inl ⟨_, ⟨h1, hat.2⟩, hat2.1.1, by rw [hR.blk hat2.1.1]; exact hop, fun a a0 a1 => ?_⟩)⟩
    · unfold stepW
      exact ((hI.goes hm ⟨hat2.1.1, hbs.2⟩ hat2.2).cnt (by omega)).upd (fldI hr (p := 5) (by omega)) (Or.inl (by omega))
    · unfold stepW
      rw [celF_upd (fldI hr (p := 5) (by omega)).2 ⟨a0, a1⟩, cnt_cel (by omega) ⟨a0, a1⟩, goes_cel hr ⟨a0, a1⟩]
  · rw [if_neg h1]
    by_cases h2 : 0 ≤ wayF (excW0 w0 w m)
    · rw [if_pos h2]
      have hat : excW0 w0 w m (wayF (excW0 w0 w m)) = true ∧ wayF (excW0 w0 w m) < 4 := by
        rcases fstI_rng (excW0 w0 w m) 4 0 (by omega) with e | ⟨-, e2, e, -⟩
        · unfold wayF at h2; omega
        · exact ⟨e, by unfold wayF; omega⟩
      obtain ⟨g1, g2, g3⟩ := exc_iff.mp hat.1
      have hon := (onF_rng w (besF (celF w m) (wayF (excW0 w0 w m)))).2.2 g2
      have hco : celF w (onF w (besF (celF w m) (wayF (excW0 w0 w m)))) = besF (celF w m) (wayF (excW0 w0 w m)) := hon.2
      have hne : onF w (besF (celF w m) (wayF (excW0 w0 w m))) ≠ m := fun e => by
        rw [e] at hco
        have := g1.2
        rw [← hco] at this
        omega
      have hro := isM_le hon.1 h0
      have hrow : excW w m (wayF (excW0 w0 w m)) = isxF (isxF (cntW (exW w m (onF w (besF (celF w m) (wayF (excW0 w0 w m)))) (celF w (onF w (besF (celF w m) (wayF (excW0 w0 w m))))) (celF w m)) 3) m) (onF w (besF (celF w m) (wayF (excW0 w0 w m)))) := by
        rw [exch_row hr hro hne, hco]
        rfl
      rw [hrow]
      refine ⟨((hI.ex hm hon.1 hne).cnt (by omega)).isx hr |>.isx hro, Or.inr (Or.inr ⟨_, _, ⟨h2, hat.2⟩, hon.1, hne, hco, g1.2, fun a a0 a1 => ?_⟩)⟩
      rw [isx_cel hro ⟨a0, a1⟩, isx_cel hr ⟨a0, a1⟩, cnt_cel (by omega) ⟨a0, a1⟩, exW_cel w hr.1 hro.1 a0 hne]
    · rw [if_neg h2]
      by_cases h3 : 2 ≤ w (12 + 6 * m + 1).toNat ∧ 0 ≤ wayF (asdF w m)
      · rw [if_pos h3]
        have hat := asd_at h3.2
        have hbs := besF_rng (celF w m) (wayF (asdF w m))
        have hlt : wayF (asdF w m) < 4 := by
          rcases fstI_rng (asdF w m) 4 0 (by omega) with e | ⟨-, e2, e, -⟩
          · have := h3.2; unfold wayF at this; omega
          · unfold wayF; omega
        unfold asideW
        refine ⟨((hI.goes hm ⟨hat.1, hbs.2⟩ hat.2.2).cnt (by omega)).upd (fldI hr (p := 5) (by omega)) (Or.inl (by omega)), Or.inr (Or.inl ⟨_, ⟨h3.2, hlt⟩, hat.1, blk_f.mpr hat.2.1, fun a a0 a1 => ?_⟩)⟩
        rw [celF_upd (fldI hr (p := 5) (by omega)).2 ⟨a0, a1⟩, cnt_cel (by omega) ⟨a0, a1⟩, goes_cel hr ⟨a0, a1⟩]
      · rw [if_neg h3]
        unfold waitW
        refine ⟨((hI.upd (fldI hr (p := 1) (by omega)) (Or.inl (by omega))).waits hr).upd (fldI hr (p := 5) (by omega)) (Or.inl (by omega)), Or.inl (fun a a0 a1 => ?_)⟩
        rw [celF_upd (fldI hr (p := 5) (by omega)).2 ⟨a0, a1⟩, waits_cel hr ⟨a0, a1⟩, celF_upd (fldI hr (p := 1) (by omega)).2 ⟨a0, a1⟩]
theorem act_RC (h00 : w0 0 ≤ 10) (hI : IR w) (hR : RC w0 w) (hm : isM w m) (hs : 0 ≤ slF w0 m) (hd0 : 0 < frF w0 (slF w0 m) (celF w m)) : RC w0 (actF (slF w0) (frF w0) w m) := by
  have h0 := hI.1.2
  have hr := isM_le hm h0
  have hsw : SW w0 (actF (slF w0) (frF w0) w m) := hR.1.tr (SW.act hr hI.2.2.2 hm.2)
  refine ⟨hsw, fun a ha has => ?_⟩
  have haw : isM w a := (hR.isM h00 a).mpr ((hsw.isM h00 a).mp ha)
  have hra := isM_le haw h0
  have hpa := slF_pl w0 a has
  have hpm := slF_pl w0 m hs
  have hfa := hR.2 a haw has
  have hcm : 0 ≤ celF w m ∧ celF w m < 120 := ⟨hm.2, hI.2.2.2 m hr.1 hr.2⟩
  rcases (act_cells hI hR hm hs hd0).2 with q | ⟨v, hv, hy, hb, q⟩ | ⟨v, o, hv, ho, hne, hco, hf, q⟩
  · rw [q a hra.1 hra.2]; exact hfa
  · rw [q a hra.1 hra.2]
    by_cases e : a = m
    · rw [if_pos e]
      subst e
      exact fr_nb hpa.2.2.1 hfa hv hy (by rw [← hR.blk hy]; exact hb)
    · rw [if_neg e]; exact hfa
  · rw [q a hra.1 hra.2]
    have hy : 0 ≤ besF (celF w m) v := by rw [← hco]; exact ho.2
    by_cases e : a = m
    · subst e
      rw [if_pos rfl, hco]
      exact fr_nb hpa.2.2.1 hfa hv hy (fr_op hpm.2.2.1 (by omega)).1
    · rw [if_neg e]
      by_cases e2 : a = o
      · subst e2
        rw [if_pos rfl]
        obtain ⟨v', hv', e3⟩ := bes_back hcm hv rfl hy
        rw [hco] at hfa
        have := fr_nb (w0 := w0) hpa.2.2.1 hfa hv' (by rw [e3]; exact hcm.1) (by rw [e3]; exact (fr_op hpm.2.2.1 (by omega)).1)
        rw [e3] at this
        exact this
      · rw [if_neg e2]; exact hfa
end RCS
