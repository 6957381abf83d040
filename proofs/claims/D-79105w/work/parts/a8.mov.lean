/-! MEMBERS MOVE -/
set_option maxRecDepth 100000
section MOV
variable {w w' : Nat → Int} {τ t : CT} {m o c k v p : Int} {T : Nat → Option CK} {j i : Nat}
theorem Wd.cells (h : Wd w τ) (h0 : w 0 ≤ 10) (hw : ∀ i : Nat, (∀ m : Int, 0 ≤ m → m ≤ 9 → i ≠ (12 + 6 * m + 0).toNat) → w' i = w i) (hi : ∀ m, isM w' m ↔ isM w m) (t1 : t.1 = τ.1) (t2 : t.2.1 = τ.2.1) (hs : ∀ x, x < 110 → x ≠ 102 → sg t x = sg τ x) (ho : ∀ c : Int, 0 ≤ c → c < 120 → sg t 102 c.toNat = onF w' c) (hm : ∀ m, isM w m → ∀ j, sg t (mnC τ m) j = if j = 1 then celF w' m else sg τ (mnC τ m) j) : Wd w' t := by
  obtain ⟨⟨h1, h2, h3, h4, h5, h6⟩, h7⟩ := id h
  have e : ∀ i : Nat, i < 12 ∨ 72 ≤ i → w' i = w i := fun i q => hw i (fun m a b => by omega)
  refine ⟨⟨fun c c0 c1 => ?_, fun m' m0 m1 => ?_, fun k' k0 k1 => ?_, ?_, ?_, ?_⟩, fun m' hm' m0 m1 => ?_⟩
  · rw [hs _ (by omega) (by omega), e _ (by omega)]
    exact ⟨(h1 c c0 c1).1, ho c c0 c1⟩
  · rw [hs _ (by omega) (by omega), hi]
    refine ⟨fun q => ?_, (h2 m' m0 m1).2⟩
    have hM := h.mem h0 q
    have hq := hm m' q
    obtain ⟨⟨g0, ge, g1⟩, g2, g3, g4, g5, g6, g7, g8⟩ := hM
    refine ⟨⟨g0, by unfold nvC at *; rw [t1]; exact ge, by rw [t2]; exact g1⟩, ?_⟩
    show sg t (mnC τ m') 0 = _ ∧ sg t (mnC τ m') 1 = _ ∧ sg t (mnC τ m') 2 = _ ∧ sg t (mnC τ m') 3 = _ ∧ sg t (mnC τ m') 4 = _ ∧ sg t (mnC τ m') 5 = _ ∧ sg t (mnC τ m') 6 = _
    rw [hq, hq, hq, hq, hq, hq, hq, hw _ (fun a a0 a1 => by omega), hw _ (fun a a0 a1 => by omega), hw _ (fun a a0 a1 => by omega), hw _ (fun a a0 a1 => by omega), hw _ (fun a a0 a1 => by omega)]
    exact ⟨g2, rfl, g4, g5, g6, g7, g8⟩
  · rw [hs _ (by omega) (by omega), h3 k' k0 k1]
    unfold accF
    rw [oF_congr (w' := w') 120 0 (by omega) (fun j j0 j1 => e _ (by omega)), e _ (by omega)]
  · rw [hs _ (by omega) (by omega), h4]
    unfold ldC
    rw [e _ (by omega)]
  · rw [hs _ (by omega) (by omega), h5]
    unfold tgC
    rw [e _ (by omega)]
  · rw [hs _ (by omega) (by omega), h6, e _ (by omega)]
  · rw [hi] at hm'
    have := h7 m' hm' m0 m1
    unfold mnC wrC n0C at *
    rw [hs _ (by omega) (by omega), t1]
    exact this
/-- one member's cell -/
abbrev celW (w : Nat → Int) (m c : Int) : Nat → Int := updW w (12 + 6 * m + 0).toNat c
theorem celW_self (w : Nat → Int) (m c : Int) : celF (celW w m c) m = c := by unfold celF celW updW; rw [if_pos rfl]
theorem celW_ne {m' : Int} (hm : 0 ≤ m) (hm' : 0 ≤ m') (h : m' ≠ m) : celF (celW w m c) m' = celF w m' := by unfold celF celW; rw [upd_ne (by omega)]
theorem celW_0 (hm : 0 ≤ m) : celW w m c 0 = w 0 := upd_ne (by omega)
theorem isM_cel (h0 : w 0 ≤ 10) (hm : isM w m) (hc : 0 ≤ c) (m' : Int) : isM (celW w m c) m' ↔ isM w m' := by
  have hr := isM_le hm h0
  refine isM_congr (upd_ne (by omega)) h0 (fun a a0 a1 => ?_) m'
  by_cases e : a = m
  · subst e
    rw [celW_self]
    exact ⟨fun _ => hm.2, fun _ => hc⟩
  · rw [celW_ne hr.1 a0 e]
theorem InjM.cel (hj : InjM w) (h0 : w 0 ≤ 10) (hm : isM w m) (hc : 0 ≤ c) (ho : onF w c < 0) : InjM (celW w m c) := fun a b ha hb he => by
  have hr := isM_le hm h0
  rw [isM_cel h0 hm hc] at ha hb
  have ra := isM_le ha h0
  have rb := isM_le hb h0
  by_cases ea : a = m
  · by_cases eb : b = m
    · rw [ea, eb]
    · subst ea
      rw [celW_self, celW_ne hr.1 rb.1 eb] at he
      exact absurd he.symm (onF_no h0 ho hb)
  · by_cases eb : b = m
    · subst eb
      rw [celW_self, celW_ne hr.1 ra.1 ea] at he
      exact absurd he (onF_no h0 ho ha)
    · rw [celW_ne hr.1 ra.1 ea, celW_ne hr.1 rb.1 eb] at he
      exact hj a b ha hb he
theorem onF_cel (hj : InjM w) (h0 : w 0 ≤ 10) (hm : isM w m) (hc : 0 ≤ c) (ho : onF w c < 0) (x : Int) : onF (celW w m c) x = if x = c then m else if x = celF w m then -1 else onF w x := by
  have hr := isM_le hm h0
  have hj2 := hj.cel h0 hm hc ho
  have h02 : celW w m c 0 ≤ 10 := by rw [celW_0 hr.1]; exact h0
  by_cases e1 : x = c
  · rw [if_pos e1]
    exact onF_eq hj2 h02 ((isM_cel h0 hm hc m).mpr hm) (by rw [celW_self, e1])
  · rw [if_neg e1]
    by_cases e2 : x = celF w m
    · rw [if_pos e2]
      refine onF_none (fun a ha q => ?_)
      rw [isM_cel h0 hm hc] at ha
      by_cases ea : a = m
      · subst ea; rw [celW_self] at q; exact e1 q.symm
      · rw [celW_ne hr.1 (isM_le ha h0).1 ea] at q
        exact ea (hj a m ha hm (q.trans e2))
    · rw [if_neg e2]
      have ho2 := onF_rng w x
      by_cases hx : 0 ≤ onF w x
      · have hx2 := ho2.2.2 hx
        refine onF_eq hj2 h02 ((isM_cel h0 hm hc _).mpr hx2.1) ?_
        rw [celW_ne hr.1 hx (fun q => e2 (by rw [q] at hx2; exact hx2.2.symm))]
        exact hx2.2
      · rw [show onF w x = -1 by omega]
        refine onF_none (fun a ha q => ?_)
        rw [isM_cel h0 hm hc] at ha
        by_cases ea : a = m
        · subst ea; rw [celW_self] at q; exact e1 q.symm
        · rw [celW_ne hr.1 (isM_le ha h0).1 ea] at q
          exact onF_no h0 (show onF w x < 0 by omega) ha q
theorem toNat_ne {a b : Int} (ha : 0 ≤ a) (hb : 0 ≤ b) : a.toNat = b.toNat ↔ a = b := by omega
/-- what World.moves leaves -/
def movC (τ : CT) (y : Nat) (c0 m c : Int) : CT := stC (stC (stC τ 102 c0.toNat (-1)) 102 c.toNat m) y 1 c
theorem Wd.moves (h : Wd w τ) (h0 : w 0 ≤ 10) (hj : InjM w) (hm : isM w m) (hc : 0 ≤ c ∧ c < 120) (ho : onF w c < 0) : Wd (celW w m c) (movC τ (mnC τ m) (celF w m) m c) := by
  have hr := isM_le hm h0
  have hM := h.mem h0 hm
  unfold movC
  have hn : mnC τ m ≠ 102 := by have := hM.1.1; omega
  refine h.cells h0 (fun i hi => upd_ne (hi m hr.1 hr.2)) (isM_cel h0 hm hc.1) rfl rfl (fun x x1 x2 => ?_) (fun x x0 x1 => ?_) (fun a ha j => ?_)
  · rw [sg_st' (by have := hM.1.1; omega), sg_st' x2, sg_st' x2]
  · rw [sg_st' (Ne.symm hn), sg_st, sg_st, onF_cel hj h0 hm hc.1 ho, (h.1.1 x x0 x1).2]
    have hcm : 0 ≤ celF w m := hm.2
    simp only [toNat_ne x0 hc.1, toNat_ne x0 hcm]
  · by_cases ea : a = m
    · subst ea
      rw [sg_st, sg_st' hn, sg_st' hn, celW_self]
    · have hne := h.inj h0 hm ha (Ne.symm ea)
      rw [sg_st' hne, sg_st' (by have := (h.mem h0 ha).1.1; omega), sg_st' (by have := (h.mem h0 ha).1.1; omega), celW_ne hr.1 (isM_le ha h0).1 ea]
      by_cases e : j = 1
      · rw [if_pos e, e]; exact (h.mem h0 ha).2.2.1
      · rw [if_neg e]
theorem cc_moves (h : Wd w τ) (h0 : w 0 ≤ 10) (hm : isM w m) (hcm : celF w m < 120) (hc : 0 ≤ c ∧ c < 120) : Cf kap 0 rX1_moves [.inr 100, .inr (mnC τ m), .inl c] τ none (movC τ (mnC τ m) (celF w m) m c) := by
  intro d hd
  have hM := h.mem h0 hm
  have hk := hM.kd (T := kap)
  have hw := h.wr h0 hm
  have h0m : 0 ≤ celF w m := hm.2
  have e1 := hM.2.2.1
  have e0 := hM.2.1
  have hn : mnC τ m ≠ 102 := by have := hM.1.1; omega
  refine wc_aload_n dX1_moves_0 rfl ?_
  refine wc_getC dX1_moves_1 (kF1_15 rfl) rfl rfl ?_
  refine wc_aload_n dX1_moves_4 rfl ?_
  refine wc_getI dX1_moves_5 (kF1_70 rfl) hk rfl ?_
  rw [e1]
  refine wc_iconst dX1_moves_8 ?_
  refine wc_iastore dX1_moves_9 rfl ⟨by decide, Or.inl (by decide)⟩ rfl ⟨h0m, by omega⟩ _ rfl ?_
  refine wc_aload_n dX1_moves_10 rfl ?_
  refine wc_getC dX1_moves_11 (kF1_15 rfl) rfl rfl ?_
  refine wc_iload_n dX1_moves_14 rfl ?_
  refine wc_aload_n dX1_moves_15 rfl ?_
  refine wc_getI dX1_moves_16 (kF1_73 rfl) hk rfl ?_
  rw [sg_st' hn, e0]
  refine wc_iastore dX1_moves_19 rfl ⟨by decide, Or.inl (by decide)⟩ rfl ⟨hc.1, by omega⟩ _ rfl ?_
  refine wc_aload_n dX1_moves_20 rfl ?_
  refine wc_iload_n dX1_moves_21 rfl ?_
  refine wc_putI dX1_moves_22 (kF1_70 rfl) rfl hk rfl hw (Or.inl rfl) ?_
  refine wc_vreturn dX1_moves_25 rfl ?_
  exact ⟨rfl, rfl⟩
/-- what World.exchanges leaves -/
def excC (τ : CT) (y z : Nat) (c0 c1 m o : Int) : CT := stC (stC (stC (stC τ 102 c1.toNat m) 102 c0.toNat o) y 1 c1) z 1 c0
abbrev exW (w : Nat → Int) (m o c1 c0 : Int) : Nat → Int := celW (celW w m c1) o c0
theorem exW_cel (w : Nat → Int) {a : Int} (hm : 0 ≤ m) (ho : 0 ≤ o) (ha : 0 ≤ a) (hne : o ≠ m) : celF (exW w m o (celF w o) (celF w m)) a = if a = m then celF w o else if a = o then celF w m else celF w a := by
  by_cases e1 : a = m
  · rw [if_pos e1, e1, celW_ne ho hm (Ne.symm hne), celW_self]
  · rw [if_neg e1]
    by_cases e2 : a = o
    · rw [if_pos e2, e2, celW_self]
    · rw [if_neg e2, celW_ne ho ha e2, celW_ne hm ha e1]
theorem isM_ex (h0 : w 0 ≤ 10) (hm : isM w m) (ho : isM w o) (a : Int) : isM (exW w m o (celF w o) (celF w m)) a ↔ isM w a := by
  exact (isM_cel (w := celW w m (celF w o)) (c := celF w m) (by rw [celW_0 hm.1.1]; exact h0) ((isM_cel h0 hm ho.2 o).mpr ho) hm.2 a).trans (isM_cel (c := celF w o) h0 hm ho.2 a)
theorem InjM.ex (hj : InjM w) (h0 : w 0 ≤ 10) (hm : isM w m) (ho : isM w o) (hne : o ≠ m) : InjM (exW w m o (celF w o) (celF w m)) := fun a b ha hb he => by
  rw [isM_ex h0 hm ho] at ha hb
  rw [exW_cel w hm.1.1 ho.1.1 ha.1.1 hne, exW_cel w hm.1.1 ho.1.1 hb.1.1 hne] at he
  by_cases a1 : a = m
  · by_cases b1 : b = m
    · rw [a1, b1]
    · by_cases b2 : b = o
      · rw [if_pos a1, if_neg b1, if_pos b2] at he
        exact absurd (hj o m ho hm he) hne
      · rw [if_pos a1, if_neg b1, if_neg b2] at he
        exact absurd (hj o b ho hb he).symm b2
  · by_cases a2 : a = o
    · by_cases b1 : b = m
      · rw [if_neg a1, if_pos a2, if_pos b1] at he
        exact absurd (hj m o hm ho he).symm hne
      · by_cases b2 : b = o
        · rw [a2, b2]
        · rw [if_neg a1, if_pos a2, if_neg b1, if_neg b2] at he
          exact absurd (hj m b hm hb he).symm b1
    · by_cases b1 : b = m
      · rw [if_neg a1, if_neg a2, if_pos b1] at he
        exact absurd (hj a o ha ho he) a2
      · by_cases b2 : b = o
        · rw [if_neg a1, if_neg a2, if_neg b1, if_pos b2] at he
          exact absurd (hj a m ha hm he) a1
        · rw [if_neg a1, if_neg a2, if_neg b1, if_neg b2] at he
          exact hj a b ha hb he
theorem onF_ex (hj : InjM w) (h0 : w 0 ≤ 10) (hm : isM w m) (ho : isM w o) (hne : o ≠ m) (x : Int) : onF (exW w m o (celF w o) (celF w m)) x = if x = celF w m then o else if x = celF w o then m else onF w x := by
  have hj2 := hj.ex h0 hm ho hne
  have h02 : exW w m o (celF w o) (celF w m) 0 ≤ 10 := by show celW (celW w m _) o _ 0 ≤ 10; rw [celW_0 ho.1.1, celW_0 hm.1.1]; exact h0
  have hcel := fun a (ha : 0 ≤ a) => exW_cel w hm.1.1 ho.1.1 ha hne
  by_cases e1 : x = celF w m
  · rw [if_pos e1]
    exact onF_eq hj2 h02 ((isM_ex h0 hm ho o).mpr ho) (by rw [hcel o ho.1.1, if_neg hne, if_pos rfl, e1])
  · rw [if_neg e1]
    by_cases e2 : x = celF w o
    · rw [if_pos e2]
      exact onF_eq hj2 h02 ((isM_ex h0 hm ho m).mpr hm) (by rw [hcel m hm.1.1, if_pos rfl, e2])
    · rw [if_neg e2]
      have hr := onF_rng w x
      by_cases hx : 0 ≤ onF w x
      · have hx2 := hr.2.2 hx
        have n1 : onF w x ≠ m := fun q => e1 (by rw [q] at hx2; exact hx2.2.symm)
        have n2 : onF w x ≠ o := fun q => e2 (by rw [q] at hx2; exact hx2.2.symm)
        exact onF_eq hj2 h02 ((isM_ex h0 hm ho _).mpr hx2.1) (by rw [hcel _ hx, if_neg n1, if_neg n2]; exact hx2.2)
      · rw [show onF w x = -1 by omega]
        refine onF_none (fun a ha q => ?_)
        rw [isM_ex h0 hm ho] at ha
        rw [hcel a ha.1.1] at q
        by_cases a1 : a = m
        · rw [if_pos a1] at q; exact e2 q.symm
        · by_cases a2 : a = o
          · rw [if_neg a1, if_pos a2] at q; exact e1 q.symm
          · rw [if_neg a1, if_neg a2] at q
            exact onF_no h0 (show onF w x < 0 by omega) ha q
theorem Wd.exch (h : Wd w τ) (h0 : w 0 ≤ 10) (hj : InjM w) (hm : isM w m) (ho : isM w o) (hne : o ≠ m) : Wd (exW w m o (celF w o) (celF w m)) (excC τ (mnC τ m) (mnC τ o) (celF w m) (celF w o) m o) := by
  have rm := isM_le hm h0
  have ro := isM_le ho h0
  have hM := (h.mem h0 hm).1.1
  have hO := (h.mem h0 ho).1.1
  have hMO := h.inj h0 hm ho (Ne.symm hne)
  unfold excC
  refine h.cells h0 (fun i hi => by show updW (updW w _ _) _ _ i = w i; rw [upd_ne (hi o ro.1 ro.2), upd_ne (hi m rm.1 rm.2)]) (isM_ex h0 hm ho) rfl rfl (fun x x1 x2 => ?_) (fun x x0 x1 => ?_) (fun a ha j => ?_)
  · rw [sg_st' (by omega), sg_st' (by omega), sg_st' x2, sg_st' x2]
  · rw [sg_st' (by omega), sg_st' (by omega), sg_st, sg_st, onF_ex hj h0 hm ho hne, (h.1.1 x x0 x1).2]
    have h1 : 0 ≤ celF w m := hm.2
    have h2 : 0 ≤ celF w o := ho.2
    simp only [toNat_ne x0 h1, toNat_ne x0 h2]
  · have hA := (h.mem h0 ha).1.1
    rw [exW_cel w hm.1.1 ho.1.1 ha.1.1 hne]
    by_cases a1 : a = m
    · subst a1
      rw [if_pos rfl, sg_st' (Ne.symm hMO), sg_st, sg_st' (by omega), sg_st' (by omega)]
    · by_cases a2 : a = o
      · subst a2
        rw [if_neg a1, if_pos rfl, sg_st, sg_st' hMO, sg_st' (by omega), sg_st' (by omega)]
      · have n1 := h.inj h0 hm ha (Ne.symm a1)
        have n2 := h.inj h0 ho ha (Ne.symm a2)
        rw [if_neg a1, if_neg a2, sg_st' n2, sg_st' n1, sg_st' (by omega), sg_st' (by omega)]
        by_cases e : j = 1
        · rw [if_pos e, e]; exact (h.mem h0 ha).2.2.1
        · rw [if_neg e]
theorem cc_exchanges (h : Wd w τ) (h0 : w 0 ≤ 10) (hm : isM w m) (ho : isM w o) (hne : o ≠ m) (hcm : celF w m < 120) (hco : celF w o < 120) : Cf kap 0 rX1_exchanges [.inr 100, .inr (mnC τ m), .inr (mnC τ o)] τ none (excC τ (mnC τ m) (mnC τ o) (celF w m) (celF w o) m o) := by
  intro d hd
  have hM := h.mem h0 hm
  have hO := h.mem h0 ho
  have hk := hM.kd (T := kap)
  have hk2 := hO.kd (T := kap)
  have hw := h.wr h0 hm
  have hw2 := h.wr h0 ho
  have h0m : 0 ≤ celF w m := hm.2
  have h0o : 0 ≤ celF w o := ho.2
  have e1 := hM.2.2.1
  have e0 := hM.2.1
  have f1 := hO.2.2.1
  have f0 := hO.2.1
  have hMO := h.inj h0 hm ho (Ne.symm hne)
  have hn : mnC τ m ≠ 102 := by have := hM.1.1; omega
  have hn2 : mnC τ o ≠ 102 := by have := hO.1.1; omega
  refine wc_aload_n dX1_exchanges_0 rfl ?_
  refine wc_getI dX1_exchanges_1 (kF1_70 rfl) hk rfl ?_
  rw [e1]
  refine wc_istore_n dX1_exchanges_4 rfl ?_
  refine wc_aload_n dX1_exchanges_5 rfl ?_
  refine wc_getC dX1_exchanges_6 (kF1_15 rfl) rfl rfl ?_
  refine wc_aload_n dX1_exchanges_9 rfl ?_
  refine wc_getI dX1_exchanges_10 (kF1_70 rfl) hk2 rfl ?_
  rw [f1]
  refine wc_aload_n dX1_exchanges_13 rfl ?_
  refine wc_getI dX1_exchanges_14 (kF1_73 rfl) hk rfl ?_
  rw [e0]
  refine wc_iastore dX1_exchanges_17 rfl ⟨by decide, Or.inl (by decide)⟩ rfl ⟨h0o, by omega⟩ _ rfl ?_
  refine wc_aload_n dX1_exchanges_18 rfl ?_
  refine wc_getC dX1_exchanges_19 (kF1_15 rfl) rfl rfl ?_
  refine wc_iload_n dX1_exchanges_22 rfl ?_
  refine wc_aload_n dX1_exchanges_23 rfl ?_
  refine wc_getI dX1_exchanges_24 (kF1_73 rfl) hk2 rfl ?_
  rw [sg_st' hn2, f0]
  refine wc_iastore dX1_exchanges_27 rfl ⟨by decide, Or.inl (by decide)⟩ rfl ⟨h0m, by omega⟩ _ rfl ?_
  refine wc_aload_n dX1_exchanges_28 rfl ?_
  refine wc_aload_n dX1_exchanges_29 rfl ?_
  refine wc_getI dX1_exchanges_30 (kF1_70 rfl) hk2 rfl ?_
  rw [sg_st' hn2, sg_st' hn2, f1]
  refine wc_putI dX1_exchanges_33 (kF1_70 rfl) rfl hk rfl hw (Or.inl rfl) ?_
  refine wc_aload_n dX1_exchanges_36 rfl ?_
  refine wc_iload_n dX1_exchanges_37 rfl ?_
  refine wc_putI dX1_exchanges_38 (kF1_70 rfl) rfl hk2 rfl hw2 (Or.inl rfl) ?_
  refine wc_vreturn dX1_exchanges_41 rfl ?_
  exact ⟨rfl, rfl⟩
end MOV
