/-! THE CLASS'S METHODS, 9: a chain is made, places are given -/
set_option maxRecDepth 100000
/-- the entries from lo to n of x are v -/
def fiC (t : CT) (x lo n : Nat) (v : Int) : CT := (t.1, t.2.1, fun a i => if a = x ∧ lo ≤ i ∧ i < n then v else t.2.2 a i)
section GIV2
variable {w : Nat → Int} {τ t u : CT} {m c v p s A T : Int} {d k y x n : Nat} {Q : Option AV → CT → Prop} {g : GS} {TT : Nat → Option CK}
theorem fiC_step (hk : k < n) : fiC (stC t x k v) x (k + 1) n v = fiC t x k n v := by
  unfold fiC stC
  refine Prod.ext rfl (Prod.ext rfl (funext fun a => funext fun i => ?_))
  dsimp only
  by_cases ha : a = x
  · by_cases h1 : k + 1 ≤ i ∧ i < n
    · rw [if_pos ⟨ha, h1⟩, if_pos ⟨ha, by omega⟩]
    · rw [if_neg (fun q => h1 q.2)]
      by_cases h2 : i = k
      · rw [if_pos ⟨ha, h2⟩, if_pos ⟨ha, by omega⟩]
      · rw [if_neg (fun q => h2 q.2), if_neg (fun q => by have := q.2; omega)]
  · rw [if_neg (fun q => ha q.1), if_neg (fun q => ha q.1), if_neg (fun q => ha q.1)]
theorem fiC_end : fiC t x n n v = t := by
  unfold fiC
  refine Prod.ext rfl (Prod.ext rfl (funext fun a => funext fun i => ?_))
  dsimp only
  rw [if_neg (fun q => by have := q.2; omega)]
theorem sg_fi {j : Nat} : sg (fiC t x 0 n v) x j = if j < n then v else sg t x j := by
  unfold fiC sg
  dsimp only
  by_cases h : j < n
  · rw [if_pos ⟨rfl, by omega, h⟩, if_pos h]
  · rw [if_neg (fun q => h q.2.2), if_neg h]
theorem sg_fi' {lo y : Nat} (h : y ≠ x) : sg (fiC t x lo n v) y = sg t y := by
  unfold fiC sg
  funext j
  dsimp only
  rw [if_neg (fun q => h q.1)]
theorem cc_fill_loop (hx : ∀ t : CT, t.2.1 = τ.2.1 → kd TT t x = some (ckI 0 n)) (hw : ∀ t : CT, t.1 = τ.1 → wrC t x) (hn : n ≤ 100000) : ∀ (j k : Nat) (t : CT), k + j = n → t.1 = τ.1 → t.2.1 = τ.2.1 → Wc TT d rJ5_fill 5 [some (.inr x), some (.inl v), some (.inl (k : Int)), some (.inl (n : Int))] [] t (nQ (fun r u => none = r ∧ fiC t x k n v = u)) := by
  intro j
  induction j with
  | zero =>
    intro k t hk h1 h2
    have e : k = n := by omega
    subst e
    refine wc_iload_n dJ5_fill_5 rfl ?_
    refine wc_iload_n dJ5_fill_6 rfl ?_
    refine wc_icmp dJ5_fill_7 (cB_ge ⟨by omega, by omega⟩ ⟨by omega, by omega⟩) 20 rfl (fun c7 => ?_) (fun c7 => ?_)
    ·
      refine wc_vreturn dJ5_fill_20 rfl ?_
      exact ⟨rfl, fiC_end⟩
    ·
      omega
  | succ j ih =>
    intro k t hk h1 h2
    refine wc_iload_n dJ5_fill_5 rfl ?_
    refine wc_iload_n dJ5_fill_6 rfl ?_
    refine wc_icmp dJ5_fill_7 (cB_ge ⟨by omega, by omega⟩ ⟨by omega, by omega⟩) 20 rfl (fun c7 => ?_) (fun c7 => ?_)
    ·
      omega
    ·
      refine wc_aload_n dJ5_fill_10 rfl ?_
      refine wc_iload_n dJ5_fill_11 rfl ?_
      refine wc_iload_n dJ5_fill_12 rfl ?_
      refine wc_iastore dJ5_fill_13 (hx _ h2) (hw _ h1) (decide_eq_true hn) ⟨by omega, by omega⟩ _ rfl ?_
      refine wc_iinc dJ5_fill_14 rfl ?_
      refine wc_goto dJ5_fill_17 5 rfl ?_
      have := ih (k + 1) (stC t x (k : Int).toNat v) (by omega) h1 h2
      rw [show (((k + 1 : Nat)) : Int) = (k : Int) + 1 by omega] at this
      refine this.mn (fun r u q => ⟨q.1, ?_⟩)
      rw [← q.2, Int.toNat_natCast, fiC_step (by omega)]
theorem cc_fill (hx : ∀ t : CT, t.2.1 = τ.2.1 → kd TT t x = some (ckI 0 n)) (hw : wrC τ x) (hn : n ≤ 100000) : Cf TT 0 rJ5_fill [.inr x, .inl v] τ none (fiC τ x 0 n v) := by
  intro d hd
  refine wc_iconst dJ5_fill_0 ?_
  refine wc_istore_n dJ5_fill_1 rfl ?_
  refine wc_aload_n dJ5_fill_2 rfl ?_
  refine wc_alenI dJ5_fill_3 (hx _ rfl) ?_
  refine wc_istore_n dJ5_fill_4 rfl ?_
  exact (cc_fill_loop hx (fun t h => by unfold wrC n0C at *; rw [h]; exact hw) hn n 0 τ (by omega) rfl rfl).mn (fun r u q => q)
/-- a chain cell -/
def nchC (t : CT) (y a yb : Nat) (m : Int) : CT := fiC (stC (stC (stC (stC t y 3 10) y 0 a) y 1 yb) y 2 ((30 + m.toNat : Nat) : Int)) (30 + m.toNat) 0 1024 (-1)
theorem cc_chain (hy : 110 ≤ y) (hk : t.2.1 y = some chK) (hw : wrC t y) (h : Wd w t) (h0 : w 0 ≤ 10) (hm : isM w m) (hne : mnC t m ≠ y) {yb : Nat} : Cf kap 1 rX8_init [.inr y, .inr 10, .inr (mnC t m), .inr yb] t none (nchC t y (mnC t m) yb m) := by
  intro d hd
  have hr := isM_le hm h0
  have hM := h.mem h0 hm
  have hkm := hM.kd (T := kap)
  have ky : kd kap t y = some chK := kd_dyn hy hk
  have e0 := hM.2.1
  refine wc_aload_n dX8_init_0 rfl ?_
  refine wc_aload_n dX8_init_1 rfl ?_
  refine wc_putR dX8_init_2 (kF8_3 rfl) rfl ky rfl hw rfl ?_
  refine wc_aload_n dX8_init_5 rfl ?_
  refine wc_obj dX8_init_6 rfl (by rw [kd_st, ky]; rfl) rfl ?_
  refine wc_aload_n dX8_init_9 rfl ?_
  refine wc_aload_n dX8_init_10 rfl ?_
  refine wc_putR dX8_init_11 (kF8_15 rfl) rfl ky rfl hw rfl ?_
  refine wc_aload_n dX8_init_14 rfl ?_
  refine wc_aload_n dX8_init_15 rfl ?_
  refine wc_putR dX8_init_16 (kF8_19 rfl) rfl ky rfl hw rfl ?_
  refine wc_aload_n dX8_init_19 rfl ?_
  refine wc_aload_n dX8_init_20 rfl ?_
  refine wc_getC dX8_init_21 (kF8_23 rfl) rfl rfl ?_
  refine wc_aload_n dX8_init_24 rfl ?_
  refine wc_getI dX8_init_25 (kF8_27 rfl) hkm rfl ?_
  rw [sg_st' hne, sg_st' hne, sg_st' hne, e0]
  refine wc_aaloadC dX8_init_28 rfl rfl rfl ⟨by omega, by omega⟩ (if_pos (by omega)) ?_
  refine wc_putR dX8_init_29 (kF8_33 rfl) rfl ky rfl hw rfl ?_
  refine wc_aload_n dX8_init_32 rfl ?_
  refine wc_getR (y := 30 + m.toNat) dX8_init_33 (kF8_33 rfl) ky rfl (by rw [sg_st, if_pos rfl]; exact Int.toNat_natCast _) ?_
  refine wc_iconst dX8_init_36 ?_
  refine wc_call dX8_init_37 rfl (cc_fill (x := 30 + m.toNat) (n := 1024) (fun t _ => kap_sums (by omega)) ⟨by omega, by omega⟩ (by decide)) (by omega) (hx_S (kS8_37 rfl) (kSn8_37 rfl) rfl rfl) ?_
  rintro _ _ ⟨rfl, rfl⟩
  refine wc_vreturn dX8_init_40 rfl ?_
  exact ⟨rfl, rfl⟩
end GIV2
