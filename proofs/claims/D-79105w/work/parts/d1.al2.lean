/-! ArrayList, continued -/
set_option maxRecDepth 100000
section AL2
variable {T : Nat → Option CK} {τ t u : CT} {a x n s ci y k d : Nat} {v c e : Int} {Q : Option AV → CT → Prop}
theorem ALs.fr (h : ALs T t a x n s ci) (hk : ∀ v k, kd T t v = some k → kd T u v = some k) (h0 : n0C u = n0C t) (h1 : sg u a 1 = sg t a 1) (h2 : sg u a 2 = sg t a 2) (h3 : sg u x = sg t x) : ALs T u a x n s ci := by
  obtain ⟨⟨ka, wa⟩, ⟨e1, e2, e3, e4, e5⟩, hx, hel⟩ := h
  refine ⟨⟨hk _ _ ka, wrC_wk wa h0⟩, ⟨by rw [h1]; exact e1, by rw [h2]; exact e2, e3, e4, e5⟩, ?_, fun i hi => ?_⟩
  · rcases hx with ⟨q1, q2, g, q3⟩ | ⟨q1, q2, q3, q4⟩
    · exact Or.inl ⟨q1, q2, g, hk _ _ q3⟩
    · exact Or.inr ⟨q1, hk _ _ q2, wrC_wk q3 h0, q4⟩
  · obtain ⟨fs, hf⟩ := hel i hi
    rw [h3]
    exact ⟨fs, hk _ _ hf⟩
theorem ALs.ne (h : ALs T t a x n s ci) : x ≠ a := by
  rcases h.2.2.1 with ⟨q1, -, -⟩ | ⟨-, -, -, q⟩
  · rw [q1]
    have := h.1.2.1
    omega
  · exact q
theorem ALs.mod (h : ALs T t a x n s ci) : ALs T (stC t a 0 v) a x n s ci := h.fr (fun _ _ q => q) rfl (by rw [sg_st, if_neg (by decide)]) (by rw [sg_st, if_neg (by decide)]) (sg_st' h.ne)
theorem cc_add2 (hA : ALs T t a x n s ci) (hs : s < 200) (hci : (mFit 0 ci && (ci == 1 || ci == 4 || ci == 7 || ci == 9)) = true) (hy : ∃ fs, kd T t y = some (ckO ci fs)) : Ct T 4 rJ2_add_2 [.inr a, .inr y, .inr x, .inl (s : Int)] t (fun v u => none = v ∧ AddP T a x n s ci y t u) := by
  have hxa := hA.ne
  have hA2 := hA
  obtain ⟨⟨ka, wa⟩, ⟨e1, e2, e3, e4, e5⟩, hx, hel⟩ := hA
  obtain ⟨fs, ky⟩ := hy
  have hfit := ((Bool.and_eq_true _ _).mp hci).1
  intro d hd
  refine Wc.rp (fun ⟨hnv, hlt⟩ => ?_)
  have han := hlt _ _ ka
  have hyn := hlt _ _ ky
  have hal : ∃ g, kd T t x = some (.inr (.inl (if n = 0 then 4 else 0, n, g))) := by
    rcases hx with ⟨q1, q2, g, q3⟩ | ⟨q1, q2, -, -⟩
    · exact ⟨_, by rw [q1, q3, if_pos q2, q2]⟩
    · exact ⟨_, by rw [q2, if_neg (by omega)]⟩
  obtain ⟨gx, hal⟩ := hal
  by_cases hsn : s < n
  · rcases hx with ⟨-, q, -⟩ | ⟨h0, kx, wx, -⟩
    · omega
    · have hxn := hlt _ _ kx
      refine wc_iload_n dJ2_add_2_0 rfl ?_
      refine wc_aload_n dJ2_add_2_1 rfl ?_
      refine wc_alenR dJ2_add_2_2 hal ?_
      refine wc_icmp dJ2_add_2_3 (cB_ne (show rng _ by omega) (show rng _ by omega)) 11 rfl (fun c3 => ?_) (fun c3 => ?_)
      ·
        refine wc_aload_n dJ2_add_2_11 rfl ?_
        refine wc_iload_n dJ2_add_2_12 rfl ?_
        refine wc_aload_n dJ2_add_2_13 rfl ?_
        refine wc_aastore dJ2_add_2_14 kx rfl wx (decide_eq_true (by omega)) ⟨by omega, by omega⟩ (Or.inr ⟨_, _, ky, hfit⟩) _ rfl ?_
        refine wc_aload_n dJ2_add_2_15 rfl ?_
        refine wc_iload_n dJ2_add_2_16 rfl ?_
        refine wc_iconst dJ2_add_2_17 ?_
        refine wc_iadd dJ2_add_2_18 ?_
        refine wc_putI dJ2_add_2_19 (kF22_48 rfl) rfl ka rfl wa (Or.inl rfl) ?_
        refine wc_vreturn dJ2_add_2_22 rfl ?_
        refine ⟨rfl, x, n, ?_, fun i hi => ?_, ?_, Or.inl ⟨rfl, rfl, hsn, rfl, rfl⟩, ⟨rfl, ⟨Nat.le_refl _, Nat.le_succ _⟩, fun v _ => rfl, fun v _ h1 h2 => ?_⟩, by show uC t ≤ _; omega⟩
        · refine ⟨⟨ka, wa⟩, ⟨?_, ?_, by omega, by omega, by omega⟩, Or.inr ⟨h0, kx, wx, hxa⟩, fun i hi => ?_⟩
          · rw [sg_st, if_neg (by decide), sg_st' (Ne.symm hxa)]; exact e1
          · rw [sg_st, if_pos rfl]; omega
          · rw [sg_st' hxa, sg_st]
            by_cases q : i = (s : Int).toNat
            · rw [if_pos q, Int.toNat_natCast]; exact ⟨fs, ky⟩
            · rw [if_neg q]; exact hel i (by omega)
        · rw [sg_st' hxa, sg_st, if_neg (by omega)]
        · rw [sg_st' hxa, sg_st, if_pos (by omega)]
        · rw [sg_st' h1, sg_st' h2]
      ·
        omega
  · have hse : s = n := by omega
    have hg := cc_grow hA2 hse hci hs
    refine wc_iload_n dJ2_add_2_0 rfl ?_
    refine wc_aload_n dJ2_add_2_1 rfl ?_
    refine wc_alenR dJ2_add_2_2 hal ?_
    refine wc_icmp dJ2_add_2_3 (cB_ne (show rng _ by omega) (show rng _ by omega)) 11 rfl (fun c3 => ?_) (fun c3 => ?_)
    ·
      omega
    ·
      refine wc_aload_n dJ2_add_2_6 rfl ?_
      refine wc_call dJ2_add_2_7 rfl (hg) (by omega) (hx_V (kV22_129 rfl) rfl ka rfl rfl) ?_
      rintro _ _ ⟨n', rfl, ⟨g1, g1b, g1c⟩, g2, g3, g4, g5, g5b, g6, g7, g8⟩
      have kx2 := kd_dyn (T := T) (by omega) g2
      have ka2 := (kd_lt (T := T) han (g7 _ han)).trans ka
      refine wc_astore_n dJ2_add_2_10 rfl ?_
      refine wc_aload_n dJ2_add_2_11 rfl ?_
      refine wc_iload_n dJ2_add_2_12 rfl ?_
      refine wc_aload_n dJ2_add_2_13 rfl ?_
      refine wc_aastore dJ2_add_2_14 kx2 rfl ⟨by omega, Or.inr (by rw [g6.1]; exact hnv.2)⟩ (decide_eq_true (by omega)) ⟨by omega, by omega⟩ (Or.inr ⟨_, _, by rw [kd_lt hyn (g7 _ hyn)]; exact ky, hfit⟩) _ rfl ?_
      refine wc_aload_n dJ2_add_2_15 rfl ?_
      refine wc_iload_n dJ2_add_2_16 rfl ?_
      refine wc_iconst dJ2_add_2_17 ?_
      refine wc_iadd dJ2_add_2_18 ?_
      refine wc_putI dJ2_add_2_19 (kF22_48 rfl) rfl ka2 rfl (wrC_wk wa g6.1) (Or.inl rfl) ?_
      refine wc_vreturn dJ2_add_2_22 rfl ?_
      refine ⟨rfl, nvC t, n', ?_, fun i hi => ?_, ?_, Or.inr ⟨rfl, hse, g1b, g1c, by have e := g6.2.1; simp only [nvC, stC] at e ⊢; omega⟩, ⟨g6.1, by have e := g6.2.1; simp only [nvC, stC] at e ⊢; omega, fun v hv => g7 v hv, fun v hv h1 h2 => ?_⟩, by have e := g6.2.2; simp only [uC, stC] at e ⊢; omega⟩
      · refine ⟨⟨ka2, wrC_wk wa g6.1⟩, ⟨?_, ?_, by omega, by omega, by omega⟩, Or.inr ⟨by omega, kx2, ⟨by omega, Or.inr (by have e := g6.1; have := hnv.2; simp only [n0C, nvC, stC] at *; omega)⟩, by omega⟩, fun i hi => ?_⟩
        · rw [sg_st, if_neg (by decide), sg_st' (by omega)]; exact g5
        · rw [sg_st, if_pos rfl]; omega
        · rw [sg_st' (by omega), sg_st]
          by_cases q : i = (s : Int).toNat
          · rw [if_pos q, Int.toNat_natCast]; exact ⟨fs, (kd_lt hyn (g7 _ hyn)).trans ky⟩
          · rw [if_neg q, g3 i (by omega)]
            obtain ⟨f2, h2⟩ := hel i (by omega)
            exact ⟨f2, (kd_lt (hlt _ _ h2) (g7 _ (hlt _ _ h2))).trans h2⟩
      · rw [sg_st' (by omega), sg_st, if_neg (by omega)]
        exact g3 i hi
      · rw [sg_st' (by omega), sg_st, if_pos (by omega)]
      · rw [sg_st' h1, sg_st' (by omega)]
        exact g8 v hv h1
theorem cc_add (hA : ALs T t a x n s ci) (hs : s < 200) (hci : (mFit 0 ci && (ci == 1 || ci == 4 || ci == 7 || ci == 9)) = true) (hy : ∃ fs, kd T t y = some (ckO ci fs)) : Ct T 5 rJ2_add [.inr a, .inr y] t (fun v u => some (.inl 1) = v ∧ AddP T a x n s ci y t u) := by
  intro d hd
  have hA1 := hA.mod (v := sg t a 0 + 1)
  have hq := cc_add2 hA1 hs hci hy
  have hxa := hA.ne
  refine wc_aload_n dJ2_add_0 rfl ?_
  refine wc_dup dJ2_add_1 ?_
  refine wc_getI dJ2_add_2 (kF22_63 rfl) hA.1.1 rfl ?_
  refine wc_iconst dJ2_add_5 ?_
  refine wc_iadd dJ2_add_6 ?_
  refine wc_putI dJ2_add_7 (kF22_63 rfl) rfl hA.1.1 rfl hA.1.2 (Or.inl rfl) ?_
  refine wc_aload_n dJ2_add_10 rfl ?_
  refine wc_aload_n dJ2_add_11 rfl ?_
  refine wc_aload_n dJ2_add_12 rfl ?_
  refine wc_getR (y := x) dJ2_add_13 (kF22_9 rfl) hA.1.1 rfl (by rw [hA1.2.1.1]; exact Int.toNat_natCast x) ?_
  refine wc_aload_n dJ2_add_16 rfl ?_
  refine wc_getI dJ2_add_17 (kF22_48 rfl) hA.1.1 rfl ?_
  rw [hA1.2.1.2.1]
  refine wc_call dJ2_add_20 rfl (hq) (by omega) (hx_V (kV22_131 rfl) rfl hA.1.1 rfl rfl) ?_
  rintro _ _ ⟨rfl, x', n', g1, g2, g3, g4, ⟨g5, g6, g7, g8⟩, g9⟩
  refine wc_iconst dJ2_add_23 ?_
  refine wc_breturn dJ2_add_24 rfl (by omega) ?_
  refine ⟨rfl, x', n', g1, fun i hi => ?_, g3, g4, ⟨g5, g6, g7, fun v hv h1 h2 => ?_⟩, g9⟩
  · rw [g2 i hi, sg_st' hxa]
  · rw [g8 v hv h1 h2, sg_st' h1]
theorem cc_size2 (hA : ALs T t a x n s ci) : Cf T 0 rJ2_size [.inr a] t (some (.inl (s : Int))) t := by
  intro d hd
  refine wc_aload_n dJ2_size_0 rfl ?_
  refine wc_getI dJ2_size_1 (kF22_48 rfl) hA.1.1 rfl ?_
  rw [hA.2.1.2.1]
  refine wc_ireturn dJ2_size_4 rfl ?_
  exact ⟨rfl, rfl⟩
theorem cc_checkIndex (h : 0 ≤ v ∧ v < c) (hc : c ≤ 1000) : Cf T 1 rJ6_checkIndex [.inl v, .inl c] t (some (.inl v)) t := by
  intro d hd
  have h7 : Cf T 0 rJ7_checkIndex [.inl v, .inl c, .inr 0] t (some (.inl v)) t := by
    intro d hd
    refine wc_iload_n dJ7_checkIndex_0 rfl ?_
    refine wc_if dJ7_checkIndex_1 (cB_lt (show rng _ by omega) ⟨by omega, by omega⟩) 9 rfl (fun c1 => ?_) (fun c1 => ?_)
    ·
      omega
    ·
      refine wc_iload_n dJ7_checkIndex_4 rfl ?_
      refine wc_iload_n dJ7_checkIndex_5 rfl ?_
      refine wc_icmp dJ7_checkIndex_6 (cB_lt (show rng _ by omega) (show rng _ by omega)) 16 rfl (fun c6 => ?_) (fun c6 => ?_)
      ·
        refine wc_iload_n dJ7_checkIndex_16 rfl ?_
        refine wc_ireturn dJ7_checkIndex_17 rfl ?_
        exact ⟨rfl, rfl⟩
      ·
        omega
  refine wc_iload_n dJ6_checkIndex_0 rfl ?_
  refine wc_iload_n dJ6_checkIndex_1 rfl ?_
  refine wc_null dJ6_checkIndex_2 ?_
  refine wc_call dJ6_checkIndex_3 rfl (h7) (by omega) (hx_S (kS26_105 rfl) (kSn26_105 rfl) rfl rfl) ?_
  rintro _ _ ⟨rfl, rfl⟩
  refine wc_ireturn dJ6_checkIndex_6 rfl ?_
  exact ⟨rfl, rfl⟩
theorem cc_get (hA : ALs T t a x n s ci) (hv : 0 ≤ v ∧ v < s) : Cf T 2 rJ2_get [.inr a, .inl v] t (some (.inr (sg t x v.toNat).toNat)) t := by
  intro d hd
  have hx := hA.2.2.1
  have hb := hA.2.1
  rcases hx with ⟨-, q, -⟩ | ⟨h0, kx, wx, -⟩
  · omega
  · have h5 : Cf T 0 rJ2_elementData [.inr a, .inl v] t (some (.inr (sg t x v.toNat).toNat)) t := by
      intro d hd
      refine wc_aload_n dJ2_elementData_0 rfl ?_
      refine wc_getR (y := x) dJ2_elementData_1 (kF22_9 rfl) hA.1.1 rfl (by rw [hb.1]; exact Int.toNat_natCast x) ?_
      refine wc_iload_n dJ2_elementData_4 rfl ?_
      refine wc_aaload dJ2_elementData_5 kx rfl (decide_eq_true (by omega)) ⟨by omega, by omega⟩ rfl ?_
      refine wc_areturn dJ2_elementData_6 rfl ?_
      exact ⟨rfl, rfl⟩
    refine wc_iload_n dJ2_get_0 rfl ?_
    refine wc_aload_n dJ2_get_1 rfl ?_
    refine wc_getI dJ2_get_2 (kF22_48 rfl) hA.1.1 rfl ?_
    rw [hb.2.1]
    refine wc_call dJ2_get_5 rfl (cc_checkIndex hv (by omega)) (by omega) (hx_S (kS22_118 rfl) (kSn22_118 rfl) rfl rfl) ?_
    rintro _ _ ⟨rfl, rfl⟩
    refine wc_pop dJ2_get_8 ?_
    refine wc_aload_n dJ2_get_9 rfl ?_
    refine wc_iload_n dJ2_get_10 rfl ?_
    refine wc_call dJ2_get_11 rfl (h5) (by omega) (hx_V (kV22_123 rfl) rfl hA.1.1 rfl rfl) ?_
    rintro _ _ ⟨rfl, rfl⟩
    refine wc_areturn dJ2_get_14 rfl ?_
    exact ⟨rfl, rfl⟩
theorem cc_isEmpty2 (hA : ALs T t a x n s ci) : Cb T 0 rJ2_isEmpty [.inr a] t (s = 0) := by
  intro d hd
  have hb := hA.2.1
  refine wc_aload_n dJ2_isEmpty_0 rfl ?_
  refine wc_getI dJ2_isEmpty_1 (kF22_48 rfl) hA.1.1 rfl ?_
  rw [hb.2.1]
  refine wc_if dJ2_isEmpty_4 (cB_ne (show rng _ by omega) ⟨by omega, by omega⟩) 11 rfl (fun c4 => ?_) (fun c4 => ?_)
  ·
    refine wc_iconst dJ2_isEmpty_11 ?_
    refine wc_breturn dJ2_isEmpty_12 rfl (by omega) ?_
    first | exact ⟨rfl, Or.inl ⟨by omega, rfl⟩⟩ | exact ⟨rfl, Or.inr ⟨by omega, rfl⟩⟩
  ·
    refine wc_iconst dJ2_isEmpty_7 ?_
    refine wc_goto dJ2_isEmpty_8 12 rfl ?_
    refine wc_breturn dJ2_isEmpty_12 rfl (by omega) ?_
    first | exact ⟨rfl, Or.inl ⟨by omega, rfl⟩⟩ | exact ⟨rfl, Or.inr ⟨by omega, rfl⟩⟩
theorem cc_clear_loop (kx : ∀ t' : CT, t'.2.1 = t.2.1 → kd T t' x = some (ckR 0 n)) (wx : ∀ t' : CT, t'.1 = t.1 → wrC t' x) (hn : n ≤ 1000) : ∀ (j k : Nat) (t' : CT), k + j = s → s ≤ n → t'.1 = t.1 → t'.2.1 = t.2.1 → Wc T d rJ2_clear 27 [some (.inr a), some (.inr x), some (.inl (s : Int)), some (.inl (k : Int))] [] t' (nQ (fun v u => none = v ∧ u.1 = t.1 ∧ u.2.1 = t.2.1 ∧ (∀ y, y ≠ x → sg u y = sg t' y) ∧ ∀ i, sg u x i = if k ≤ i ∧ i < s then 0 else sg t' x i)) := by
  intro j
  induction j with
  | zero =>
    intro k t' hk hsn h1 h2
    refine wc_iload_n dJ2_clear_27 rfl ?_
    refine wc_iload_n dJ2_clear_28 rfl ?_
    refine wc_icmp dJ2_clear_29 (cB_ge (show rng _ by omega) (show rng _ by omega)) 42 rfl (fun c29 => ?_) (fun c29 => ?_)
    ·
      refine wc_vreturn dJ2_clear_42 rfl ?_
      exact ⟨rfl, h1, h2, fun _ _ => rfl, fun i => by rw [if_neg (by omega)]⟩
    ·
      omega
  | succ j ih =>
    intro k t' hk hsn h1 h2
    refine wc_iload_n dJ2_clear_27 rfl ?_
    refine wc_iload_n dJ2_clear_28 rfl ?_
    refine wc_icmp dJ2_clear_29 (cB_ge (show rng _ by omega) (show rng _ by omega)) 42 rfl (fun c29 => ?_) (fun c29 => ?_)
    ·
      omega
    ·
      refine wc_aload_n dJ2_clear_32 rfl ?_
      refine wc_iload_n dJ2_clear_33 rfl ?_
      refine wc_null dJ2_clear_34 ?_
      refine wc_aastore dJ2_clear_35 (kx _ h2) rfl (wx _ h1) (decide_eq_true (by omega)) ⟨by omega, by omega⟩ (Or.inl rfl) _ rfl ?_
      refine wc_iinc dJ2_clear_36 rfl ?_
      refine wc_goto dJ2_clear_39 27 rfl ?_
      have := ih (k + 1) (stC t' x (k : Int).toNat ((0 : Nat) : Int)) (by omega) hsn h1 h2
      rw [show (((k + 1 : Nat)) : Int) = (k : Int) + 1 by omega] at this
      refine this.mn (fun v u ⟨a1, a2, a3, a4, a5⟩ => ⟨a1, a2, a3, fun y hy => by rw [a4 y hy, sg_st' hy], fun i => ?_⟩)
      rw [a5 i, sg_st, Int.toNat_natCast]
      by_cases q : k + 1 ≤ i ∧ i < s
      · rw [if_pos q, if_pos ⟨by omega, q.2⟩]
      · rw [if_neg q]
        by_cases r : i = k
        · rw [if_pos r, if_pos (by omega)]; rfl
        · rw [if_neg r, if_neg (by omega)]
theorem cc_clear (hA : ALw T t a x n s) (hn : n ≤ 10) : Ct T 0 rJ2_clear [.inr a] t (fun v u => none = v ∧ ALw T u a x n 0 ∧ u.1 = t.1 ∧ u.2.1 = t.2.1 ∧ ∀ y, y ≠ a → y ≠ x → sg u y = sg t y) := by
  obtain ⟨⟨ka, wa⟩, ⟨e1, e2, e3, e4, e5⟩, hx⟩ := id hA
  have hxa : x ≠ a := by
    rcases hx with ⟨q1, -, -⟩ | ⟨-, -, -, q⟩
    · rw [q1]
      have := wa.1
      omega
    · exact q
  intro d hd
  have hsg : ∀ y, y ≠ a → sg (stC (stC t a 0 (sg t a 0 + 1)) a 2 0) y = sg t y := fun y hy => by rw [sg_st' hy, sg_st' hy]
  have ha1 : sg (stC (stC t a 0 (sg t a 0 + 1)) a 2 0) a 1 = (x : Int) := by rw [sg_st, if_neg (by decide), sg_st, if_neg (by decide), e1]
  have ha2 : sg (stC (stC t a 0 (sg t a 0 + 1)) a 2 0) a 2 = ((0 : Nat) : Int) := by rw [sg_st, if_pos rfl]; rfl
  rcases hx with ⟨rfl, h0, g, k3⟩ | ⟨h0, kx, wx, -⟩
  · have hs0 : s = 0 := by omega
    subst hs0
    refine wc_aload_n dJ2_clear_0 rfl ?_
    refine wc_dup dJ2_clear_1 ?_
    refine wc_getI dJ2_clear_2 (kF22_63 rfl) ka rfl ?_
    refine wc_iconst dJ2_clear_5 ?_
    refine wc_iadd dJ2_clear_6 ?_
    refine wc_putI dJ2_clear_7 (kF22_63 rfl) rfl ka rfl wa (Or.inl rfl) ?_
    refine wc_aload_n dJ2_clear_10 rfl ?_
    refine wc_getR (y := 3) dJ2_clear_11 (kF22_9 rfl) ka rfl (by rw [sg_st, if_neg (by decide), e1]; rfl) ?_
    refine wc_astore_n dJ2_clear_14 rfl ?_
    refine wc_aload_n dJ2_clear_15 rfl ?_
    refine wc_getI dJ2_clear_16 (kF22_48 rfl) ka rfl ?_
    rw [sg_st, if_neg (by decide), e2]
    refine wc_istore_n dJ2_clear_19 rfl ?_
    refine wc_aload_n dJ2_clear_20 rfl ?_
    refine wc_iconst dJ2_clear_21 ?_
    refine wc_dup_x1 dJ2_clear_22 ?_
    refine wc_putI dJ2_clear_23 (kF22_48 rfl) rfl ka rfl wa (Or.inl rfl) ?_
    refine wc_istore_n dJ2_clear_26 rfl ?_
    refine wc_iload_n dJ2_clear_27 rfl ?_
    refine wc_iload_n dJ2_clear_28 rfl ?_
    refine wc_icmp dJ2_clear_29 (cB_ge (by decide) (by decide)) 42 rfl (fun c29 => ?_) (fun c29 => ?_)
    ·
      refine wc_vreturn dJ2_clear_42 rfl ?_
      exact ⟨rfl, ⟨⟨ka, wa⟩, ⟨ha1, ha2, Nat.zero_le _, by omega, by omega⟩, Or.inl ⟨rfl, h0, g, k3⟩⟩, rfl, rfl, fun y h1 _ => hsg y h1⟩
    ·
      omega
  ·
    refine wc_aload_n dJ2_clear_0 rfl ?_
    refine wc_dup dJ2_clear_1 ?_
    refine wc_getI dJ2_clear_2 (kF22_63 rfl) ka rfl ?_
    refine wc_iconst dJ2_clear_5 ?_
    refine wc_iadd dJ2_clear_6 ?_
    refine wc_putI dJ2_clear_7 (kF22_63 rfl) rfl ka rfl wa (Or.inl rfl) ?_
    refine wc_aload_n dJ2_clear_10 rfl ?_
    refine wc_getR (y := x) dJ2_clear_11 (kF22_9 rfl) ka rfl (by rw [sg_st, if_neg (by decide), e1]; exact Int.toNat_natCast x) ?_
    refine wc_astore_n dJ2_clear_14 rfl ?_
    refine wc_aload_n dJ2_clear_15 rfl ?_
    refine wc_getI dJ2_clear_16 (kF22_48 rfl) ka rfl ?_
    rw [sg_st, if_neg (by decide), e2]
    refine wc_istore_n dJ2_clear_19 rfl ?_
    refine wc_aload_n dJ2_clear_20 rfl ?_
    refine wc_iconst dJ2_clear_21 ?_
    refine wc_dup_x1 dJ2_clear_22 ?_
    refine wc_putI dJ2_clear_23 (kF22_48 rfl) rfl ka rfl wa (Or.inl rfl) ?_
    refine wc_istore_n dJ2_clear_26 rfl ?_
    refine (cc_clear_loop (s := s) (t := stC (stC t a 0 (sg t a 0 + 1)) a 2 0) (fun t' h => by unfold kd at *; rw [h]; exact kx) (fun t' h => wrC_wk wx (by unfold n0C; rw [h]; rfl)) (by omega) s 0 _ (by omega) (by omega) rfl rfl).mn (fun v u ⟨a1, a2, a3, a4, a5⟩ => ?_)
    have hkd : ∀ y, kd T u y = kd T t y := fun y => by unfold kd; rw [a3]; rfl
    refine ⟨a1, ⟨⟨by rw [hkd]; exact ka, wrC_wk wa (by unfold n0C; rw [a2]; rfl)⟩, ⟨by rw [a4 a (Ne.symm hxa)]; exact ha1, by rw [a4 a (Ne.symm hxa)]; exact ha2, Nat.zero_le _, by omega, by omega⟩, Or.inr ⟨h0, by rw [hkd]; exact kx, wrC_wk wx (by unfold n0C; rw [a2]; rfl), hxa⟩⟩, a2, a3, fun y h1 h2 => by rw [a4 y h2, hsg y h1]⟩
end AL2
