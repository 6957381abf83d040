/-! THE CLASS'S METHODS, 24: worlds are made and copied -/
set_option maxRecDepth 100000
/-- a field of references: it holds y, in one way or the other -/
def GtF (T : Nat → Option CK) (τ : CT) (x ci j y : Nat) : Prop := ∃ fs, kd T τ x = some (ckO ci fs) ∧ ((fs[j]? = some (some none) ∧ (sg τ x j).toNat = y) ∨ fs[j]? = some (some (some y)))
def GtI (T : Nat → Option CK) (τ : CT) (x ci j : Nat) : Prop := ∃ fs, kd T τ x = some (ckO ci fs) ∧ fs[j]? = some none
section GTR
variable {T : Nat → Option CK} {d : Nat} {M : MRec} {pc : Nat} {ls : AL} {st : List AV} {τ : CT} {Q : CO → CT → Prop} {i j ci x y : Nat} {ty : FieldType} {fin : Bool}
theorem wc_getG (hd : decode (rC M) pc = .ok (.getfield i, 3)) (hf : mLk tF M i = some (ci, j, ty, fin)) (h : GtF T τ x ci j y) (K : Wc T d M (pc + 3) ls (.inr y :: st) τ Q) : Wc T d M pc ls (.inr x :: st) τ Q := by
  obtain ⟨fs, hk, ⟨h1, h2⟩ | h1⟩ := h
  · exact wc_getR hd hf hk h1 h2 K
  · exact wc_getC hd hf hk h1 K
theorem wc_getIG (hd : decode (rC M) pc = .ok (.getfield i, 3)) (hf : mLk tF M i = some (ci, j, ty, fin)) (h : GtI T τ x ci j) (K : Wc T d M (pc + 3) ls (.inl (sg τ x j) :: st) τ Q) : Wc T d M pc ls (.inr x :: st) τ Q := by
  obtain ⟨fs, hk, h1⟩ := h
  exact wc_getI hd hf hk h1 K
end GTR
abbrev woR : CK := ckO 1 [some none, some none, some none, some none, some none, none, none, none]
section WLD
variable {T : Nat → Option CK} {w : Nat → Int} {τ t u : CT} {m c v : Int} {d x y o n i j : Nat} {Q : Option AV → CT → Prop}
/-- a member is copied -/
theorem cc_memInit2 (hk : kd T t y = some memK) (hw : wrC t y) : Ct T 0 rX4_init_2 [.inr y, .inl m, .inl c] t (fun r u => none = r ∧ FrQ y t u ∧ sg u y 0 = m ∧ sg u y 1 = c ∧ sg u y 2 = -5 ∧ ∀ j, 3 ≤ j → sg u y j = sg t y j) := by
  intro d hd
  refine wc_aload_n dX4_init_2_0 rfl ?_
  refine wc_obj dX4_init_2_1 rfl (by rw [hk]; rfl) rfl ?_
  refine wc_aload_n dX4_init_2_4 rfl ?_
  refine wc_bipush dX4_init_2_5 (by decide) ?_
  refine wc_putI dX4_init_2_7 (kF4_9 rfl) rfl hk rfl hw (Or.inl rfl) ?_
  refine wc_aload_n dX4_init_2_10 rfl ?_
  refine wc_iload_n dX4_init_2_11 rfl ?_
  refine wc_putI dX4_init_2_12 (kF4_15 rfl) rfl hk rfl hw (Or.inl rfl) ?_
  refine wc_aload_n dX4_init_2_15 rfl ?_
  refine wc_iload_n dX4_init_2_16 rfl ?_
  refine wc_putI dX4_init_2_17 (kF4_18 rfl) rfl hk rfl hw (Or.inl rfl) ?_
  refine wc_vreturn dX4_init_2_20 rfl ?_
  exact ⟨rfl, (FrQ.st.tr FrQ.st).tr FrQ.st, by rw [sg_st, if_neg (by decide), sg_st, if_pos rfl], by rw [sg_st, if_pos rfl], by rw [sg_st, if_neg (by decide), sg_st, if_neg (by decide), sg_st, if_pos rfl], fun j hj => by rw [sg_st, if_neg (by omega), sg_st, if_neg (by omega), sg_st, if_neg (by omega)]⟩
theorem cc_memInit (hk : kd T t y = some memK) (hw : wrC t y) (ho : kd T t o = some memK) (hne : o ≠ y) : Ct T 1 rX4_init [.inr y, .inr o] t (fun r u => none = r ∧ FrQ y t u ∧ ∀ j, j < 7 → sg u y j = sg t o j) := by
  intro d hd
  refine wc_aload_n dX4_init_0 rfl ?_
  refine wc_aload_n dX4_init_1 rfl ?_
  refine wc_getI dX4_init_2 (kF4_15 rfl) ho rfl ?_
  refine wc_aload_n dX4_init_5 rfl ?_
  refine wc_getI dX4_init_6 (kF4_18 rfl) ho rfl ?_
  refine wc_call dX4_init_9 rfl (cc_memInit2 hk hw) (by omega) (hx_I (kI4_21 rfl) rfl hk rfl rfl) ?_
  rintro _ _ ⟨rfl, hF, h0, h1, h2, h3⟩
  rename_i t1
  have hk1 : kd T t1 y = some memK := by unfold kd; rw [hF.2.1]; exact hk
  have ho1 : kd T t1 o = some memK := by unfold kd; rw [hF.2.1]; exact ho
  have hw1 : wrC t1 y := wrC_wk hw (by unfold n0C; rw [hF.1])
  have eo : sg t1 o = sg t o := hF.2.2 o hne
  refine wc_aload_n dX4_init_12 rfl ?_
  refine wc_aload_n dX4_init_13 rfl ?_
  refine wc_getI dX4_init_14 (kF4_9 rfl) ho1 rfl ?_
  refine wc_putI dX4_init_17 (kF4_9 rfl) rfl hk1 rfl hw1 (Or.inl rfl) ?_
  refine wc_aload_n dX4_init_20 rfl ?_
  refine wc_aload_n dX4_init_21 rfl ?_
  refine wc_getI dX4_init_22 (kF4_24 rfl) ho1 rfl ?_
  refine wc_putI dX4_init_25 (kF4_24 rfl) rfl hk1 rfl hw1 (Or.inl rfl) ?_
  refine wc_aload_n dX4_init_28 rfl ?_
  refine wc_aload_n dX4_init_29 rfl ?_
  refine wc_getI dX4_init_30 (kF4_27 rfl) ho1 rfl ?_
  refine wc_putI dX4_init_33 (kF4_27 rfl) rfl hk1 rfl hw1 (Or.inl rfl) ?_
  refine wc_aload_n dX4_init_36 rfl ?_
  refine wc_aload_n dX4_init_37 rfl ?_
  refine wc_getI dX4_init_38 (kF4_30 rfl) ho1 rfl ?_
  refine wc_putI dX4_init_41 (kF4_30 rfl) rfl hk1 rfl hw1 (Or.inl rfl) ?_
  refine wc_aload_n dX4_init_44 rfl ?_
  refine wc_aload_n dX4_init_45 rfl ?_
  refine wc_getI dX4_init_46 (kF4_33 rfl) ho1 rfl ?_
  refine wc_putI dX4_init_49 (kF4_33 rfl) rfl hk1 rfl hw1 (Or.inl rfl) ?_
  refine wc_vreturn dX4_init_52 rfl ?_
  refine ⟨rfl, hF.tr ((((FrQ.st.tr FrQ.st).tr FrQ.st).tr FrQ.st).tr FrQ.st), fun j hj => ?_⟩
  simp only [sg_st, sg_st' hne, eo]
  have hj7 : j = 0 ∨ j = 1 ∨ j = 2 ∨ j = 3 ∨ j = 4 ∨ j = 5 ∨ j = 6 := by omega
  rcases hj7 with rfl | rfl | rfl | rfl | rfl | rfl | rfl
  · simpa using h0
  · simpa using h1
  · simp
  · simp
  · simp
  · simp
  · simp
theorem cc_wInit_loop {a1 : Nat} (ha : ∀ t' : CT, t'.2.1 = t.2.1 → kd T t' a1 = some (ckI 0 120)) (hwa : ∀ t' : CT, t'.1 = t.1 → wrC t' a1) (hx : ∀ t' : CT, t'.2.1 = t.2.1 → kd T t' x = some woR) (hxa : x ≠ a1) (hx1 : sg t x 1 = (a1 : Int)) : ∀ (k c : Nat) (t' : CT), c + k = 120 → t'.1 = t.1 → t'.2.1 = t.2.1 → sg t' x = sg t x → Wc T d rX1_init 59 [some (.inr x), some (.inl (c : Int))] [] t' (nQ (fun r u => none = r ∧ u = fiC t' a1 c 120 (-1))) := by
  intro k
  induction k with
  | zero =>
    intro c t' hc h1 h2 h3
    have e : c = 120 := by omega
    subst e
    refine wc_iload_n dX1_init_59 rfl ?_
    refine wc_bipush dX1_init_60 (by decide) ?_
    refine wc_icmp dX1_init_62 (cB_ge ⟨by omega, by omega⟩ ⟨by omega, by omega⟩) 78 rfl (fun c62 => ?_) (fun c62 => ?_)
    ·
      refine wc_vreturn dX1_init_78 rfl ?_
      exact ⟨rfl, fiC_end.symm⟩
    ·
      omega
  | succ k ih =>
    intro c t' hc h1 h2 h3
    refine wc_iload_n dX1_init_59 rfl ?_
    refine wc_bipush dX1_init_60 (by decide) ?_
    refine wc_icmp dX1_init_62 (cB_ge ⟨by omega, by omega⟩ ⟨by omega, by omega⟩) 78 rfl (fun c62 => ?_) (fun c62 => ?_)
    ·
      omega
    ·
      refine wc_aload_n dX1_init_65 rfl ?_
      refine wc_getR (y := a1) dX1_init_66 (kF1_15 rfl) (hx _ h2) rfl (by rw [h3, hx1]; exact Int.toNat_natCast a1) ?_
      refine wc_iload_n dX1_init_69 rfl ?_
      refine wc_iconst dX1_init_70 ?_
      refine wc_iastore dX1_init_71 (ha _ h2) (hwa _ h1) rfl ⟨by omega, by omega⟩ _ rfl ?_
      refine wc_iinc dX1_init_72 rfl ?_
      refine wc_goto dX1_init_75 59 rfl ?_
      have := ih (c + 1) (stC t' a1 (c : Int).toNat (-1)) (by omega) h1 h2 (by rw [sg_st' hxa]; exact h3)
      rw [show (((c + 1 : Nat)) : Int) = (c : Int) + 1 by omega] at this
      refine this.mn (fun v u q => ⟨q.1, ?_⟩)
      rw [q.2, Int.toNat_natCast, fiC_step (by omega)]
end WLD
