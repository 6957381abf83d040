/-! ArrayList: remove(0) -/
set_option maxRecDepth 100000
section AL3
variable {T : Nat → Option CK} {τ t u : CT} {a x n s ci y k d : Nat} {v c e : Int} {Q : Option AV → CT → Prop}
/-- the first element taken away -/
def RmP (T : Nat → Option CK) (a x n s ci : Nat) (t u : CT) : Prop := ALs T u a x n (s - 1) ci ∧ (∀ i, i < s - 1 → sg u x i = sg t x (i + 1)) ∧ (n0C u = n0C t ∧ nvC u = nvC t ∧ uC u = uC t) ∧ (∀ v, u.2.1 v = t.2.1 v) ∧ ∀ v, v ≠ a → v ≠ x → sg u v = sg t v
theorem cc_remove0 (hA : ALs T t a x n s ci) (hs : 0 < s ∧ n + 2 ≤ 10 + 2 * s) (hci : (mFit 0 ci && (ci == 1 || ci == 4 || ci == 7 || ci == 9)) = true) : Ct T 2 rJ2_remove [.inr a, .inl 0] t (fun v u => some (.inr (sg t x 0).toNat) = v ∧ RmP T a x n s ci t u) := by
  have hxa := hA.ne
  have hA2 := hA
  obtain ⟨⟨ka, wa⟩, ⟨e1, e2, e3, e4, e5⟩, hx, hel⟩ := hA
  rcases hx with ⟨-, q, -⟩ | ⟨h0, kx, wx, -⟩
  · exact absurd hs.1 (by omega)
  have hf : Ct T 0 rJ2_fastRemove [.inr a, .inr x, .inl 0] t (fun v u => none = v ∧ RmP T a x n s ci t u) := by
    intro d hd
    have hfin : ∀ t1 : CT, t1.1 = t.1 → t1.2.1 = t.2.1 → (sg t1 a 1 = (x : Int) ∧ sg t1 a 2 = (s : Int)) → (∀ i, i < s - 1 → sg t1 x i = sg t x (i + 1)) → (∀ v, v ≠ a → v ≠ x → sg t1 v = sg t v) → Wc T d rJ2_fastRemove 34 [some (.inr a), some (.inr x), some (.inl 0), some (.inl ((s : Int) - 1))] [] t1 (nQ (fun v u => none = v ∧ RmP T a x n s ci t u)) := fun t1 f1 f2 f3 f4 f5 => by
      have K : ∀ y, kd T t1 y = kd T t y := fun y => by unfold kd; rw [f2]
      have ka1 := (K a).trans ka
      have kx1 := (K x).trans kx
      have wk : ∀ y, wrC t y → wrC t1 y := fun y h => wrC_wk h (by unfold n0C; rw [f1])
      have wa1 := wk a wa
      have wx1 := wk x wx
      refine wc_aload_n dJ2_fastRemove_34 rfl ?_
      refine wc_aload_n dJ2_fastRemove_35 rfl ?_
      refine wc_iload_n dJ2_fastRemove_36 rfl ?_
      refine wc_dup_x1 dJ2_fastRemove_37 ?_
      refine wc_putI dJ2_fastRemove_38 (kF22_48 rfl) rfl ka1 rfl wa1 (Or.inl rfl) ?_
      refine wc_null dJ2_fastRemove_41 ?_
      refine wc_aastore dJ2_fastRemove_42 kx1 rfl wx1 (decide_eq_true (by omega)) ⟨by omega, by omega⟩ (Or.inl rfl) _ rfl ?_
      refine wc_vreturn dJ2_fastRemove_43 rfl ?_
      have es : ((s : Int) - 1).toNat = s - 1 := by omega
      refine ⟨rfl, ⟨⟨(K a).trans ka, wa1⟩, ⟨?_, ?_, by omega, by omega, by omega⟩, Or.inr ⟨h0, (K x).trans kx, wx1, hxa⟩, fun i hi => ?_⟩, fun i hi => ?_, ⟨by show t1.1.1 = t.1.1; rw [f1], by show t1.1.2.1 = t.1.2.1; rw [f1], by show t1.1.2.2 = t.1.2.2; rw [f1]⟩, fun v => by show t1.2.1 v = _; rw [f2], fun v h1 h2 => ?_⟩
      · rw [sg_st' (Ne.symm hxa), sg_st, if_neg (by decide)]; exact f3.1
      · rw [sg_st' (Ne.symm hxa), sg_st, if_pos rfl]; omega
      · rw [sg_st, if_neg (by omega), sg_st' hxa, f4 i hi]
        obtain ⟨fs, q⟩ := hel (i + 1) (by omega)
        exact ⟨fs, (K _).trans q⟩
      · rw [sg_st, if_neg (by omega), sg_st' hxa, f4 i hi]
      · rw [sg_st' h2, sg_st' h1, f5 v h1 h2]
    refine wc_aload_n dJ2_fastRemove_0 rfl ?_
    refine wc_dup dJ2_fastRemove_1 ?_
    refine wc_getI dJ2_fastRemove_2 (kF22_63 rfl) ka rfl ?_
    refine wc_iconst dJ2_fastRemove_5 ?_
    refine wc_iadd dJ2_fastRemove_6 ?_
    refine wc_putI dJ2_fastRemove_7 (kF22_63 rfl) rfl ka rfl wa (Or.inl rfl) ?_
    refine wc_aload_n dJ2_fastRemove_10 rfl ?_
    refine wc_getI dJ2_fastRemove_11 (kF22_48 rfl) ka rfl ?_
    refine wc_iconst dJ2_fastRemove_14 ?_
    rw [sg_st, if_neg (by decide), e2]
    refine wc_isub dJ2_fastRemove_15 ?_
    refine wc_dup dJ2_fastRemove_16 ?_
    refine wc_istore_n dJ2_fastRemove_17 rfl ?_
    refine wc_iload_n dJ2_fastRemove_18 rfl ?_
    refine wc_icmp dJ2_fastRemove_19 (cB_le ⟨by omega, by omega⟩ ⟨by omega, by omega⟩) 34 rfl (fun c19 => ?_) (fun c19 => ?_)
    ·
      exact hfin _ rfl rfl ⟨by rw [sg_st, if_neg (by decide)]; exact e1, by rw [sg_st, if_neg (by decide)]; exact e2⟩ (fun i hi => by omega) (fun v h1 h2 => sg_st' h1)
    ·
      refine wc_aload_n dJ2_fastRemove_22 rfl ?_
      refine wc_iload_n dJ2_fastRemove_23 rfl ?_
      refine wc_iconst dJ2_fastRemove_24 ?_
      refine wc_iadd dJ2_fastRemove_25 ?_
      refine wc_aload_n dJ2_fastRemove_26 rfl ?_
      refine wc_iload_n dJ2_fastRemove_27 rfl ?_
      refine wc_iload_n dJ2_fastRemove_28 rfl ?_
      refine wc_iload_n dJ2_fastRemove_29 rfl ?_
      refine wc_isub dJ2_fastRemove_30 ?_
      refine wc_cpyR dJ2_fastRemove_31 rfl kx kx wx ci hci (fun j hj => by rw [sg_st' hxa]; obtain ⟨fs, q⟩ := hel (1 + j) (by omega); exact Or.inr ⟨fs, q⟩) rfl (by omega) (by omega) (by omega) (by omega) (by omega) ⟨by omega, by omega⟩ ?_
      refine hfin _ rfl rfl ⟨?_, ?_⟩ (fun i hi => ?_) (fun v h1 h2 => ?_)
      · rw [cp_o (Ne.symm hxa), sg_st, if_neg (by decide)]; exact e1
      · rw [cp_o (Ne.symm hxa), sg_st, if_neg (by decide)]; exact e2
      · rw [cp_y, if_pos (by omega), sg_st' hxa]
        exact congrArg (sg t x) (by omega)
      · rw [cp_o h2, sg_st' h1]
  intro d hd
  refine wc_iload_n dJ2_remove_0 rfl ?_
  refine wc_aload_n dJ2_remove_1 rfl ?_
  refine wc_getI dJ2_remove_2 (kF22_48 rfl) ka rfl ?_
  rw [e2]
  refine wc_call dJ2_remove_5 rfl (cc_checkIndex (v := 0) (c := (s : Int)) ⟨by omega, by omega⟩ (by omega)) (by omega) (hx_S (kS22_118 rfl) (kSn22_118 rfl) rfl rfl) ?_
  rintro _ _ ⟨rfl, rfl⟩
  refine wc_pop dJ2_remove_8 ?_
  refine wc_aload_n dJ2_remove_9 rfl ?_
  refine wc_getR (y := x) dJ2_remove_10 (kF22_9 rfl) ka rfl (by rw [e1]; exact Int.toNat_natCast x) ?_
  refine wc_astore_n dJ2_remove_13 rfl ?_
  refine wc_aload_n dJ2_remove_14 rfl ?_
  refine wc_iload_n dJ2_remove_15 rfl ?_
  refine wc_aaload dJ2_remove_16 kx rfl (decide_eq_true (by omega)) ⟨by omega, by omega⟩ rfl ?_
  refine wc_astore_n dJ2_remove_17 rfl ?_
  refine wc_aload_n dJ2_remove_18 rfl ?_
  refine wc_aload_n dJ2_remove_19 rfl ?_
  refine wc_iload_n dJ2_remove_20 rfl ?_
  refine wc_call dJ2_remove_21 rfl (hf) (by omega) (hx_V (kV22_144 rfl) rfl ka rfl rfl) ?_
  rintro _ _ ⟨rfl, hR⟩
  refine wc_aload_n dJ2_remove_24 rfl ?_
  refine wc_areturn dJ2_remove_25 rfl ?_
  exact ⟨rfl, hR⟩
end AL3
