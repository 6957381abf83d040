/-! THE CLASS'S METHODS, 58: the reader: signs, needs -/
set_option maxRecDepth 100000
abbrev rdK : CK := ckO 5 [some none, some none, none, none, none, some none]
abbrev wrK : CK := ckO 6 [some none, some none, some none, some none, some none, none, none]
/-- one cell is changed -/
theorem stC_q (t : CT) (q i : Nat) (v : Int) : FrQ q t (stC t q i v) := ⟨rfl, rfl, fun y hy => sg_st' hy⟩
/-- the reader at y stands at place p, has read r -/
def RD (y : Nat) (p : Int) (r : Nat → Int) (t : CT) : Prop := ((1000 ≤ y ∧ n0C t ≤ y ∧ y + 3 ≤ nvC t) ∧ (t.2.1 y = some rdK ∧ t.2.1 (y + 1) = some (ckI 0 10) ∧ t.2.1 (y + 2) = some (ckI 0 10)) ∧ (sg t y 0 = ((y + 1 : Nat) : Int) ∧ sg t y 1 = ((y + 2 : Nat) : Int) ∧ sg t y 5 = 10)) ∧ (sg t y 2 = r 0 ∧ sg t y 3 = r 1 ∧ sg t y 4 = p) ∧ ∀ k : Int, 0 ≤ k → k < r 0 → sg t (y + 1) k.toNat = r (2 + 2 * k).toNat ∧ sg t (y + 2) k.toNat = r (3 + 2 * k).toNat
/-- a fault at p, thrown -/
def Thr (t : CT) (p : Int) (q : Nat) (u : CT) : Prop := (110 ≤ q ∧ u.2.1 q = some wrK ∧ sg u q 6 = p) ∧ FrE t u ∧ nvC u ≤ nvC t + 1 ∧ uC u ≤ uC t + 7
section QRD
variable {T : Nat → Option CK} {w w' : Nat → Int} {R : Nat → Nat → Int} {τ t u : CT} {m c v C x s f e A P n p : Int} {d i j k a b z pc y q : Nat} {Q : Option AV → CT → Prop} {M : MRec} {ls : AL} {st : List AV} {r : Nat → Int}
theorem cc_thr (hk : t.2.1 q = some wrK) (hq : 110 ≤ q) (hw : wrC t q) : Ct kap 2 rX6_init [.inr q, .inl p] t (fun v u => none = v ∧ FrQ q t u ∧ sg u q 6 = p) := by
  have hkd : ∀ t' : CT, FrQ q t t' → kd kap t' q = some wrK := fun t' g => kd_dyn hq (by rw [g.2.1]; exact hk)
  have hwr : ∀ t' : CT, FrQ q t t' → wrC t' q := fun t' g => wrC_wk hw (by unfold n0C; rw [g.1])
  have h8 : Ct kap 0 rJ8_init_2 [.inr q, .inr 0, .inr 0, .inl 0, .inl 0] t (fun v u => none = v ∧ FrQ q t u) := by
    intro d hd
    have k0 := hkd t FrQ.rf
    have w0 := hwr t FrQ.rf
    refine wc_aload_n dJ8_init_2_0 rfl ?_
    refine wc_obj dJ8_init_2_1 rfl (by rw [k0]; rfl) rfl ?_
    refine wc_aload_n dJ8_init_2_4 rfl ?_
    refine wc_aload_n dJ8_init_2_5 rfl ?_
    refine wc_putR dJ8_init_2_6 (kF28_7 rfl) rfl k0 rfl w0 rfl ?_
    refine wc_aload_n dJ8_init_2_9 rfl ?_
    refine wc_getstatic dJ8_init_2_10 (kT28_13 rfl) rfl ?_
    refine wc_putR dJ8_init_2_13 (kF28_17 rfl) rfl k0 rfl w0 rfl ?_
    refine wc_aload_n dJ8_init_2_16 rfl ?_
    refine wc_getstatic dJ8_init_2_17 (kT28_20 rfl) rfl ?_
    refine wc_putR dJ8_init_2_20 (kF28_24 rfl) rfl k0 rfl w0 rfl ?_
    refine wc_iload dJ8_init_2_23 rfl ?_
    refine wc_if dJ8_init_2_25 (cB_eq ⟨by omega, by omega⟩ ⟨by omega, by omega⟩) 36 rfl (fun c25 => ?_) (fun c25 => ?_)
    ·
      refine wc_aload_n dJ8_init_2_36 rfl ?_
      refine wc_null dJ8_init_2_37 ?_
      refine wc_putR dJ8_init_2_38 (kF28_17 rfl) rfl k0 rfl w0 rfl ?_
      refine wc_aload_n dJ8_init_2_41 rfl ?_
      refine wc_aload_n dJ8_init_2_42 rfl ?_
      refine wc_putR dJ8_init_2_43 (kF28_31 rfl) rfl k0 rfl w0 rfl ?_
      refine wc_aload_n dJ8_init_2_46 rfl ?_
      refine wc_aload_n dJ8_init_2_47 rfl ?_
      refine wc_putR dJ8_init_2_48 (kF28_7 rfl) rfl k0 rfl w0 rfl ?_
      refine wc_iload_n dJ8_init_2_51 rfl ?_
      refine wc_if dJ8_init_2_52 (cB_ne ⟨by omega, by omega⟩ ⟨by omega, by omega⟩) 60 rfl (fun c52 => ?_) (fun c52 => ?_)
      ·
        omega
      ·
        refine wc_aload_n dJ8_init_2_55 rfl ?_
        refine wc_null dJ8_init_2_56 ?_
        refine wc_putR dJ8_init_2_57 (kF28_24 rfl) rfl k0 rfl w0 rfl ?_
        refine wc_vreturn dJ8_init_2_60 rfl ?_
        exact ⟨rfl, (((((stC_q _ _ _ _).tr (stC_q _ _ _ _)).tr (stC_q _ _ _ _)).tr (stC_q _ _ _ _)).tr (stC_q _ _ _ _)).tr ((stC_q _ _ _ _).tr (stC_q _ _ _ _))⟩
    ·
      omega
  have h9 : Ct kap 1 rJ9_init [.inr q, .inr 0, .inr 0, .inl 0, .inl 0] t (fun v u => none = v ∧ FrQ q t u) := by
    intro d hd
    have k0 := hkd t FrQ.rf
    refine wc_aload_n dJ9_init_0 rfl ?_
    refine wc_aload_n dJ9_init_1 rfl ?_
    refine wc_aload_n dJ9_init_2 rfl ?_
    refine wc_iload_n dJ9_init_3 rfl ?_
    refine wc_iload dJ9_init_4 rfl ?_
    refine wc_call dJ9_init_6 rfl (h8) (by omega) (hx_I (kI29_16 rfl) rfl k0 rfl rfl) ?_
    rintro _ _ ⟨rfl, g⟩
    refine wc_vreturn dJ9_init_9 rfl ?_
    exact ⟨rfl, g⟩
  intro d hd
  have k0 := hkd t FrQ.rf
  refine wc_aload_n dX6_init_0 rfl ?_
  refine wc_null dX6_init_1 ?_
  refine wc_null dX6_init_2 ?_
  refine wc_iconst dX6_init_3 ?_
  refine wc_iconst dX6_init_4 ?_
  refine wc_call dX6_init_5 rfl (h9) (by omega) (hx_I (kI6_1 rfl) rfl k0 rfl rfl) ?_
  rintro _ _ ⟨rfl, g⟩
  refine wc_aload_n dX6_init_8 rfl ?_
  refine wc_iload_n dX6_init_9 rfl ?_
  refine wc_putI dX6_init_10 (kF6_7 rfl) rfl (hkd _ g) rfl (hwr _ g) (Or.inl rfl) ?_
  refine wc_vreturn dX6_init_13 rfl ?_
  exact ⟨rfl, g.tr (stC_q _ _ _ _), by rw [sg_st, if_pos rfl]⟩
theorem RD.ky (h : RD y p r t) : kd kap t y = some rdK := kd_dyn (by have := h.1.1; omega) h.1.2.1.1
theorem RD.k1 (h : RD y p r t) : kd kap t (y + 1) = some (ckI 0 10) := kd_dyn (by have := h.1.1; omega) h.1.2.1.2.1
theorem RD.k2 (h : RD y p r t) : kd kap t (y + 2) = some (ckI 0 10) := kd_dyn (by have := h.1.1; omega) h.1.2.1.2.2
theorem RD.wr (h : RD y p r t) : wrC t y := ⟨by have := h.1.1; omega, Or.inr h.1.1.2.1⟩
theorem RD.w1 (h : RD y p r t) : wrC t (y + 1) := ⟨by have := h.1.1; omega, Or.inr (by have := h.1.1; omega)⟩
theorem RD.w2 (h : RD y p r t) : wrC t (y + 2) := ⟨by have := h.1.1; omega, Or.inr (by have := h.1.1; omega)⟩
theorem RD.e5 (h : RD y p r t) : (sg t y 5).toNat = 10 := by rw [h.1.2.2.2.2]; rfl
theorem cc_need (h : RD y p r t) (hc : c = 0 ∨ c = 1) (hp : rng p) : CtX kap 3 rX5_need [.inr y, .inl c] t (fun v u => (c = 1 ∧ v = .inl none ∧ t = u) ∨ (c = 0 ∧ ∃ q, v = .inr q ∧ Thr t p q u)) := by
  intro d hd
  refine Wc.rp (fun ⟨hnv, hlt⟩ => ?_)
  have hlt2 := h.1.1
  have hF : FrE t (newC t wrK 7 (fun _ => 0)) := FrE.new
  have kyn : kd kap (newC t wrK 7 (fun _ => 0)) y = some rdK := by rw [kd_new (by omega)]; exact h.ky
  refine wc_iload_n dX5_need_0 rfl ?_
  refine wc_if dX5_need_1 (cB_ne (show rng _ by omega) ⟨by omega, by omega⟩) 16 rfl (fun c1 => ?_) (fun c1 => ?_)
  ·
    refine wc_vreturn dX5_need_16 rfl ?_
    exact Or.inl ⟨by omega, rfl, rfl⟩
  ·
    refine wc_new dX5_need_4 (kN5_36 rfl) rfl ?_
    refine wc_dup dX5_need_7 ?_
    refine wc_aload_n dX5_need_8 rfl ?_
    refine wc_getI dX5_need_9 (kF5_26 rfl) kyn rfl ?_
    rw [sg_new (by omega), h.2.1.2.2]
    refine wc_call dX5_need_12 rfl (cc_thr (t := newC t wrK 7 (fun _ => 0)) (q := nvC t) (if_pos rfl) (by omega) ⟨by omega, Or.inr hnv.2⟩) (by omega) (hx_I (kI5_38 rfl) rfl (kd_nw (by omega)) rfl rfl) ?_
    rintro _ _ ⟨rfl, g1, g2⟩
    rename_i u1
    have hk : u1.2.1 (nvC t) = some wrK := by rw [g1.2.1]; exact if_pos rfl
    refine wc_athrow dX5_need_15 (kd_dyn (by omega) hk) rfl ?_
    have e0 : n0C u1 = n0C t := by unfold n0C; rw [g1.1]; rfl
    have ev : nvC u1 = nvC t + 1 := by unfold nvC; rw [g1.1]; rfl
    have eu : uC u1 = uC t + 7 := by unfold uC; rw [g1.1]; rfl
    exact Or.inr ⟨by omega, _, rfl, ⟨by omega, hk, g2⟩, ⟨e0, by omega, fun y' hy => ⟨by rw [g1.2.1]; exact (hF.2.2 y' hy).1, by rw [g1.2.2 y' (by omega)]; exact (hF.2.2 y' hy).2⟩⟩, by omega, by omega⟩
theorem cc_sign (h : RD y p r t) (hp : 0 ≤ p ∧ p < 100000) (hT : 0 ≤ sg t 10 14 ∧ sg t 10 14 ≤ 60) : Cf kap 0 rX5_sign [.inr y] t (some (.inl (heF (sg t 21) (sg t 10 14) p))) t := by
  intro d hd
  have ky := h.ky
  refine wc_aload_n dX5_sign_0 rfl ?_
  refine wc_getI dX5_sign_1 (kF5_26 rfl) ky rfl ?_
  rw [h.2.1.2.2]
  refine wc_aload_n dX5_sign_4 rfl ?_
  refine wc_getR (y := 10) dX5_sign_5 (kF5_3 rfl) ky rfl h.e5 ?_
  refine wc_getI dX5_sign_8 (kF5_29 rfl) rfl rfl ?_
  refine wc_icmp dX5_sign_11 (cB_ge (show rng _ by omega) (show rng _ by omega)) 29 rfl (fun c11 => ?_) (fun c11 => ?_)
  ·
    refine wc_iconst dX5_sign_29 ?_
    refine wc_ireturn dX5_sign_30 rfl ?_
    exact ⟨by rw [heF, if_neg (by omega)], rfl⟩
  ·
    refine wc_aload_n dX5_sign_14 rfl ?_
    refine wc_getR (y := 10) dX5_sign_15 (kF5_3 rfl) ky rfl h.e5 ?_
    refine wc_getC dX5_sign_18 (kF5_32 rfl) rfl rfl ?_
    refine wc_aload_n dX5_sign_21 rfl ?_
    refine wc_getI dX5_sign_22 (kF5_26 rfl) ky rfl ?_
    rw [h.2.1.2.2]
    refine wc_baload dX5_sign_25 rfl rfl rfl ⟨by omega, by omega⟩ _ rfl ?_
    refine wc_goto dX5_sign_26 30 rfl ?_
    refine wc_ireturn dX5_sign_30 rfl ?_
    exact ⟨by rw [heF, if_pos (by omega)], rfl⟩
end QRD
