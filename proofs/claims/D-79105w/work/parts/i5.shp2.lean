/-! THE CLASS'S METHODS, 62: the reader made, a shape read -/
set_option maxRecDepth 100000
/-- what Reader.shape leaves -/
def SHQ (y : Nat) (τ : CT) (E : Int × (Nat → Int)) (v : CO) (u : CT) : Prop := (∃ q, v = .inr q ∧ 0 ≤ E.1 ∧ ThD y E.1 τ q u) ∨ (∃ z, v = .inl (some (.inr z)) ∧ E.1 = -1 ∧ RI E.2 ∧ 0 ≤ E.2 1 ∧ (y ≤ z ∧ z + 3 ≤ nvC u) ∧ ShR E.2 z u ∧ FrD y τ u ∧ nvC u ≤ nvC τ + 3 ∧ uC u ≤ uC τ + 23)
section QSH2
variable {T : Nat → Option CK} {w w' : Nat → Int} {R : Nat → Nat → Int} {τ t u t0 : CT} {m c v C x s f e A P p Y : Int} {d i j k a b z pc y q n : Nat} {Q : CO → CT → Prop} {M : MRec} {ls : AL} {st : List AV} {r : Nat → Int} {E : Int × (Nat → Int)} {tp : Nat → Int}
theorem cc_rdInit {s : Nat → Int} (hk : t.2.1 y = some rdK) (hy : 1000 ≤ y ∧ n0C t ≤ y ∧ nvC t = y + 1) (h0 : sg t y = fun _ => 0) : Ct kap 0 rX5_init [.inr y, .inr 10] t (fun v u => none = v ∧ RD y 0 (updW (updW s 0 0) 1 (-1)) u ∧ FrD y t u ∧ nvC u = y + 3 ∧ uC u = uC t + 20) := by
  intro d hd
  have ky : kd kap t y = some rdK := kd_dyn (by omega) hk
  have hw : wrC t y := ⟨by omega, Or.inr hy.2.1⟩
  have k1 : kd kap (newC (stC t y 5 10) (ckI 0 10) 10 (fun _ => 0)) y = some rdK := by rw [kd_new (by show y ≠ nvC t; omega)]; exact ky
  have k2 : kd kap (newC (stC (newC (stC t y 5 10) (ckI 0 10) 10 (fun _ => 0)) y 0 ((nvC t : Nat) : Int)) (ckI 0 10) 10 (fun _ => 0)) y = some rdK := by rw [kd_new (by show y ≠ nvC t + 1; omega)]; exact k1
  refine wc_aload_n dX5_init_0 rfl ?_
  refine wc_aload_n dX5_init_1 rfl ?_
  refine wc_putR dX5_init_2 (kF5_3 rfl) rfl ky rfl hw rfl ?_
  refine wc_aload_n dX5_init_5 rfl ?_
  refine wc_obj dX5_init_6 rfl (by rw [kd_st, ky]; rfl) rfl ?_
  refine wc_aload_n dX5_init_9 rfl ?_
  refine wc_bipush dX5_init_10 (by decide) ?_
  refine wc_newI 0 (Or.inl ⟨rfl, rfl⟩) dX5_init_12 ⟨by omega, by omega⟩ 10 rfl ?_
  refine wc_putR dX5_init_14 (kF5_15 rfl) rfl k1 rfl hw rfl ?_
  refine wc_aload_n dX5_init_17 rfl ?_
  refine wc_bipush dX5_init_18 (by decide) ?_
  refine wc_newI 0 (Or.inl ⟨rfl, rfl⟩) dX5_init_20 ⟨by omega, by omega⟩ 10 rfl ?_
  refine wc_putR dX5_init_22 (kF5_19 rfl) rfl k2 rfl hw rfl ?_
  refine wc_aload_n dX5_init_25 rfl ?_
  refine wc_iconst dX5_init_26 ?_
  refine wc_putI dX5_init_27 (kF5_22 rfl) rfl k2 rfl hw (Or.inl rfl) ?_
  refine wc_vreturn dX5_init_30 rfl ?_
  have e : ∀ j, sg (stC (stC (newC (stC (newC (stC t y 5 10) (ckI 0 10) 10 (fun _ => 0)) y 0 ((nvC t : Nat) : Int)) (ckI 0 10) 10 (fun _ => 0)) y 1 ((nvC t + 1 : Nat) : Int)) y 3 (-1)) y j = if j = 3 then -1 else if j = 1 then ((nvC t + 1 : Nat) : Int) else if j = 0 then ((nvC t : Nat) : Int) else if j = 5 then 10 else 0 := fun j => by
    rw [sg_st, sg_st, sg_new (by show y ≠ nvC t + 1; omega), sg_st, sg_new (by show y ≠ nvC t; omega), sg_st, h0]
  have eD : ∀ v, (stC (stC (newC (stC (newC (stC t y 5 10) (ckI 0 10) 10 (fun _ => 0)) y 0 ((nvC t : Nat) : Int)) (ckI 0 10) 10 (fun _ => 0)) y 1 ((nvC t + 1 : Nat) : Int)) y 3 (-1)).2.1 v = if v = nvC t + 1 then some (ckI 0 10) else if v = nvC t then some (ckI 0 10) else t.2.1 v := fun v => rfl
  refine ⟨rfl, ⟨⟨⟨hy.1, hy.2.1, by show y + 3 ≤ nvC t + 1 + 1; omega⟩, ⟨?_, ?_, ?_⟩, ?_, ?_, ?_⟩, ⟨?_, ?_, ?_⟩, fun k k0 k1 => ?_⟩, ⟨⟨rfl, by show nvC t ≤ nvC t + 1 + 1; omega⟩, fun v hv => ?_, fun v hv => ?_⟩, by show nvC t + 1 + 1 = _; omega, by show uC t + 10 + 10 = _; omega⟩
  · refine (eD _).trans ?_; rw [if_neg (by omega), if_neg (by omega)]; exact hk
  · refine (eD _).trans ?_; rw [if_neg (by omega), if_pos (by omega)]
  · refine (eD _).trans ?_; rw [if_pos (by omega)]
  · refine (e 0).trans ?_
    rw [if_neg (by decide), if_neg (by decide), if_pos rfl]; omega
  · refine (e 1).trans ?_
    rw [if_neg (by decide), if_pos rfl]; omega
  · exact (e 5).trans rfl
  · refine (e 2).trans ?_
    rw [upd_ne (by decide), updS]; rfl
  · refine (e 3).trans ?_
    rw [updS]; rfl
  · exact (e 4).trans rfl
  · rw [upd_ne (by decide), updS] at k1; omega
  · refine (eD _).trans ?_; rw [if_neg (by omega), if_neg (by omega)]
  · rw [sg_st' (by omega), sg_st' (by omega), sg_new (by show v ≠ nvC t + 1; omega), sg_st' (by omega), sg_new (by show v ≠ nvC t; omega), sg_st' (by omega)]
theorem rdF_lt {tp : Nat → Int} {T : Int} : ∀ (n : Nat) (y x p : Int) (r : Nat → Int), r 1 < r 0 → 0 ≤ r 0 → (rdF tp T n y x p r).2 1 < (rdF tp T n y x p r).2 0 := by
  intro n
  induction n with
  | zero => intro y x p r h _; exact h
  | succ n ih =>
    intro y x p r h h0
    unfold rdF
    split
    · exact h
    · split
      · split
        · exact h
        · exact ih _ _ _ _ h h0
      · split
        · exact h
        · split
          · refine ih _ _ _ _ ?_ (by rw [slot_0]; omega)
            rw [slot_0, slot_1 h0]
            split <;> omega
          · exact ih _ _ _ _ h h0
theorem rd_end {T : Int} (hn : 0 < n) (h : ¬ (p < T ∨ x = 0)) : rdF tp T n Y x p r = (if r 1 < 0 then T else -1, r) := by
  obtain ⟨k, rfl⟩ : ∃ k, n = k + 1 := ⟨n - 1, by omega⟩
  unfold rdF
  rw [if_pos h]
theorem rd_row {T : Int} (h0 : p < T) (h1 : heF tp T p = 47) (h2 : ¬ (x = 0 ∨ Y = 5)) : rdF tp T (n + 1) Y x p r = rdF tp T n (Y + 1) 0 (p + 1) r := by
  conv => lhs; unfold rdF
  rw [if_neg (fun q => q (Or.inl h0)), if_pos h1, if_neg h2]
theorem cc_rshape_52 {o : Option AV} (hT : 0 ≤ sg τ 10 14 ∧ sg τ 10 14 ≤ 60) (ht : ∀ i, 0 ≤ sg τ 21 i ∧ sg τ 21 i ≤ 127) (hE2 : E.2 1 < E.2 0) (hd : 5 ≤ d) (hE : rdF (sg τ 21) (sg τ 10 14) n Y x p r = E) (hn : (n : Int) = 100 - p) (hx : 0 < x ∧ x ≤ 6) (hp : 0 ≤ p ∧ p ≤ sg τ 10 14) (hR : RI r) (hh : ¬ (slc (heF (sg τ 21) (sg τ 10 14) p) ∨ heF (sg τ 21) (sg τ 10 14) p = 46)) (h47 : ¬ heF (sg τ 21) (sg τ 10 14) p = 47) (hD : RD y p r t) (hF : FrD y τ t) (hnu : nvC t = nvC τ ∧ uC t = uC τ) : Wc kap d rX5_shape 52 [some (.inr y), o] [] t (SHQ y τ E) := by
  refine Wc.rp (fun ⟨hnv, hlt⟩ => ?_)
  have h10 : sg t 10 = sg τ 10 := hF.2.2 10 (by have := hD.1.1; omega)
  have hy1 := hD.1.1
  have ky := hD.ky
  have hR0 := hR.1
  have hR1 := hR.2
  have kyn : kd kap (newC t shK 3 (fun _ => 0)) y = some rdK := by rw [kd_new (by omega)]; exact ky
  have syn : sg (newC t shK 3 (fun _ => 0)) y = sg t y := sg_new (by omega)
  refine wc_aload_n dX5_shape_52 rfl ?_
  refine wc_aload_n dX5_shape_53 rfl ?_
  refine wc_getI dX5_shape_54 (kF5_26 rfl) ky rfl ?_
  rw [hD.2.1.2.2]
  refine wc_aload_n dX5_shape_57 rfl ?_
  refine wc_getR (y := 10) dX5_shape_58 (kF5_3 rfl) ky rfl hD.e5 ?_
  refine wc_getI dX5_shape_61 (kF5_29 rfl) rfl rfl ?_
  rw [h10]
  refine wc_icmp dX5_shape_64 (cB_ne (show rng _ by omega) (show rng _ by omega)) 78 rfl (fun c64 => ?_) (fun c64 => ?_)
  ·
    refine wc_iconst dX5_shape_78 ?_
    refine wc_callX dX5_shape_79 rfl (cc_need0 hD (by omega)) (by omega) (hx_V (kV5_49 rfl) rfl ky rfl rfl) ?_ ?_
    · rintro _ _ ⟨q, h, -⟩
      cases h
    · rintro _ _ ⟨q, h, hT⟩
      cases h
      exact Or.inl ⟨rfl, Or.inl ⟨_, rfl, by rw [← hE, rd_bad (by omega) ⟨Or.inl (by omega), Or.inr ⟨h47, Or.inl ⟨fun q => hh (Or.inl q), fun q => hh (Or.inr q)⟩⟩⟩]; exact hp.1, by rw [← hE, rd_bad (by omega) ⟨Or.inl (by omega), Or.inr ⟨h47, Or.inl ⟨fun q => hh (Or.inl q), fun q => hh (Or.inr q)⟩⟩⟩]; exact (hT.thd (by omega)).fr hF hnu⟩⟩
  ·
    refine wc_aload_n dX5_shape_67 rfl ?_
    refine wc_getI dX5_shape_68 (kF5_22 rfl) ky rfl ?_
    rw [hD.2.1.2.1]
    refine wc_if dX5_shape_71 (cB_lt (show rng _ by omega) ⟨by omega, by omega⟩) 78 rfl (fun c71 => ?_) (fun c71 => ?_)
    ·
      refine wc_iconst dX5_shape_78 ?_
      refine wc_callX dX5_shape_79 rfl (cc_need0 hD (by omega)) (by omega) (hx_V (kV5_49 rfl) rfl ky rfl rfl) ?_ ?_
      · rintro _ _ ⟨q, h, -⟩
        cases h
      · rintro _ _ ⟨q, h, hT⟩
        cases h
        exact Or.inl ⟨rfl, Or.inl ⟨_, rfl, by rw [← hE, rd_end (by omega) (by omega), if_pos c71, show sg τ 10 14 = p by omega]; exact hp.1, by rw [← hE, rd_end (by omega) (by omega), if_pos c71, show sg τ 10 14 = p by omega]; exact (hT.thd (by omega)).fr hF hnu⟩⟩
    ·
      refine wc_iconst dX5_shape_74 ?_
      refine wc_goto dX5_shape_75 79 rfl ?_
      refine wc_call dX5_shape_79 rfl (cc_need1 hD (by omega)) (by omega) (hx_V (kV5_49 rfl) rfl ky rfl rfl) ?_
      rintro _ _ ⟨rfl, rfl⟩
      have hEr : E = (-1, r) := by rw [← hE, rd_end (by omega) (by omega), if_neg c71]
      have e2 : E.2 = r := by rw [hEr]
      rw [e2] at hE2
      have hX := cc_shp (t := newC t shK 3 (fun _ => 0)) (z := nvC t) (a1 := y + 1) (a2 := y + 2) (r := r) ⟨hR0, by omega, hE2⟩ ⟨by omega, hnv.2, rfl⟩ ⟨by omega, by omega, by omega, by omega⟩ ⟨if_pos rfl, (FrE.new.2.2 (y + 1) (by omega)).1.trans hD.1.2.1.2.1, (FrE.new.2.2 (y + 2) (by omega)).1.trans hD.1.2.1.2.2⟩ (fun k k0 k1 => by rw [sg_new (by omega), sg_new (by omega)]; exact hD.2.2 k k0 k1)
      refine wc_new dX5_shape_82 (kN5_59 rfl) rfl ?_
      refine wc_dup dX5_shape_85 ?_
      refine wc_aload_n dX5_shape_86 rfl ?_
      refine wc_getI dX5_shape_87 (kF5_53 rfl) kyn rfl ?_
      rw [sg_new (show y ≠ nvC t by omega), hD.2.1.1]
      refine wc_aload_n dX5_shape_90 rfl ?_
      refine wc_getR (y := y + 1) dX5_shape_91 (kF5_15 rfl) kyn rfl (by rw [sg_new (show y ≠ nvC t by omega), hD.1.2.2.1]; exact Int.toNat_natCast _) ?_
      refine wc_aload_n dX5_shape_94 rfl ?_
      refine wc_getR (y := y + 2) dX5_shape_95 (kF5_19 rfl) kyn rfl (by rw [sg_new (show y ≠ nvC t by omega), hD.1.2.2.2.1]; exact Int.toNat_natCast _) ?_
      refine wc_aload_n dX5_shape_98 rfl ?_
      refine wc_getI dX5_shape_99 (kF5_22 rfl) kyn rfl ?_
      rw [sg_new (show y ≠ nvC t by omega), hD.2.1.2.1]
      refine wc_call dX5_shape_102 rfl (hX) (by omega) (hx_I (kI5_61 rfl) rfl (kd_nw (by omega)) rfl rfl) ?_
      rintro _ _ ⟨rfl, s1, s2, s3, s4⟩
      refine wc_areturn dX5_shape_105 rfl ?_
      refine Or.inr ⟨nvC t, rfl, by rw [hEr], by rw [e2]; exact hR, by rw [e2]; omega, ⟨by omega, by omega⟩, by rw [e2]; exact s1, ?_, by omega, ?_⟩
      · exact hF.tr ((FrE.frd FrE.new (by omega)).tr ⟨s2.1, s2.2.1, fun v hv => s2.2.2 v (by omega)⟩)
      · have : uC (newC t shK 3 (fun _ => 0)) = uC t + 3 := rfl
        omega
theorem cc_rshape_7 (hT : 0 ≤ sg τ 10 14 ∧ sg τ 10 14 ≤ 60) (ht : ∀ i, 0 ≤ sg τ 21 i ∧ sg τ 21 i ≤ 127) (hE2 : E.2 1 < E.2 0) (hd : 5 ≤ d) : ∀ (j : Nat) (Y : Int) (n : Nat) (p x : Int) (r : Nat → Int) (t : CT), Y + 1 + j = 6 → 0 ≤ Y → rdF (sg τ 21) (sg τ 10 14) n Y x p r = E → (n : Int) = 100 - p → (0 < x ∧ x ≤ 6) → (0 ≤ p ∧ p ≤ sg τ 10 14) → RI r → ¬ (slc (heF (sg τ 21) (sg τ 10 14) p) ∨ heF (sg τ 21) (sg τ 10 14) p = 46) → RD y p r t → FrD y τ t → (nvC t = nvC τ ∧ uC t = uC τ) → Wc kap d rX5_shape 7 [some (.inr y), some (.inl (Y + 1))] [] t (SHQ y τ E) := by
  intro j
  induction j with
  | zero =>
    intro Y n p x r t hj hY0 hE hn hx hp hR hh hD hF hnu
    have hY5 : Y = 5 := by omega
    subst hY5
    have h21 : sg t 21 = sg τ 21 := hF.2.2 21 (by have := hD.1.1; omega)
    have h10 : sg t 10 = sg τ 10 := hF.2.2 10 (by have := hD.1.1; omega)
    have hTt : 0 ≤ sg t 10 14 ∧ sg t 10 14 ≤ 60 := by rw [h10]; exact hT
    have htt : ∀ i, 0 ≤ sg t 21 i ∧ sg t 21 i ≤ 127 := by rw [h21]; exact ht
    have hhr := heF_rng (T := sg τ 10 14) (p := p) ht
    have hy1 := hD.1.1
    have cS := cc_sign hD (by omega) hTt
    rw [h21, h10] at cS
    have ky := hD.ky
    refine wc_aload_n dX5_shape_7 rfl ?_
    refine wc_call dX5_shape_8 rfl (cS) (by omega) (hx_V (kV5_41 rfl) rfl ky rfl rfl) ?_
    rintro _ _ ⟨rfl, rfl⟩
    refine wc_bipush dX5_shape_11 (by decide) ?_
    refine wc_icmp dX5_shape_13 (cB_ne (show rng _ by omega) (by omega)) 52 rfl (fun c13 => ?_) (fun c13 => ?_)
    ·
      exact cc_rshape_52 hT ht hE2 hd hE hn hx hp hR hh (by omega) hD hF hnu
    ·
      refine wc_aload_n dX5_shape_16 rfl ?_
      refine wc_iload_n dX5_shape_17 rfl ?_
      refine wc_bipush dX5_shape_18 (by decide) ?_
      refine wc_icmp dX5_shape_20 (cB_ge ⟨by omega, by omega⟩ ⟨by omega, by omega⟩) 27 rfl (fun c20 => ?_) (fun c20 => ?_)
      ·
        refine wc_iconst dX5_shape_27 ?_
        refine wc_callX dX5_shape_28 rfl (cc_need0 hD (by omega)) (by omega) (hx_V (kV5_49 rfl) rfl ky rfl rfl) ?_ ?_
        · rintro _ _ ⟨q, h, -⟩
          cases h
        · rintro _ _ ⟨q, h, hT⟩
          cases h
          exact Or.inl ⟨rfl, Or.inl ⟨_, rfl, by rw [← hE, rd_bad (by omega) ⟨Or.inl (he_lt (tp := sg τ 21) (by omega)), Or.inl ⟨by omega, Or.inr rfl⟩⟩]; exact hp.1, by rw [← hE, rd_bad (by omega) ⟨Or.inl (he_lt (tp := sg τ 21) (by omega)), Or.inl ⟨by omega, Or.inr rfl⟩⟩]; exact (hT.thd (by omega)).fr hF hnu⟩⟩
      ·
        omega
  | succ j ih =>
    intro Y n p x r t hj hY0 hE hn hx hp hR hh hD hF hnu
    have h21 : sg t 21 = sg τ 21 := hF.2.2 21 (by have := hD.1.1; omega)
    have h10 : sg t 10 = sg τ 10 := hF.2.2 10 (by have := hD.1.1; omega)
    have hTt : 0 ≤ sg t 10 14 ∧ sg t 10 14 ≤ 60 := by rw [h10]; exact hT
    have htt : ∀ i, 0 ≤ sg t 21 i ∧ sg t 21 i ≤ 127 := by rw [h21]; exact ht
    have hhr := heF_rng (T := sg τ 10 14) (p := p) ht
    have hy1 := hD.1.1
    have cS := cc_sign hD (by omega) hTt
    rw [h21, h10] at cS
    have ky := hD.ky
    have hw := hD.wr
    refine wc_aload_n dX5_shape_7 rfl ?_
    refine wc_call dX5_shape_8 rfl (cS) (by omega) (hx_V (kV5_41 rfl) rfl ky rfl rfl) ?_
    rintro _ _ ⟨rfl, rfl⟩
    refine wc_bipush dX5_shape_11 (by decide) ?_
    refine wc_icmp dX5_shape_13 (cB_ne (show rng _ by omega) (by omega)) 52 rfl (fun c13 => ?_) (fun c13 => ?_)
    ·
      exact cc_rshape_52 hT ht hE2 hd hE hn hx hp hR hh (by omega) hD hF hnu
    ·
      refine wc_aload_n dX5_shape_16 rfl ?_
      refine wc_iload_n dX5_shape_17 rfl ?_
      refine wc_bipush dX5_shape_18 (by decide) ?_
      refine wc_icmp dX5_shape_20 (cB_ge ⟨by omega, by omega⟩ ⟨by omega, by omega⟩) 27 rfl (fun c20 => ?_) (fun c20 => ?_)
      ·
        omega
      ·
        refine wc_iconst dX5_shape_23 ?_
        refine wc_goto dX5_shape_24 28 rfl ?_
        refine wc_call dX5_shape_28 rfl (cc_need1 hD (by omega)) (by omega) (hx_V (kV5_49 rfl) rfl ky rfl rfl) ?_
        rintro _ _ ⟨rfl, rfl⟩
        refine wc_aload_n dX5_shape_31 rfl ?_
        refine wc_dup dX5_shape_32 ?_
        refine wc_getI dX5_shape_33 (kF5_26 rfl) ky rfl ?_
        rw [hD.2.1.2.2]
        refine wc_iconst dX5_shape_36 ?_
        refine wc_iadd dX5_shape_37 ?_
        refine wc_putI dX5_shape_38 (kF5_26 rfl) rfl ky rfl hw (Or.inl rfl) ?_
        have hlt : p < sg τ 10 14 := he_lt (tp := sg τ 21) (by omega)
        have hF1 : FrD y τ (stC t y 4 (p + 1)) := hF.tr (FrD.s1 (Nat.le_refl y))
        obtain ⟨k, hk⟩ : ∃ k, n = k + 1 := ⟨n - 1, by omega⟩
        subst hk
        have hE1 : rdF (sg τ 21) (sg τ 10 14) k (Y + 1) 0 (p + 1) r = E := by rw [← hE, rd_row hlt (by omega) (by omega)]
        have eT : sg (stC t y 4 (p + 1)) 10 = sg τ 10 := hF1.2.2 10 (by omega)
        have e21 : sg (stC t y 4 (p + 1)) 21 = sg τ 21 := hF1.2.2 21 (by omega)
        have cR := cc_shapeRow (τ := stC t y 4 (p + 1)) (y := y) (n := k) (p := p + 1) (Y := Y + 1) (r := r) (by rw [eT]; exact hT) (by rw [e21]; exact ht) (by omega) (by omega) (by rw [eT]; omega) hR hD.next
        unfold SRQ at cR
        rw [e21, eT, hE1] at cR
        refine wc_aload_n dX5_shape_41 rfl ?_
        refine wc_iload_n dX5_shape_42 rfl ?_
        refine wc_callX dX5_shape_43 rfl (cR) (by omega) (hx_V (kV5_56 rfl) rfl ky rfl rfl) ?_ ?_
        rotate_left
        ·
          rintro q u (⟨q', hq, hq0, hT2⟩ | ⟨hq, -⟩)
          · cases hq
            exact Or.inl ⟨rfl, Or.inl ⟨_, rfl, hq0, hT2.fr hF1 hnu⟩⟩
          · cases hq
        rintro _ _ q
        rcases q with ⟨q, hq, -⟩ | ⟨hq, n2, p2, x2, r2, q1, q2, q3, q4, q5, q6, q7, q8, q9⟩
        · cases hq
        cases hq
        refine wc_iinc dX5_shape_46 rfl ?_
        refine wc_goto dX5_shape_49 7 rfl ?_
        exact ih (Y + 1) n2 p2 x2 r2 _ (by omega) (by omega) q1 q2 q3 q4 q5 q6 q7 (hF1.tr q8) ⟨q9.1.trans hnu.1, q9.2.trans hnu.2⟩
theorem cc_rshape (hT : 0 ≤ sg τ 10 14 ∧ sg τ 10 14 ≤ 60) (ht : ∀ i, 0 ≤ sg τ 21 i ∧ sg τ 21 i ≤ 127) (hR : RI r) (hr : r 1 < r 0) (hD : RD y 0 r τ) : CtX kap 5 rX5_shape [.inr y] τ (SHQ y τ (rdF (sg τ 21) (sg τ 10 14) 100 0 0 0 r)) := by
  intro d hd
  have ky := hD.ky
  have cR := cc_shapeRow (τ := τ) (y := y) (n := 100) (p := 0) (Y := 0) (r := r) hT ht (by omega) (by omega) (by omega) hR hD
  have hE2 := rdF_lt (tp := sg τ 21) (T := sg τ 10 14) 100 0 0 0 r hr hR.1.1
  refine wc_aload_n dX5_shape_0 rfl ?_
  refine wc_iconst dX5_shape_1 ?_
  refine wc_callX dX5_shape_2 rfl (cR) (by omega) (hx_V (kV5_56 rfl) rfl ky rfl rfl) ?_ ?_
  rotate_left
  ·
    rintro q u (⟨q', hq, hq0, hT2⟩ | ⟨hq, -⟩)
    · cases hq
      exact Or.inl ⟨rfl, Or.inl ⟨_, rfl, hq0, hT2⟩⟩
    · cases hq
  rintro _ _ q
  rcases q with ⟨q, hq, -⟩ | ⟨hq, n2, p2, x2, r2, q1, q2, q3, q4, q5, q6, q7, q8, q9⟩
  · cases hq
  cases hq
  refine wc_iconst dX5_shape_5 ?_
  refine wc_istore_n dX5_shape_6 rfl ?_
  exact cc_rshape_7 hT ht hE2 hd 5 0 n2 p2 x2 r2 _ (by omega) (by omega) q1 q2 q3 q4 q5 q6 q7 q8 q9
end QSH2
