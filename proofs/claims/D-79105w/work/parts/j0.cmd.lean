/-! THE CLASS'S METHODS, 65: numbers and commands read -/
set_option maxRecDepth 100000
abbrev cmK : CK := ckO 9 [none, none, none, some none]
/-- a command's cell -/
def CmC (t : CT) (z : Nat) (q : Int × Int × Int) : Prop := t.2.1 z = some cmK ∧ sg t z 0 = q.1 ∧ sg t z 1 = q.2.1 ∧ sg t z 2 = q.2.2 ∧ sg t z 3 = 10
/-- what number leaves -/
def NumQ (y : Nat) (τ : CT) (p : Int) (r : Nat → Int) (v : CO) (u : CT) : Prop := (∃ q, v = .inr q ∧ ¬ dig (heF (sg τ 21) (sg τ 10 14) p) ∧ ThD y p τ q u) ∨ (dig (heF (sg τ 21) (sg τ 10 14) p) ∧ v = .inl (some (.inl (numF (sg τ 21) (sg τ 10 14) (-1) p).1)) ∧ RD y (numF (sg τ 21) (sg τ 10 14) (-1) p).2.1 r u ∧ FrD y τ u ∧ nvC u = nvC τ ∧ uC u = uC τ)
/-- what command leaves -/
def CmQ (y : Nat) (τ : CT) (p : Int) (r : Nat → Int) (v : CO) (u : CT) : Prop := (∃ q, v = .inr q ∧ 0 ≤ (ord1 (sg τ 21) (sg τ 10 14) p).1 ∧ ThD y (ord1 (sg τ 21) (sg τ 10 14) p).1 τ q u) ∨ ((ord1 (sg τ 21) (sg τ 10 14) p).1 = -1 ∧ v = .inl (some (.inr (nvC τ))) ∧ CmC u (nvC τ) (ord1 (sg τ 21) (sg τ 10 14) p).2.2 ∧ RD y (ord1 (sg τ 21) (sg τ 10 14) p).2.1 r u ∧ FrD y τ u ∧ (∀ v, v < nvC τ → (v < y ∨ y + 3 ≤ v) → sg u v = sg τ v) ∧ nvC u = nvC τ + 1 ∧ uC u = uC τ + 4)
section CMD
variable {T : Nat → Option CK} {w w' : Nat → Int} {R : Nat → Nat → Int} {τ t u : CT} {m c v C x s f e A P p Y : Int} {d i j k a b z pc y q n : Nat} {Q : CO → CT → Prop} {M : MRec} {ls : AL} {st : List AV} {r : Nat → Int}
theorem cc_number (hD : RD y p r τ) (hp : 0 ≤ p ∧ p < 900) (hT : 0 ≤ sg τ 10 14 ∧ sg τ 10 14 ≤ 60) (ht : ∀ i, 0 ≤ sg τ 21 i ∧ sg τ 21 i ≤ 127) : CtX kap 4 rX5_number [.inr y] τ (NumQ y τ p r) := by
  intro d hd
  have ky := hD.ky
  have hw := hD.wr
  have hy1 := hD.1.1
  have hh := heF_rng (T := sg τ 10 14) (p := p) ht
  have hh2 := heF_rng (T := sg τ 10 14) (p := p + 1) ht
  have cS := cc_sign hD ⟨hp.1, by omega⟩ hT
  have hD1 := hD.next
  have hF1 : FrD y τ (stC τ y 4 (p + 1)) := FrD.s1 (Nat.le_refl y)
  have e10 : sg (stC τ y 4 (p + 1)) 10 = sg τ 10 := hF1.2.2 10 (by omega)
  have e21 : sg (stC τ y 4 (p + 1)) 21 = sg τ 21 := hF1.2.2 21 (by omega)
  have cS1 := cc_sign hD1 ⟨by omega, by omega⟩ (by rw [e10]; exact hT)
  rw [e10, e21] at cS1
  have hD2 : RD y (p + 2) r (stC (stC τ y 4 (p + 1)) y 4 (p + 1 + 1)) := by have := hD1.next; rw [show p + 1 + 1 = p + 2 by omega] at this ⊢; exact this
  refine wc_aload_n dX5_number_0 rfl ?_
  refine wc_aload_n dX5_number_1 rfl ?_
  refine wc_call dX5_number_2 rfl (cS) (by omega) (hx_V (kV5_41 rfl) rfl ky rfl rfl) ?_
  rintro _ _ ⟨rfl, rfl⟩
  refine wc_bipush dX5_number_5 (by decide) ?_
  refine wc_bipush dX5_number_7 (by decide) ?_
  refine wc_call dX5_number_9 rfl (cc_in (by omega) (by omega) (by omega)) (by omega) (hx_S (kS5_64 rfl) (kSn5_64 rfl) rfl rfl) ?_
  rintro _ _ ⟨rfl, ⟨h9, rfl⟩ | ⟨h9, rfl⟩⟩
  ·
    refine wc_call dX5_number_12 rfl (cc_need1 hD (by omega)) (by omega) (hx_V (kV5_49 rfl) rfl ky rfl rfl) ?_
    rintro _ _ ⟨rfl, rfl⟩
    refine wc_aload_n dX5_number_15 rfl ?_
    refine wc_call dX5_number_16 rfl (cS) (by omega) (hx_V (kV5_41 rfl) rfl ky rfl rfl) ?_
    rintro _ _ ⟨rfl, rfl⟩
    refine wc_bipush dX5_number_19 (by decide) ?_
    refine wc_isub dX5_number_21 ?_
    refine wc_istore_n dX5_number_22 rfl ?_
    refine wc_aload_n dX5_number_23 rfl ?_
    refine wc_dup dX5_number_24 ?_
    refine wc_getI dX5_number_25 (kF5_26 rfl) ky rfl ?_
    rw [hD.2.1.2.2]
    refine wc_iconst dX5_number_28 ?_
    refine wc_iadd dX5_number_29 ?_
    refine wc_putI dX5_number_30 (kF5_26 rfl) rfl ky rfl hw (Or.inl rfl) ?_
    refine wc_aload_n dX5_number_33 rfl ?_
    refine wc_call dX5_number_34 rfl (cS1) (by omega) (hx_V (kV5_41 rfl) rfl ky rfl rfl) ?_
    rintro _ _ ⟨rfl, rfl⟩
    refine wc_bipush dX5_number_37 (by decide) ?_
    refine wc_bipush dX5_number_39 (by decide) ?_
    refine wc_call dX5_number_41 rfl (cc_in (by omega) (by omega) (by omega)) (by omega) (hx_S (kS5_64 rfl) (kSn5_64 rfl) rfl rfl) ?_
    rintro _ _ ⟨rfl, ⟨h41, rfl⟩ | ⟨h41, rfl⟩⟩
    ·
      refine wc_ifF dX5_number_44 (by decide) 70 rfl ?_
      refine wc_bipush dX5_number_47 (by decide) ?_
      refine wc_iload_n dX5_number_49 rfl ?_
      refine wc_imul dX5_number_50 ?_
      refine wc_aload_n dX5_number_51 rfl ?_
      refine wc_call dX5_number_52 rfl (cS1) (by omega) (hx_V (kV5_41 rfl) rfl ky rfl rfl) ?_
      rintro _ _ ⟨rfl, rfl⟩
      refine wc_iadd dX5_number_55 ?_
      refine wc_bipush dX5_number_56 (by decide) ?_
      refine wc_isub dX5_number_58 ?_
      refine wc_istore_n dX5_number_59 rfl ?_
      refine wc_aload_n dX5_number_60 rfl ?_
      refine wc_dup dX5_number_61 ?_
      refine wc_getI dX5_number_62 (kF5_26 rfl) ky rfl ?_
      rw [hD1.2.1.2.2]
      refine wc_iconst dX5_number_65 ?_
      refine wc_iadd dX5_number_66 ?_
      refine wc_putI dX5_number_67 (kF5_26 rfl) rfl ky rfl hw (Or.inl rfl) ?_
      refine wc_iload_n dX5_number_70 rfl ?_
      refine wc_ireturn dX5_number_71 rfl ?_
      have e : numF (sg τ 21) (sg τ 10 14) (-1) p = (10 * (heF (sg τ 21) (sg τ 10 14) p - 48) + heF (sg τ 21) (sg τ 10 14) (p + 1) - 48, p + 2, -1) := by rw [numF, if_neg (fun h => h h9), if_neg (fun h => h h41)]
      refine Or.inr ⟨h9, ?_, ?_, hF1.tr (FrD.s1 (Nat.le_refl y)), rfl, rfl⟩
      · rw [e]
      · rw [e]; exact hD2
    ·
      refine wc_ifT dX5_number_44 (by decide) 70 rfl ?_
      refine wc_iload_n dX5_number_70 rfl ?_
      refine wc_ireturn dX5_number_71 rfl ?_
      have e : numF (sg τ 21) (sg τ 10 14) (-1) p = (heF (sg τ 21) (sg τ 10 14) p - 48, p + 1, -1) := by rw [numF, if_neg (fun h => h h9), if_pos h41]
      refine Or.inr ⟨h9, ?_, ?_, hF1, rfl, rfl⟩
      · rw [e]
      · rw [e]; exact hD1
  ·
    refine wc_callX dX5_number_12 rfl (cc_need0 hD (by omega)) (by omega) (hx_V (kV5_49 rfl) rfl ky rfl rfl) ?_ ?_
    · rintro _ _ ⟨q, h, -⟩
      cases h
    · rintro _ _ ⟨q, h, hT⟩
      cases h
      exact Or.inl ⟨rfl, Or.inl ⟨_, rfl, h9, hT.thd (by omega)⟩⟩
theorem cc_cmdInit {l a1 b1 : Int} (kz : kd T t z = some cmK) (hw : wrC t z) : Ct T 0 rX9_init [.inr z, .inr 10, .inl l, .inl a1, .inl b1] t (fun v u => none = v ∧ FrQ z t u ∧ (sg u z 0 = l ∧ sg u z 1 = a1 ∧ sg u z 2 = b1 ∧ sg u z 3 = 10)) := by
  intro d hd
  refine wc_aload_n dX9_init_0 rfl ?_
  refine wc_aload_n dX9_init_1 rfl ?_
  refine wc_putR dX9_init_2 (kF9_3 rfl) rfl kz rfl hw rfl ?_
  refine wc_aload_n dX9_init_5 rfl ?_
  refine wc_obj dX9_init_6 rfl (by rw [kd_st, kz]; rfl) rfl ?_
  refine wc_aload_n dX9_init_9 rfl ?_
  refine wc_iload_n dX9_init_10 rfl ?_
  refine wc_putI dX9_init_11 (kF9_15 rfl) rfl kz rfl hw (Or.inl rfl) ?_
  refine wc_aload_n dX9_init_14 rfl ?_
  refine wc_iload_n dX9_init_15 rfl ?_
  refine wc_putI dX9_init_16 (kF9_19 rfl) rfl kz rfl hw (Or.inl rfl) ?_
  refine wc_aload_n dX9_init_19 rfl ?_
  refine wc_iload dX9_init_20 rfl ?_
  refine wc_putI dX9_init_22 (kF9_22 rfl) rfl kz rfl hw (Or.inl rfl) ?_
  refine wc_vreturn dX9_init_25 rfl ?_
  refine ⟨rfl, (((stC_q _ _ _ _).tr (stC_q _ _ _ _)).tr (stC_q _ _ _ _)).tr (stC_q _ _ _ _), ?_, ?_, ?_, ?_⟩
  · rw [sg_st, if_neg (by decide), sg_st, if_neg (by decide), sg_st, if_pos rfl]
  · rw [sg_st, if_neg (by decide), sg_st, if_pos rfl]
  · rw [sg_st, if_pos rfl]
  · rw [sg_st, if_neg (by decide), sg_st, if_neg (by decide), sg_st, if_neg (by decide), sg_st, if_pos rfl]
    rfl
/-- the reader stays where its own cells stay -/
theorem RD.ext (h : RD y p r t) (h0 : n0C u = n0C t) (hn : nvC t ≤ nvC u) (hk : ∀ v, y ≤ v → v < y + 3 → u.2.1 v = t.2.1 v ∧ sg u v = sg t v) : RD y p r u := by
  obtain ⟨⟨h1, h2, h3⟩, h4, h5⟩ := h
  have a := hk y (Nat.le_refl _) (by omega)
  have b := hk (y + 1) (by omega) (by omega)
  have c := hk (y + 2) (by omega) (by omega)
  unfold RD
  rw [a.1, a.2, b.1, b.2, c.1, c.2, h0]
  exact ⟨⟨⟨h1.1, h1.2.1, by omega⟩, h2, h3⟩, h4, h5⟩
end CMD
