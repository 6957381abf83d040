/-! THE CLASS'S METHODS, 65: numbers and commands read -/
set_option maxRecDepth 100000
abbrev cmK : CK := ckO 9 [none, none, none, some none]
/-- a command's cell -/
def CmC (t : CT) (z : Nat) (q : Int × Int × Int) : Prop := t.2.1 z = some cmK ∧ sg t z 0 = q.1 ∧ sg t z 1 = q.2.1 ∧ sg t z 2 = q.2.2 ∧ sg t z 3 = 10
/-- what number leaves -/
def NumQ (y : Nat) (τ : CT) (p : Int) (r : Nat → Int) (v : CO) (u : CT) : Prop := (∃ q, v = .inr q ∧ ¬ dig (heF (sg τ 21) (sg τ 10 14) p) ∧ ThD y p τ q u) ∨ (dig (heF (sg τ 21) (sg τ 10 14) p) ∧ v = .inl (some (.inl (numF (sg τ 21) (sg τ 10 14) (-1) p).1)) ∧ RD y (numF (sg τ 21) (sg τ 10 14) (-1) p).2.1 r u ∧ FrD y τ u ∧ (nvC u = nvC τ ∧ uC u = uC τ) ∧ ∀ v, v ≠ y → sg u v = sg τ v)
/-- what command leaves -/
def CmQ (y : Nat) (τ : CT) (p : Int) (r : Nat → Int) (v : CO) (u : CT) : Prop := (∃ q, v = .inr q ∧ 0 ≤ (ord1 (sg τ 21) (sg τ 10 14) p).1 ∧ ThD y (ord1 (sg τ 21) (sg τ 10 14) p).1 τ q u) ∨ ((ord1 (sg τ 21) (sg τ 10 14) p).1 = -1 ∧ v = .inl (some (.inr (nvC τ))) ∧ CmC u (nvC τ) (ord1 (sg τ 21) (sg τ 10 14) p).2.2 ∧ RD y (ord1 (sg τ 21) (sg τ 10 14) p).2.1 r u ∧ FrD y τ u ∧ (∀ v, v < nvC τ → (v < y ∨ y + 3 ≤ v) → sg u v = sg τ v) ∧ nvC u = nvC τ + 1 ∧ uC u = uC τ + 4)
section CMD
variable {T : Nat → Option CK} {w w' : Nat → Int} {R : Nat → Nat → Int} {τ t u : CT} {m c v C x s f e A P p Y : Int} {d i j k a b z pc y q n : Nat} {Q : CO → CT → Prop} {M : MRec} {ls : AL} {st : List AV} {r : Nat → Int}
theorem cc_number (hD : RD y p r τ) (hp : 0 ≤ p ∧ p < 900) (hT : 0 ≤ sg τ 10 14 ∧ sg τ 10 14 ≤ 60) (ht : ∀ i, 0 ≤ sg τ 21 i ∧ sg τ 21 i ≤ 127) : CtX kap 4 rX5_number [.inr y] τ (NumQ y τ p r) := by
  intro d hd
  have ky := hD.ky
  have hw := hD.wr
  have hy1 := hD.1.1
  have hh := heF_rng (T := sg τ 10 14) (p := p) ht
  have hh2 := heF_rng (T := sg τ 10 14) (p := p + 1) ht
  have cS := cc_sign hD ⟨hp.1, by omega⟩ hT
  have hD1 := hD.next
  have hF1 : FrD y τ (stC τ y 4 (p + 1)) := FrD.s1 (Nat.le_refl y)
  have e10 : sg (stC τ y 4 (p + 1)) 10 = sg τ 10 := hF1.2.2 10 (by omega)
  have e21 : sg (stC τ y 4 (p + 1)) 21 = sg τ 21 := hF1.2.2 21 (by omega)
  have cS1 := cc_sign hD1 ⟨by omega, by omega⟩ (by rw [e10]; exact hT)
  rw [e10, e21] at cS1
  have hD2 : RD y (p + 2) r (stC (stC τ y 4 (p + 1)) y 4 (p + 1 + 1)) := by have := hD1.next; rw [show p + 1 + 1 = p + 2 by omega] at this ⊢; exact this
  refine wc_aload_n dX5_number_0 rfl ?_
  refine wc_aload_n dX5_number_1 rfl ?_
  refine wc_call dX5_number_2 rfl (cS) (by omega) (hx_V (kV5_41 rfl) rfl ky rfl rfl) ?_
  rintro _ _ ⟨rfl, rfl⟩
  refine wc_bipush dX5_number_5 (by decide) ?_
  refine wc_bipush dX5_number_7 (by decide) ?_
  refine wc_call dX5_number_9 rfl (cc_in (by omega) (by omega) (by omega)) (by omega) (hx_S (kS5_64 rfl) (kSn5_64 rfl) rfl rfl) ?_
  rintro _ _ ⟨rfl, ⟨h9, rfl⟩ | ⟨h9, rfl⟩⟩
  ·
    refine wc_call dX5_number_12 rfl (cc_need1 hD (by omega)) (by omega) (hx_V (kV5_49 rfl) rfl ky rfl rfl) ?_
    rintro _ _ ⟨rfl, rfl⟩
    refine wc_aload_n dX5_number_15 rfl ?_
    refine wc_call dX5_number_16 rfl (cS) (by omega) (hx_V (kV5_41 rfl) rfl ky rfl rfl) ?_
    rintro _ _ ⟨rfl, rfl⟩
    refine wc_bipush dX5_number_19 (by decide) ?_
    refine wc_isub dX5_number_21 ?_
    refine wc_istore_n dX5_number_22 rfl ?_
    refine wc_aload_n dX5_number_23 rfl ?_
    refine wc_dup dX5_number_24 ?_
    refine wc_getI dX5_number_25 (kF5_26 rfl) ky rfl ?_
    rw [hD.2.1.2.2]
    refine wc_iconst dX5_number_28 ?_
    refine wc_iadd dX5_number_29 ?_
    refine wc_putI dX5_number_30 (kF5_26 rfl) rfl ky rfl hw (Or.inl rfl) ?_
    refine wc_aload_n dX5_number_33 rfl ?_
    refine wc_call dX5_number_34 rfl (cS1) (by omega) (hx_V (kV5_41 rfl) rfl ky rfl rfl) ?_
    rintro _ _ ⟨rfl, rfl⟩
    refine wc_bipush dX5_number_37 (by decide) ?_
    refine wc_bipush dX5_number_39 (by decide) ?_
    refine wc_call dX5_number_41 rfl (cc_in (by omega) (by omega) (by omega)) (by omega) (hx_S (kS5_64 rfl) (kSn5_64 rfl) rfl rfl) ?_
    rintro _ _ ⟨rfl, ⟨h41, rfl⟩ | ⟨h41, rfl⟩⟩
    ·
      refine wc_ifF dX5_number_44 (by decide) 70 rfl ?_
      refine wc_bipush dX5_number_47 (by decide) ?_
      refine wc_iload_n dX5_number_49 rfl ?_
      refine wc_imul dX5_number_50 ?_
      refine wc_aload_n dX5_number_51 rfl ?_
      refine wc_call dX5_number_52 rfl (cS1) (by omega) (hx_V (kV5_41 rfl) rfl ky rfl rfl) ?_
      rintro _ _ ⟨rfl, rfl⟩
      refine wc_iadd dX5_number_55 ?_
      refine wc_bipush dX5_number_56 (by decide) ?_
      refine wc_isub dX5_number_58 ?_
      refine wc_istore_n dX5_number_59 rfl ?_
      refine wc_aload_n dX5_number_60 rfl ?_
      refine wc_dup dX5_number_61 ?_
      refine wc_getI dX5_number_62 (kF5_26 rfl) ky rfl ?_
      rw [hD1.2.1.2.2]
      refine wc_iconst dX5_number_65 ?_
      refine wc_iadd dX5_number_66 ?_
      refine wc_putI dX5_number_67 (kF5_26 rfl) rfl ky rfl hw (Or.inl rfl) ?_
      refine wc_iload_n dX5_number_70 rfl ?_
      refine wc_ireturn dX5_number_71 rfl ?_
      have e : numF (sg τ 21) (sg τ 10 14) (-1) p = (10 * (heF (sg τ 21) (sg τ 10 14) p - 48) + heF (sg τ 21) (sg τ 10 14) (p + 1) - 48, p + 2, -1) := by rw [numF, if_neg (fun h => h h9), if_neg (fun h => h h41)]
      refine Or.inr ⟨h9, ?_, ?_, hF1.tr (FrD.s1 (Nat.le_refl y)), ⟨rfl, rfl⟩, fun v hv => by rw [sg_st' hv, sg_st' hv]⟩
      · rw [e]
      · rw [e]; exact hD2
    ·
      refine wc_ifT dX5_number_44 (by decide) 70 rfl ?_
      refine wc_iload_n dX5_number_70 rfl ?_
      refine wc_ireturn dX5_number_71 rfl ?_
      have e : numF (sg τ 21) (sg τ 10 14) (-1) p = (heF (sg τ 21) (sg τ 10 14) p - 48, p + 1, -1) := by rw [numF, if_neg (fun h => h h9), if_pos h41]
      refine Or.inr ⟨h9, ?_, ?_, hF1, ⟨rfl, rfl⟩, fun v hv => sg_st' hv⟩
      · rw [e]
      · rw [e]; exact hD1
  ·
    refine wc_callX dX5_number_12 rfl (cc_need0 hD (by omega)) (by omega) (hx_V (kV5_49 rfl) rfl ky rfl rfl) ?_ ?_
    · rintro _ _ ⟨q, h, -⟩
      cases h
    · rintro _ _ ⟨q, h, hT⟩
      cases h
      exact Or.inl ⟨rfl, Or.inl ⟨_, rfl, h9, hT.thd (by omega)⟩⟩
theorem cc_cmdInit {l a1 b1 : Int} (kz : kd T t z = some cmK) (hw : wrC t z) : Ct T 0 rX9_init [.inr z, .inr 10, .inl l, .inl a1, .inl b1] t (fun v u => none = v ∧ FrQ z t u ∧ (sg u z 0 = l ∧ sg u z 1 = a1 ∧ sg u z 2 = b1 ∧ sg u z 3 = 10)) := by
  intro d hd
  refine wc_aload_n dX9_init_0 rfl ?_
  refine wc_aload_n dX9_init_1 rfl ?_
  refine wc_putR dX9_init_2 (kF9_3 rfl) rfl kz rfl hw rfl ?_
  refine wc_aload_n dX9_init_5 rfl ?_
  refine wc_obj dX9_init_6 rfl (by rw [kd_st, kz]; rfl) rfl ?_
  refine wc_aload_n dX9_init_9 rfl ?_
  refine wc_iload_n dX9_init_10 rfl ?_
  refine wc_putI dX9_init_11 (kF9_15 rfl) rfl kz rfl hw (Or.inl rfl) ?_
  refine wc_aload_n dX9_init_14 rfl ?_
  refine wc_iload_n dX9_init_15 rfl ?_
  refine wc_putI dX9_init_16 (kF9_19 rfl) rfl kz rfl hw (Or.inl rfl) ?_
  refine wc_aload_n dX9_init_19 rfl ?_
  refine wc_iload dX9_init_20 rfl ?_
  refine wc_putI dX9_init_22 (kF9_22 rfl) rfl kz rfl hw (Or.inl rfl) ?_
  refine wc_vreturn dX9_init_25 rfl ?_
  refine ⟨rfl, (((stC_q _ _ _ _).tr (stC_q _ _ _ _)).tr (stC_q _ _ _ _)).tr (stC_q _ _ _ _), ?_, ?_, ?_, ?_⟩
  · rw [sg_st, if_neg (by decide), sg_st, if_neg (by decide), sg_st, if_pos rfl]
  · rw [sg_st, if_neg (by decide), sg_st, if_pos rfl]
  · rw [sg_st, if_pos rfl]
  · rw [sg_st, if_neg (by decide), sg_st, if_neg (by decide), sg_st, if_neg (by decide), sg_st, if_pos rfl]
    rfl
/-- the reader stays where its own cells stay -/
theorem RD.ext (h : RD y p r t) (h0 : n0C u = n0C t) (hn : nvC t ≤ nvC u) (hk : ∀ v, y ≤ v → v < y + 3 → u.2.1 v = t.2.1 v ∧ sg u v = sg t v) : RD y p r u := by
  obtain ⟨⟨h1, h2, h3⟩, h4, h5⟩ := h
  have a := hk y (Nat.le_refl _) (by omega)
  have b := hk (y + 1) (by omega) (by omega)
  have c := hk (y + 2) (by omega) (by omega)
  unfold RD
  rw [a.1, a.2, b.1, b.2, c.1, c.2, h0]
  exact ⟨⟨⟨h1.1, h1.2.1, by omega⟩, h2, h3⟩, h4, h5⟩
/-- the end of command: the object made -/
theorem cc_command_116 {l a1 b1 : Int} {o2 : Option AV} (hD : RD y p r t) (hF : FrD y τ t) (hS : ∀ v, v < nvC τ → (v < y ∨ y + 3 ≤ v) → sg t v = sg τ v) (hnu : nvC t = nvC τ ∧ uC t = uC τ) (hO : ord1 (sg τ 21) (sg τ 10 14) P = (-1, p, (l, a1, b1))) (hn0 : n0C τ ≤ nvC τ) (hd : 5 ≤ d) : Wc kap d rX5_command 116 [some (.inr y), some (.inl l), o2, some (.inl a1), some (.inl b1)] [] t (CmQ y τ P r) := by
  have hy1 := hD.1.1
  have hn0t : n0C t = n0C τ := hF.1.1
  have ky : kd kap (newC t cmK 4 (fun _ => 0)) y = some rdK := by rw [kd_new (by omega)]; exact hD.ky
  have hw : wrC (newC t cmK 4 (fun _ => 0)) (nvC t) := ⟨by omega, Or.inr (by show n0C t ≤ nvC t; omega)⟩
  refine wc_new dX5_command_116 (kN5_71 rfl) rfl ?_
  refine wc_dup dX5_command_119 ?_
  refine wc_aload_n dX5_command_120 rfl ?_
  refine wc_getR (y := 10) dX5_command_121 (kF5_3 rfl) ky rfl (by rw [sg_new (by omega)]; exact hD.e5) ?_
  refine wc_iload_n dX5_command_124 rfl ?_
  refine wc_iload_n dX5_command_125 rfl ?_
  refine wc_iload dX5_command_126 rfl ?_
  refine wc_call dX5_command_128 rfl (cc_cmdInit (t := newC t cmK 4 (fun _ => 0)) (z := nvC t) (kd_nw (by omega)) hw) (by omega) (hx_I (kI5_73 rfl) rfl (kd_nw (by omega)) rfl rfl) ?_
  rintro _ _ ⟨rfl, g, g1, g2, g3, g4⟩
  rename_i u1
  refine wc_areturn dX5_command_131 rfl ?_
  have e0 : n0C u1 = n0C t := by unfold n0C; rw [g.1]; rfl
  have ev : nvC u1 = nvC t + 1 := by unfold nvC; rw [g.1]; rfl
  have eu : uC u1 = uC t + 4 := by unfold uC; rw [g.1]; rfl
  have eD : ∀ v, v < nvC t → u1.2.1 v = t.2.1 v := fun v hv => by rw [g.2.1]; exact if_neg (Nat.ne_of_lt hv)
  have eS : ∀ v, v < nvC t → sg u1 v = sg t v := fun v hv => by rw [g.2.2 v (by omega), sg_new (by omega)]
  unfold CmQ
  rw [hO]
  refine Or.inr ⟨rfl, ?_, ?_, ?_, ?_, fun v v1 v2 => (eS v (by omega)).trans (hS v v1 v2), by omega, by omega⟩
  · rw [← hnu.1]
  · rw [← hnu.1]
    refine ⟨by rw [g.2.1]; exact if_pos rfl, g1, g2, g3, g4⟩
  · exact hD.ext e0 (by omega) (fun v v1 v2 => ⟨eD v (by omega), eS v (by omega)⟩)
  · exact hF.tr ⟨⟨e0, by omega⟩, eD, fun v hv => eS v (by omega)⟩
theorem cc_cmd_70a (hD : RD y p r τ) (hp : 0 ≤ p ∧ p < 800) (hT : 0 ≤ sg τ 10 14 ∧ sg τ 10 14 ≤ 60) (ht : ∀ i, 0 ≤ sg τ 21 i ∧ sg τ 21 i ≤ 127) (hn0 : n0C τ ≤ nvC τ) (hd : 5 ≤ d) (hc : heF (sg τ 21) (sg τ 10 14) p = 108 ∨ heF (sg τ 21) (sg τ 10 14) p = 120 ∨ heF (sg τ 21) (sg τ 10 14) p = 103) : Wc kap d rX5_command 70 [some (.inr y), some (.inl (heF (sg τ 21) (sg τ 10 14) p)), some (.inl 0), none, none] [] (stC τ y 4 (p + 1)) (CmQ y τ p r) := by
  have ky := hD.ky
  have hw := hD.wr
  have hy1 := hD.1.1
  have hD1 := hD.next
  have hF1 : FrD y τ (stC τ y 4 (p + 1)) := FrD.s1 (Nat.le_refl y)
  have e10 : sg (stC τ y 4 (p + 1)) 10 = sg τ 10 := hF1.2.2 10 (by omega)
  have e21 : sg (stC τ y 4 (p + 1)) 21 = sg τ 21 := hF1.2.2 21 (by omega)
  have cN := cc_number hD1 ⟨by omega, by omega⟩ (by rw [e10]; exact hT) (by rw [e21]; exact ht)
  have hnr := numF_rng (tp := sg τ 21) (T := sg τ 10 14) (f := -1) (p := p + 1) ht (by omega) (by omega)
  unfold NumQ at cN
  rw [e10, e21] at cN
  have hnd : ∀ p', ¬ dig (heF (sg τ 21) (sg τ 10 14) p') → numF (sg τ 21) (sg τ 10 14) (-1) p' = (0, p', p') := fun p' q => by rw [numF, if_pos q]
  have hdg : ∀ p', dig (heF (sg τ 21) (sg τ 10 14) p') → (numF (sg τ 21) (sg τ 10 14) (-1) p').2.2 = -1 := fun p' q => by
    unfold numF
    rw [if_neg (fun h => h q)]
    split <;> rfl
  have hS0 : ∀ v, (v < y ∨ y + 3 ≤ v) → sg (stC τ y 4 (p + 1)) v = sg τ v := fun v hv => sg_st' (by omega)
  have hO : ord1 (sg τ 21) (sg τ 10 14) p = ((numF (sg τ 21) (sg τ 10 14) (-1) (p + 1)).2.2, (numF (sg τ 21) (sg τ 10 14) (-1) (p + 1)).2.1, (heF (sg τ 21) (sg τ 10 14) p, (numF (sg τ 21) (sg τ 10 14) (-1) (p + 1)).1, 0)) := by rw [ord1, if_neg (by omega), if_pos (by omega)]
  refine wc_aload_n dX5_command_70 rfl ?_
  refine wc_callX dX5_command_71 rfl (cN) (by omega) (hx_V (kV5_68 rfl) rfl ky rfl rfl) ?_ ?_
  rotate_left
  ·
    rintro q u (⟨q', hq, hq0, hT2⟩ | ⟨-, hq, -⟩)
    · cases hq
      exact Or.inl ⟨rfl, Or.inl ⟨_, rfl, by rw [hO, hnd _ hq0]; show 0 ≤ p + 1; omega, by rw [hO, hnd _ hq0]; exact hT2.fr hF1 ⟨rfl, rfl⟩⟩⟩
    · cases hq
  rintro _ _ q
  rcases q with ⟨q, hq, -⟩ | ⟨q0, hq, hD2, hF2, hnu, hv2⟩
  · cases hq
  cases hq
  refine wc_istore_n dX5_command_74 rfl ?_
  refine wc_iconst dX5_command_75 ?_
  refine wc_istore dX5_command_76 rfl ?_
  refine wc_iload_n dX5_command_78 rfl ?_
  refine wc_if dX5_command_79 (cB_eq ⟨by omega, by omega⟩ ⟨by omega, by omega⟩) 116 rfl (fun c79 => ?_) (fun c79 => ?_)
  ·
    exact cc_command_116 hD2 (hF1.tr hF2) (fun v v1 v2 => (hv2 v (by omega)).trans (hS0 v v2)) ⟨hnu.1, hnu.2⟩ (by rw [hO, hdg _ q0]) hn0 hd
  ·
    omega
theorem cc_cmd_70b (hD : RD y p r τ) (hp : 0 ≤ p ∧ p < 800) (hT : 0 ≤ sg τ 10 14 ∧ sg τ 10 14 ≤ 60) (ht : ∀ i, 0 ≤ sg τ 21 i ∧ sg τ 21 i ≤ 127) (hn0 : n0C τ ≤ nvC τ) (hd : 5 ≤ d) (hc : heF (sg τ 21) (sg τ 10 14) p = 97 ∨ heF (sg τ 21) (sg τ 10 14) p = 111 ∨ heF (sg τ 21) (sg τ 10 14) p = 116) : Wc kap d rX5_command 70 [some (.inr y), some (.inl (heF (sg τ 21) (sg τ 10 14) p)), some (.inl 1), none, none] [] (stC τ y 4 (p + 1)) (CmQ y τ p r) := by
  have ky := hD.ky
  have hw := hD.wr
  have hy1 := hD.1.1
  have hD1 := hD.next
  have hF1 : FrD y τ (stC τ y 4 (p + 1)) := FrD.s1 (Nat.le_refl y)
  have e10 : sg (stC τ y 4 (p + 1)) 10 = sg τ 10 := hF1.2.2 10 (by omega)
  have e21 : sg (stC τ y 4 (p + 1)) 21 = sg τ 21 := hF1.2.2 21 (by omega)
  have cN := cc_number hD1 ⟨by omega, by omega⟩ (by rw [e10]; exact hT) (by rw [e21]; exact ht)
  have hnr := numF_rng (tp := sg τ 21) (T := sg τ 10 14) (f := -1) (p := p + 1) ht (by omega) (by omega)
  unfold NumQ at cN
  rw [e10, e21] at cN
  have hnd : ∀ p', ¬ dig (heF (sg τ 21) (sg τ 10 14) p') → numF (sg τ 21) (sg τ 10 14) (-1) p' = (0, p', p') := fun p' q => by rw [numF, if_pos q]
  have hdg : ∀ p', dig (heF (sg τ 21) (sg τ 10 14) p') → (numF (sg τ 21) (sg τ 10 14) (-1) p').2.2 = -1 := fun p' q => by
    unfold numF
    rw [if_neg (fun h => h q)]
    split <;> rfl
  have hS0 : ∀ v, (v < y ∨ y + 3 ≤ v) → sg (stC τ y 4 (p + 1)) v = sg τ v := fun v hv => sg_st' (by omega)
  have hO1 : 0 ≤ (numF (sg τ 21) (sg τ 10 14) (-1) (p + 1)).2.2 → ord1 (sg τ 21) (sg τ 10 14) p = ((numF (sg τ 21) (sg τ 10 14) (-1) (p + 1)).2.2, p, (0, 0, 0)) := fun q => by rw [ord1, if_neg (by omega), if_neg (by omega), if_pos q]
  have hO2 : (numF (sg τ 21) (sg τ 10 14) (-1) (p + 1)).2.2 = -1 → ¬ heF (sg τ 21) (sg τ 10 14) (numF (sg τ 21) (sg τ 10 14) (-1) (p + 1)).2.1 = 44 → ord1 (sg τ 21) (sg τ 10 14) p = ((numF (sg τ 21) (sg τ 10 14) (-1) (p + 1)).2.1, p, (0, 0, 0)) := fun q q2 => by rw [ord1, if_neg (by omega), if_neg (by omega), if_neg (by omega), if_pos q2]
  have hO3 : (numF (sg τ 21) (sg τ 10 14) (-1) (p + 1)).2.2 = -1 → heF (sg τ 21) (sg τ 10 14) (numF (sg τ 21) (sg τ 10 14) (-1) (p + 1)).2.1 = 44 → ord1 (sg τ 21) (sg τ 10 14) p = ((numF (sg τ 21) (sg τ 10 14) (-1) ((numF (sg τ 21) (sg τ 10 14) (-1) (p + 1)).2.1 + 1)).2.2, (numF (sg τ 21) (sg τ 10 14) (-1) ((numF (sg τ 21) (sg τ 10 14) (-1) (p + 1)).2.1 + 1)).2.1, (heF (sg τ 21) (sg τ 10 14) p, (numF (sg τ 21) (sg τ 10 14) (-1) (p + 1)).1, (numF (sg τ 21) (sg τ 10 14) (-1) ((numF (sg τ 21) (sg τ 10 14) (-1) (p + 1)).2.1 + 1)).1)) := fun q q2 => by rw [ord1, if_neg (by omega), if_neg (by omega), if_neg (by omega), if_neg (fun r => r q2)]
  have hA := hnd (p + 1)
  have hB := hdg (p + 1)
  generalize numF (sg τ 21) (sg τ 10 14) (-1) (p + 1) = N1 at cN hnr hO1 hO2 hO3 hA hB
  have hh2 := heF_rng (T := sg τ 10 14) (p := N1.2.1) ht
  have hnr2 := numF_rng (tp := sg τ 21) (T := sg τ 10 14) (f := -1) (p := N1.2.1 + 1) ht (by omega) (by omega)
  refine wc_aload_n dX5_command_70 rfl ?_
  refine wc_callX dX5_command_71 rfl (cN) (by omega) (hx_V (kV5_68 rfl) rfl ky rfl rfl) ?_ ?_
  rotate_left
  ·
    rintro q u (⟨q', hq, hq0, hT2⟩ | ⟨-, hq, -⟩)
    · cases hq
      have hz : 0 ≤ N1.2.2 := by rw [hA hq0]; show 0 ≤ p + 1; omega
      exact Or.inl ⟨rfl, Or.inl ⟨_, rfl, by rw [hO1 hz]; exact hz, by rw [hO1 hz, hA hq0]; exact hT2.fr hF1 ⟨rfl, rfl⟩⟩⟩
    · cases hq
  rintro _ _ q
  rename_i u1
  rcases q with ⟨q, hq, -⟩ | ⟨q0, hq, hD2, hF2, hnu, hv2⟩
  · cases hq
  cases hq
  have hF3 := hF1.tr hF2
  have hnv1 : nvC u1 = nvC τ := hnu.1
  have f10 : sg u1 10 = sg τ 10 := hF3.2.2 10 (by omega)
  have f21 : sg u1 21 = sg τ 21 := hF3.2.2 21 (by omega)
  have cS2 := cc_sign hD2 ⟨by omega, by omega⟩ (by rw [f10]; exact hT)
  rw [f10, f21] at cS2
  refine wc_istore_n dX5_command_74 rfl ?_
  refine wc_iconst dX5_command_75 ?_
  refine wc_istore dX5_command_76 rfl ?_
  refine wc_iload_n dX5_command_78 rfl ?_
  refine wc_if dX5_command_79 (cB_eq ⟨by omega, by omega⟩ ⟨by omega, by omega⟩) 116 rfl (fun c79 => ?_) (fun c79 => ?_)
  ·
    omega
  ·
    refine wc_aload_n dX5_command_82 rfl ?_
    refine wc_aload_n dX5_command_83 rfl ?_
    refine wc_call dX5_command_84 rfl (cS2) (by omega) (hx_V (kV5_41 rfl) rfl hD2.ky rfl rfl) ?_
    rintro _ _ ⟨rfl, rfl⟩
    refine wc_bipush dX5_command_87 (by decide) ?_
    refine wc_icmp dX5_command_89 (cB_ne (show rng _ by omega) (by omega)) 96 rfl (fun c89 => ?_) (fun c89 => ?_)
    ·
      refine wc_iconst dX5_command_96 ?_
      refine wc_callX dX5_command_97 rfl (cc_need0 hD2 (by omega)) (by omega) (hx_V (kV5_49 rfl) rfl hD2.ky rfl rfl) ?_ ?_
      · rintro _ _ ⟨q, h, -⟩
        cases h
      · rintro _ _ ⟨q, h, hT⟩
        cases h
        exact Or.inl ⟨rfl, Or.inl ⟨_, rfl, by rw [hO2 (hB q0) c89]; show 0 ≤ N1.2.1; omega, by rw [hO2 (hB q0) c89]; exact (hT.thd (by omega)).fr hF3 hnu⟩⟩
    ·
      refine wc_iconst dX5_command_92 ?_
      refine wc_goto dX5_command_93 97 rfl ?_
      refine wc_call dX5_command_97 rfl (cc_need1 hD2 (by omega)) (by omega) (hx_V (kV5_49 rfl) rfl hD2.ky rfl rfl) ?_
      rintro _ _ ⟨rfl, rfl⟩
      refine wc_aload_n dX5_command_100 rfl ?_
      refine wc_dup dX5_command_101 ?_
      refine wc_getI dX5_command_102 (kF5_26 rfl) hD2.ky rfl ?_
      rw [hD2.2.1.2.2]
      refine wc_iconst dX5_command_105 ?_
      refine wc_iadd dX5_command_106 ?_
      refine wc_putI dX5_command_107 (kF5_26 rfl) rfl hD2.ky rfl hD2.wr (Or.inl rfl) ?_
      have hD3 := hD2.next
      have hF4 : FrD y u1 (stC u1 y 4 (N1.2.1 + 1)) := FrD.s1 (Nat.le_refl y)
      have cN2 := cc_number hD3 ⟨by omega, by omega⟩ (by rw [hF4.2.2 10 (by omega), f10]; exact hT) (by rw [hF4.2.2 21 (by omega), f21]; exact ht)
      unfold NumQ at cN2
      rw [hF4.2.2 10 (by omega), hF4.2.2 21 (by omega), f10, f21] at cN2
      refine wc_aload_n dX5_command_110 rfl ?_
      refine wc_callX dX5_command_111 rfl (cN2) (by omega) (hx_V (kV5_68 rfl) rfl hD2.ky rfl rfl) ?_ ?_
      rotate_left
      ·
        rintro q u (⟨q', hq, hq0, hT2⟩ | ⟨-, hq, -⟩)
        · cases hq
          exact Or.inl ⟨rfl, Or.inl ⟨_, rfl, by rw [hO3 (hB q0) (by omega), hnd _ hq0]; show 0 ≤ N1.2.1 + 1; omega, by rw [hO3 (hB q0) (by omega), hnd _ hq0]; exact hT2.fr (hF3.tr hF4) hnu⟩⟩
        · cases hq
      rintro _ _ q
      rename_i u2
      rcases q with ⟨q, hq, -⟩ | ⟨q2, hq, hD5, hF5, hnu5, hv5⟩
      · cases hq
      cases hq
      refine wc_istore dX5_command_114 rfl ?_
      exact cc_command_116 hD5 ((hF3.tr hF4).tr hF5) (fun v v1 v2 => by rw [hv5 v (by omega), sg_st' (show v ≠ y by omega), hv2 v (by omega)]; exact hS0 v v2) ⟨hnu5.1.trans hnu.1, hnu5.2.trans hnu.2⟩ (by rw [hO3 (hB q0) (by omega), hdg _ q2]) hn0 hd
theorem cc_command (hD : RD y p r τ) (hp : 0 ≤ p ∧ p < 800) (hT : 0 ≤ sg τ 10 14 ∧ sg τ 10 14 ≤ 60) (ht : ∀ i, 0 ≤ sg τ 21 i ∧ sg τ 21 i ≤ 127) (hn0 : n0C τ ≤ nvC τ) : CtX kap 5 rX5_command [.inr y] τ (CmQ y τ p r) := by
  intro d hd
  have ky := hD.ky
  have hw := hD.wr
  have hy1 := hD.1.1
  have hh := heF_rng (T := sg τ 10 14) (p := p) ht
  have cS := cc_sign hD ⟨hp.1, by omega⟩ hT
  refine wc_aload_n dX5_command_0 rfl ?_
  refine wc_call dX5_command_1 rfl (cS) (by omega) (hx_V (kV5_41 rfl) rfl ky rfl rfl) ?_
  rintro _ _ ⟨rfl, rfl⟩
  refine wc_istore_n dX5_command_4 rfl ?_
  refine wc_iload_n dX5_command_5 rfl ?_
  refine wc_bipush dX5_command_6 (by decide) ?_
  refine wc_icmp dX5_command_8 (cB_eq (show rng _ by omega) (by omega)) 23 rfl (fun c8 => ?_) (fun c8 => ?_)
  ·
    refine wc_iconst dX5_command_23 ?_
    refine wc_goto dX5_command_24 28 rfl ?_
    refine wc_istore_n dX5_command_28 rfl ?_
    refine wc_aload_n dX5_command_29 rfl ?_
    refine wc_iload_n dX5_command_30 rfl ?_
    refine wc_if dX5_command_31 (cB_ne ⟨by omega, by omega⟩ ⟨by omega, by omega⟩) 52 rfl (fun c31 => ?_) (fun c31 => ?_)
    ·
      refine wc_iconst dX5_command_52 ?_
      refine wc_goto dX5_command_53 57 rfl ?_
      refine wc_call dX5_command_57 rfl (cc_need1 hD (by omega)) (by omega) (hx_V (kV5_49 rfl) rfl ky rfl rfl) ?_
      rintro _ _ ⟨rfl, rfl⟩
      refine wc_aload_n dX5_command_60 rfl ?_
      refine wc_dup dX5_command_61 ?_
      refine wc_getI dX5_command_62 (kF5_26 rfl) ky rfl ?_
      rw [hD.2.1.2.2]
      refine wc_iconst dX5_command_65 ?_
      refine wc_iadd dX5_command_66 ?_
      refine wc_putI dX5_command_67 (kF5_26 rfl) rfl ky rfl hw (Or.inl rfl) ?_
      exact cc_cmd_70b hD hp hT ht hn0 hd (by omega)
    ·
      omega
  ·
    refine wc_iload_n dX5_command_11 rfl ?_
    refine wc_bipush dX5_command_12 (by decide) ?_
    refine wc_icmp dX5_command_14 (cB_eq (show rng _ by omega) (by omega)) 23 rfl (fun c14 => ?_) (fun c14 => ?_)
    ·
      refine wc_iconst dX5_command_23 ?_
      refine wc_goto dX5_command_24 28 rfl ?_
      refine wc_istore_n dX5_command_28 rfl ?_
      refine wc_aload_n dX5_command_29 rfl ?_
      refine wc_iload_n dX5_command_30 rfl ?_
      refine wc_if dX5_command_31 (cB_ne ⟨by omega, by omega⟩ ⟨by omega, by omega⟩) 52 rfl (fun c31 => ?_) (fun c31 => ?_)
      ·
        refine wc_iconst dX5_command_52 ?_
        refine wc_goto dX5_command_53 57 rfl ?_
        refine wc_call dX5_command_57 rfl (cc_need1 hD (by omega)) (by omega) (hx_V (kV5_49 rfl) rfl ky rfl rfl) ?_
        rintro _ _ ⟨rfl, rfl⟩
        refine wc_aload_n dX5_command_60 rfl ?_
        refine wc_dup dX5_command_61 ?_
        refine wc_getI dX5_command_62 (kF5_26 rfl) ky rfl ?_
        rw [hD.2.1.2.2]
        refine wc_iconst dX5_command_65 ?_
        refine wc_iadd dX5_command_66 ?_
        refine wc_putI dX5_command_67 (kF5_26 rfl) rfl ky rfl hw (Or.inl rfl) ?_
        exact cc_cmd_70b hD hp hT ht hn0 hd (by omega)
      ·
        omega
    ·
      refine wc_iload_n dX5_command_17 rfl ?_
      refine wc_bipush dX5_command_18 (by decide) ?_
      refine wc_icmp dX5_command_20 (cB_ne (show rng _ by omega) (by omega)) 27 rfl (fun c20 => ?_) (fun c20 => ?_)
      ·
        refine wc_iconst dX5_command_27 ?_
        refine wc_istore_n dX5_command_28 rfl ?_
        refine wc_aload_n dX5_command_29 rfl ?_
        refine wc_iload_n dX5_command_30 rfl ?_
        refine wc_if dX5_command_31 (cB_ne ⟨by omega, by omega⟩ ⟨by omega, by omega⟩) 52 rfl (fun c31 => ?_) (fun c31 => ?_)
        ·
          omega
        ·
          refine wc_iload_n dX5_command_34 rfl ?_
          refine wc_bipush dX5_command_35 (by decide) ?_
          refine wc_icmp dX5_command_37 (cB_eq (show rng _ by omega) (by omega)) 52 rfl (fun c37 => ?_) (fun c37 => ?_)
          ·
            refine wc_iconst dX5_command_52 ?_
            refine wc_goto dX5_command_53 57 rfl ?_
            refine wc_call dX5_command_57 rfl (cc_need1 hD (by omega)) (by omega) (hx_V (kV5_49 rfl) rfl ky rfl rfl) ?_
            rintro _ _ ⟨rfl, rfl⟩
            refine wc_aload_n dX5_command_60 rfl ?_
            refine wc_dup dX5_command_61 ?_
            refine wc_getI dX5_command_62 (kF5_26 rfl) ky rfl ?_
            rw [hD.2.1.2.2]
            refine wc_iconst dX5_command_65 ?_
            refine wc_iadd dX5_command_66 ?_
            refine wc_putI dX5_command_67 (kF5_26 rfl) rfl ky rfl hw (Or.inl rfl) ?_
            exact cc_cmd_70a hD hp hT ht hn0 hd (by omega)
          ·
            refine wc_iload_n dX5_command_40 rfl ?_
            refine wc_bipush dX5_command_41 (by decide) ?_
            refine wc_icmp dX5_command_43 (cB_eq (show rng _ by omega) (by omega)) 52 rfl (fun c43 => ?_) (fun c43 => ?_)
            ·
              refine wc_iconst dX5_command_52 ?_
              refine wc_goto dX5_command_53 57 rfl ?_
              refine wc_call dX5_command_57 rfl (cc_need1 hD (by omega)) (by omega) (hx_V (kV5_49 rfl) rfl ky rfl rfl) ?_
              rintro _ _ ⟨rfl, rfl⟩
              refine wc_aload_n dX5_command_60 rfl ?_
              refine wc_dup dX5_command_61 ?_
              refine wc_getI dX5_command_62 (kF5_26 rfl) ky rfl ?_
              rw [hD.2.1.2.2]
              refine wc_iconst dX5_command_65 ?_
              refine wc_iadd dX5_command_66 ?_
              refine wc_putI dX5_command_67 (kF5_26 rfl) rfl ky rfl hw (Or.inl rfl) ?_
              exact cc_cmd_70a hD hp hT ht hn0 hd (by omega)
            ·
              refine wc_iload_n dX5_command_46 rfl ?_
              refine wc_bipush dX5_command_47 (by decide) ?_
              refine wc_icmp dX5_command_49 (cB_ne (show rng _ by omega) (by omega)) 56 rfl (fun c49 => ?_) (fun c49 => ?_)
              ·
                refine wc_iconst dX5_command_56 ?_
                refine wc_callX dX5_command_57 rfl (cc_need0 hD (by omega)) (by omega) (hx_V (kV5_49 rfl) rfl ky rfl rfl) ?_ ?_
                · rintro _ _ ⟨q, h, -⟩
                  cases h
                · rintro _ _ ⟨q, h, hT⟩
                  cases h
                  have hO : ord1 (sg τ 21) (sg τ 10 14) p = (p, p, (0, 0, 0)) := by rw [ord1, if_pos (by omega)]
                  exact Or.inl ⟨rfl, Or.inl ⟨_, rfl, by rw [hO]; exact hp.1, by rw [hO]; exact hT.thd (by omega)⟩⟩
              ·
                refine wc_iconst dX5_command_52 ?_
                refine wc_goto dX5_command_53 57 rfl ?_
                refine wc_call dX5_command_57 rfl (cc_need1 hD (by omega)) (by omega) (hx_V (kV5_49 rfl) rfl ky rfl rfl) ?_
                rintro _ _ ⟨rfl, rfl⟩
                refine wc_aload_n dX5_command_60 rfl ?_
                refine wc_dup dX5_command_61 ?_
                refine wc_getI dX5_command_62 (kF5_26 rfl) ky rfl ?_
                rw [hD.2.1.2.2]
                refine wc_iconst dX5_command_65 ?_
                refine wc_iadd dX5_command_66 ?_
                refine wc_putI dX5_command_67 (kF5_26 rfl) rfl ky rfl hw (Or.inl rfl) ?_
                exact cc_cmd_70a hD hp hT ht hn0 hd (by omega)
      ·
        refine wc_iconst dX5_command_23 ?_
        refine wc_goto dX5_command_24 28 rfl ?_
        refine wc_istore_n dX5_command_28 rfl ?_
        refine wc_aload_n dX5_command_29 rfl ?_
        refine wc_iload_n dX5_command_30 rfl ?_
        refine wc_if dX5_command_31 (cB_ne ⟨by omega, by omega⟩ ⟨by omega, by omega⟩) 52 rfl (fun c31 => ?_) (fun c31 => ?_)
        ·
          refine wc_iconst dX5_command_52 ?_
          refine wc_goto dX5_command_53 57 rfl ?_
          refine wc_call dX5_command_57 rfl (cc_need1 hD (by omega)) (by omega) (hx_V (kV5_49 rfl) rfl ky rfl rfl) ?_
          rintro _ _ ⟨rfl, rfl⟩
          refine wc_aload_n dX5_command_60 rfl ?_
          refine wc_dup dX5_command_61 ?_
          refine wc_getI dX5_command_62 (kF5_26 rfl) ky rfl ?_
          rw [hD.2.1.2.2]
          refine wc_iconst dX5_command_65 ?_
          refine wc_iadd dX5_command_66 ?_
          refine wc_putI dX5_command_67 (kF5_26 rfl) rfl ky rfl hw (Or.inl rfl) ?_
          exact cc_cmd_70b hD hp hT ht hn0 hd (by omega)
        ·
          omega
end CMD
