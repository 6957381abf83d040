/-! THE CLASS'S METHODS, 56: again, the whole -/
set_option maxRecDepth 100000
section QAG3
variable {w w' : Nat → Int} {R : Nat → Nat → Int} {τ t u t0 : CT} {m c v C x y s f e A P : Int} {d n i j k a b z : Nat} {Q : Option AV → CT → Prop}
theorem opn_more : ∀ (k : Nat) (s : Int), opnCF w (k + 1) s = opnCF w k s + if 0 ≤ pl0F w (s + k) then 1 else 0 := by
  intro k
  induction k with
  | zero => intro s; show (if 0 ≤ pl0F w s then 1 else 0) + 0 = 0 + if 0 ≤ pl0F w (s + ((0 : Nat) : Int)) then 1 else 0; rw [show s + ((0 : Nat) : Int) = s by omega]; omega
  | succ k ih =>
    intro s
    have h1 : opnCF w (k + 1 + 1) s = (if 0 ≤ pl0F w s then 1 else 0) + opnCF w (k + 1) (s + 1) := rfl
    have h2 : opnCF w (k + 1) s = (if 0 ≤ pl0F w s then 1 else 0) + opnCF w k (s + 1) := rfl
    rw [h1, h2, ih (s + 1), show s + 1 + (k : Int) = s + ((k + 1 : Nat) : Int) by omega]
    omega
theorem opn_rng (w : Nat → Int) : ∀ (k : Nat) (s : Int), 0 ≤ opnCF w k s ∧ opnCF w k s ≤ k := by
  intro k
  induction k with
  | zero => intro s; exact ⟨Int.le_refl _, Int.le_refl _⟩
  | succ k ih =>
    intro s
    have := ih (s + 1)
    show 0 ≤ (if 0 ≤ pl0F w s then 1 else 0) + opnCF w k (s + 1) ∧ (if 0 ≤ pl0F w s then 1 else 0) + opnCF w k (s + 1) ≤ ((k + 1 : Nat) : Int)
    split <;> omega
/-- the open slots below s -/
abbrev opB (w : Nat → Int) (s : Int) : Int := opnCF w s.toNat 0
theorem opB_s (hs : 0 ≤ s) : opB w (s + 1) = opB w s + if 0 ≤ pl0F w s then 1 else 0 := by
  show opnCF w (s + 1).toNat 0 = opnCF w s.toNat 0 + _
  rw [show (s + 1).toNat = s.toNat + 1 by omega, opn_more, show (0 : Int) + (s.toNat : Int) = s by omega]
theorem sl_ne (hs : pl0F w s < 0) : ∀ m, ¬ slF w m = s ∨ s < 0 := fun m => by
  by_cases q : slF w m = s
  · by_cases r : 0 ≤ s
    · have := (slF_pl w m (by omega)).2.2.1
      rw [q] at this
      omega
    · exact Or.inr (by omega)
  · exact Or.inl q
/-- the loop over the slots: what stands ahead of slot s -/
def AgI (w : Nat → Int) (s : Int) (u : CT) : Prop := SndA (wofF w) s (opB w s) (arF u 23) ∧ CmpA (wofF w) s (opB w s) (slF w) (arF u 23)
theorem AgI.skip (h : AgI w s u) (hs : 0 ≤ s) (hp : pl0F w s < 0) : AgI w (s + 1) u := by
  have e : opB w (s + 1) = opB w s := by rw [opB_s hs, if_neg (by omega)]; omega
  unfold AgI
  rw [e]
  refine ⟨fun A a b => ?_, h.2.skip (fun m _ _ q => by rcases sl_ne hp m with r | r; exact r q; omega)⟩
  rcases h.1 A a b with r | r
  · exact Or.inl r
  · exact Or.inr r.skip
theorem slF_MtI (hS : WS w) : MtI (slF w) := (gr_inv (V := wofF w) (n := (sltF w (w 3)).toNat) 10 (lftF w (sltF w (w 3)).toNat 0 0, 0, 0, fun _ => -1) (by omega) ⟨fun m _ _ => Or.inl rfl, fun m m' _ _ _ _ h _ => absurd h (by show ¬ (0 : Int) ≤ -1; omega)⟩ (fun m _ _ => rfl)).2
theorem slF_wof (h : 0 ≤ slF w m) : ¬ wofF w m (slF w m) = 0 := by
  have hp := slF_pl w m h
  have := fr_rng (w := w) (x := celF w m) hp.2.2.1
  unfold wofF
  rw [if_pos ⟨hp.1, hp.2.1, hp.2.2.1⟩, if_neg (by omega)]
  omega
theorem AgI.step (h : AgI w s t) (hS : WS w) (hs : 0 ≤ s ∧ s < 10) (hp : 0 ≤ pl0F w s) (g : GonP w s (opB w s) t u) : AgI w (s + 1) u := by
  have e : opB w (s + 1) = opB w s + 1 := by rw [opB_s hs.1, if_pos hp]
  have hr : 0 ≤ opB w s ∧ opB w s ≤ (s.toNat : Int) := opn_rng w s.toNat 0
  unfold AgI
  rw [e]
  exact ⟨g.2.1, h.2.step hs.1 (slF_MtI hS) (fun m _ _ q => by rw [← q]; exact slF_wof (by omega)) (by omega) (fun m s => (wof_le w m s).1) g.2.2.1 g.2.2.2 (fun A m a b c d => (b_rng ⟨a, b⟩ (s := m) ⟨c, d⟩).2.1)⟩
/-- only bySlots and bySlotsThen are changed -/
def FrQ2 (τ u : CT) : Prop := u.1 = τ.1 ∧ u.2.1 = τ.2.1 ∧ ∀ y, y ≠ 23 → y ≠ 24 → sg u y = sg τ y
theorem FrQ2.rf : FrQ2 τ τ := ⟨rfl, rfl, fun _ _ _ => rfl⟩
theorem FrQ2.tr (g : FrQ2 τ t) (h : FrQ2 t u) : FrQ2 τ u := ⟨h.1.trans g.1, h.2.1.trans g.2.1, fun y a b => (h.2.2 y a b).trans (g.2.2 y a b)⟩
theorem FrQ2.frs (g : FrQ2 τ u) : FrS τ u := by
  have e : ∀ y, y ≠ 23 → y ≠ 24 → sg u y = sg τ y := g.2.2
  have e0 : n0C u = n0C τ := by unfold n0C; rw [g.1]
  have ev : nvC u = nvC τ := by unfold nvC; rw [g.1]
  exact ⟨⟨e0, by omega⟩, fun v hv => e v (by omega) (by omega), fun j _ _ => by rw [e 10 (by omega) (by omega)], fun y y1 y2 => ⟨by rw [g.2.1], fun _ => e y (by omega) (by omega)⟩, e 18 (by omega) (by omega), fun y y1 y2 => ⟨by rw [g.2.1], e y (by omega) (by omega)⟩⟩
theorem FrQ2.pls (g : FrQ2 τ u) (hS : WS w) (h : PLs w τ) : PLs w u := h.of hS (fun y hy => g.2.2 y (by omega) (by omega)) (by rw [g.2.2 10 (by decide) (by decide)]) (by rw [g.2.2 10 (by decide) (by decide)])
theorem cc_again_81 (hd : 0 ≤ d) (hf : ∀ A, 0 ≤ A → A < 1024 → 0 ≤ arF t 23 A ∧ arF t 23 A ≤ 16777216) : ∀ (n : Nat) (A x : Int) (o : Option AV), A + n = 1024 → 0 ≤ A → (0 ≤ x ∧ x ≤ 16777216) → (∀ B, 0 ≤ B → B < A → x ≤ arF t 23 B) → (x = 16777216 ∨ ∃ B, (0 ≤ B ∧ B < 1024) ∧ x = arF t 23 B) → (∀ x, (0 ≤ x ∧ x ≤ 16777216) → (∀ B, 0 ≤ B → B < 1024 → x ≤ arF t 23 B) → (x = 16777216 ∨ ∃ B, (0 ≤ B ∧ B < 1024) ∧ x = arF t 23 B) → Q (some (.inl (x % 10000))) t) → Wc kap d rX0_again 81 [some (.inr 10), some (.inl x), some (.inr 23), some (.inl 1024), some (.inl A), o] [] t (nQ Q) := by
  intro n
  induction n with
  | zero =>
    intro A x o hA h0 hx h1 h2 K
    have e : A = 1024 := by omega
    subst e
    refine wc_iload dX0_again_81 rfl ?_
    refine wc_iload_n dX0_again_83 rfl ?_
    refine wc_icmp dX0_again_84 (cB_ge ⟨by omega, by omega⟩ ⟨by omega, by omega⟩) 106 rfl (fun c84 => ?_) (fun c84 => ?_)
    ·
      refine wc_iload_n dX0_again_106 rfl ?_
      refine wc_sipush dX0_again_107 (by decide) ?_
      refine wc_irem dX0_again_110 ⟨by omega, by omega⟩ ⟨by omega, by omega⟩ ?_
      refine wc_ireturn dX0_again_111 rfl ?_
      exact K x hx h1 h2
    ·
      omega
  | succ n ih =>
    intro A x o hA h0 hx h1 h2 K
    have hA2 := hf A h0 (by omega)
    have eA : arF t 23 A = sg t 23 A.toNat := rfl
    refine wc_iload dX0_again_81 rfl ?_
    refine wc_iload_n dX0_again_83 rfl ?_
    refine wc_icmp dX0_again_84 (cB_ge ⟨by omega, by omega⟩ ⟨by omega, by omega⟩) 106 rfl (fun c84 => ?_) (fun c84 => ?_)
    ·
      omega
    ·
      refine wc_aload_n dX0_again_87 rfl ?_
      refine wc_iload dX0_again_88 rfl ?_
      refine wc_iaload dX0_again_90 rfl rfl rfl ⟨by omega, by omega⟩ _ rfl ?_
      refine wc_istore dX0_again_91 rfl ?_
      refine wc_iload_n dX0_again_93 rfl ?_
      refine wc_iload dX0_again_94 rfl ?_
      refine wc_min dX0_again_96 rfl rfl (show rng _ by omega) (show rng (sg t 23 A.toNat) by omega) rfl ?_
      refine wc_istore_n dX0_again_99 rfl ?_
      refine wc_iinc dX0_again_100 rfl ?_
      refine wc_goto dX0_again_103 81 rfl ?_
      refine ih (A + 1) _ _ (by omega) (by omega) (by split <;> omega) (fun B b0 b1 => ?_) ?_ K
      · by_cases e : B = A
        · rw [e, eA]; split <;> omega
        · have := h1 B b0 (by omega)
          split <;> omega
      · split
        · exact Or.inr ⟨A, ⟨h0, by omega⟩, eA.symm⟩
        · exact h2
theorem cc_again_39 (h1 : SI w C τ) (hP : PLs w τ) (hC : 300 ≤ C ∧ C < 1999999000) (hd : 5 ≤ d) : ∀ (n : Nat) (s : Int) (t : CT), s + n = nC w → 0 ≤ s → FrQ2 τ t → AgI w s t → (∀ u, FrQ2 τ u → AgI w (nC w) u → Wc kap d rX0_again 67 [some (.inr 10), some (.inl (nC w)), none, none, none, none] [] u (nQ Q)) → Wc kap d rX0_again 39 [some (.inr 10), some (.inl s), none, none, none, none] [] t (nQ Q) := by
  have hn10 := nC_le h1.2.2.1
  have hn0 := nC_0 h1.2.2.1
  intro n
  induction n with
  | zero =>
    intro s t hs h0 g hA K
    have e : s = nC w := by omega
    subst e
    have e6 := (g.pls h1.2.2.1 hP).2.1
    refine wc_iload_n dX0_again_39 rfl ?_
    refine wc_aload_n dX0_again_40 rfl ?_
    refine wc_getI dX0_again_41 (kF0_71 rfl) rfl rfl ?_
    rw [e6]
    refine wc_icmp dX0_again_44 (cB_ge (show rng _ by omega) (show rng _ by omega)) 67 rfl (fun c44 => ?_) (fun c44 => ?_)
    ·
      exact K t g hA
    ·
      omega
  | succ n ih =>
    intro s t hs h0 g hA K
    have hP1 := g.pls h1.2.2.1 hP
    have e6 := hP1.2.1
    have e13 := (hP1.1 s h0 (by omega)).1
    have hpr := pl0F_rng w s
    have hl := (nC_pos (w := w) (by omega)).1
    have hop : 0 ≤ opB w s ∧ opB w s ≤ (s.toNat : Int) := opn_rng w s.toNat 0
    refine wc_iload_n dX0_again_39 rfl ?_
    refine wc_aload_n dX0_again_40 rfl ?_
    refine wc_getI dX0_again_41 (kF0_71 rfl) rfl rfl ?_
    rw [e6]
    refine wc_icmp dX0_again_44 (cB_ge (show rng _ by omega) (show rng _ by omega)) 67 rfl (fun c44 => ?_) (fun c44 => ?_)
    ·
      omega
    ·
      refine wc_aload_n dX0_again_47 rfl ?_
      refine wc_getC dX0_again_48 (kF0_42 rfl) rfl rfl ?_
      refine wc_iload_n dX0_again_51 rfl ?_
      refine wc_iaload dX0_again_52 rfl rfl rfl ⟨by omega, by omega⟩ _ rfl ?_
      rw [e13]
      refine wc_if dX0_again_53 (cB_lt (show rng _ by omega) ⟨by omega, by omega⟩) 61 rfl (fun c53 => ?_) (fun c53 => ?_)
      ·
        refine wc_iinc dX0_again_61 rfl ?_
        refine wc_goto dX0_again_64 39 rfl ?_
        exact ih (s + 1) t (by omega) (by omega) g (hA.skip h0 (by omega)) K
      ·
        refine wc_aload_n dX0_again_56 rfl ?_
        refine wc_iload_n dX0_again_57 rfl ?_
        refine wc_call dX0_again_58 rfl (cc_goesOn (h1.frs g.frs) hP1 hl ⟨h0, by omega⟩ (by omega) (P := opB w s) (by omega) hA.1 hC) (by omega) (hx_V (kV0_417 rfl) rfl rfl rfl rfl) ?_
        rintro _ _ ⟨rfl, q⟩
        refine wc_iinc dX0_again_61 rfl ?_
        refine wc_goto dX0_again_64 39 rfl ?_
        exact ih (s + 1) _ (by omega) (by omega) (g.tr q.1) (hA.step h1.2.2.1 ⟨h0, by omega⟩ (by omega) q) K
theorem cc_again_6 (hd : 5 ≤ d) : ∀ (n : Nat) (A : Int) (t : CT), A + n = 1024 → 0 ≤ A → FrQ2 τ t → (∀ B, 0 ≤ B → B < A → arF t 23 B = if B = 0 then 0 else 16777216) → (∀ u, FrQ2 τ u → (∀ B, 0 ≤ B → B < 1024 → arF u 23 B = if B = 0 then 0 else 16777216) → Wc kap d rX0_again 39 [some (.inr 10), some (.inl 0), none, none, none, none] [] u (nQ Q)) → Wc kap d rX0_again 6 [some (.inr 10), some (.inl A), none, none, none, none] [] t (nQ Q) := by
  intro n
  induction n with
  | zero =>
    intro A t hA h0 g g2 K
    refine wc_iload_n dX0_again_6 rfl ?_
    refine wc_aload_n dX0_again_7 rfl ?_
    refine wc_getC dX0_again_8 (kF0_275 rfl) rfl rfl ?_
    refine wc_alenI dX0_again_11 rfl ?_
    refine wc_icmp dX0_again_12 (cB_ge ⟨by omega, by omega⟩ ⟨by omega, by omega⟩) 37 rfl (fun c12 => ?_) (fun c12 => ?_)
    ·
      refine wc_iconst dX0_again_37 ?_
      refine wc_istore_n dX0_again_38 rfl ?_
      exact K t g (fun B b0 b1 => g2 B b0 (by omega))
    ·
      omega
  | succ n ih =>
    intro A t hA h0 g g2 K
    have hst : ∀ v, v = (if A = 0 then 0 else 16777216) → Wc kap d rX0_again 6 [some (.inr 10), some (.inl (A + 1)), none, none, none, none] [] (stC t 23 A.toNat v) (nQ Q) := fun v hv => by
      refine ih (A + 1) _ (by omega) (by omega) (g.tr ⟨rfl, rfl, fun y a b => sg_st' a⟩) (fun B b0 b1 => ?_) K
      show sg (stC t 23 A.toNat v) 23 B.toNat = _
      rw [sg_st]
      by_cases e : B.toNat = A.toNat
      · rw [if_pos e, hv, show B = A by omega]
      · rw [if_neg e]; exact g2 B b0 (by omega)
    refine wc_iload_n dX0_again_6 rfl ?_
    refine wc_aload_n dX0_again_7 rfl ?_
    refine wc_getC dX0_again_8 (kF0_275 rfl) rfl rfl ?_
    refine wc_alenI dX0_again_11 rfl ?_
    refine wc_icmp dX0_again_12 (cB_ge ⟨by omega, by omega⟩ ⟨by omega, by omega⟩) 37 rfl (fun c12 => ?_) (fun c12 => ?_)
    ·
      omega
    ·
      refine wc_aload_n dX0_again_15 rfl ?_
      refine wc_getC dX0_again_16 (kF0_275 rfl) rfl rfl ?_
      refine wc_iload_n dX0_again_19 rfl ?_
      refine wc_iload_n dX0_again_20 rfl ?_
      refine wc_if dX0_again_21 (cB_ne ⟨by omega, by omega⟩ ⟨by omega, by omega⟩) 28 rfl (fun c21 => ?_) (fun c21 => ?_)
      ·
        refine wc_ldcN 16777216 dX0_again_28 (kK0_18 rfl) (by decide) ?_
        refine wc_iastore dX0_again_30 rfl ⟨by decide, Or.inl (by decide)⟩ rfl ⟨by omega, by omega⟩ _ rfl ?_
        refine wc_iinc dX0_again_31 rfl ?_
        refine wc_goto dX0_again_34 6 rfl ?_
        exact hst _ (by rw [if_neg (by omega)])
      ·
        refine wc_iconst dX0_again_24 ?_
        refine wc_goto dX0_again_25 30 rfl ?_
        refine wc_iastore dX0_again_30 rfl ⟨by decide, Or.inl (by decide)⟩ rfl ⟨by omega, by omega⟩ _ rfl ?_
        refine wc_iinc dX0_again_31 rfl ?_
        refine wc_goto dX0_again_34 6 rfl ?_
        exact hst _ (by rw [if_pos (by omega)])
theorem AgI.zero (h : ∀ B, 0 ≤ B → B < 1024 → arF u 23 B = if B = 0 then 0 else 16777216) : AgI w 0 u := by
  have hz : ∀ (k : Nat) (i : Int), vsV (fun _ => -1) (wofF w) k i = 0 := by
    intro k
    induction k with
    | zero => intro i; rfl
    | succ k ih => intro i; unfold vsV; rw [ih]; rfl
  refine ⟨fun A a0 a1 => ?_, 0, ⟨by omega, by omega⟩, fun m m0 m1 => ?_, ?_⟩
  · rw [h A a0 a1]
    by_cases e : A = 0
    · rw [if_pos e]
      refine Or.inr ⟨⟨Int.le_refl _, Int.le_refl _⟩, fun _ => -1, fun m _ _ => Or.inl rfl, fun m m' _ _ _ _ q _ => absurd q (by show ¬ (0 : Int) ≤ -1; omega), fun m m0 m1 => ?_, ?_⟩
      · rw [e, bit_0]; show (0 : Int) = 1 ↔ (0 : Int) ≤ -1; omega
      · rw [hz]; rfl
    · rw [if_neg e]; exact Or.inl rfl
  · rw [bit_0]; omega
  · rw [h 0 (by omega) (by omega), if_pos rfl, vs_congr (g := fun _ => -1) 10 0 (fun m m0 m1 => by
      show (if slF w m < 0 then slF w m else -1) = -1
      split
      · have := (gr_inv (V := wofF w) (n := (sltF w (w 3)).toNat) 10 (lftF w (sltF w (w 3)).toNat 0 0, 0, 0, fun _ => -1) (by omega) ⟨fun m _ _ => Or.inl rfl, fun m m' _ _ _ _ h _ => absurd h (by show ¬ (0 : Int) ≤ -1; omega)⟩ (fun m _ _ => rfl)).1 m m0 (by omega)
        rcases this with r | r
        · exact r
        · have : slF w m = _ := rfl
          unfold slF givF at *
          omega
      · rfl), hz]
    show (0 : Int) ≤ 10000 * 0 - 0
    omega
/-- beyond nC there is no place -/
theorem AgI.lift (hS : WS w) (h : AgI w (nC w) u) : AgI w (sltF w (w 3)) u := by
  by_cases hl : 0 ≤ ledF w
  · have e : nC w = sltF w (w 3) := by unfold nC; rw [if_neg (by omega)]
    rw [← e]; exact h
  · have e : nC w = 0 := by unfold nC; rw [if_pos (by omega)]
    rw [e] at h
    have hp : ∀ s, pl0F w s < 0 := fun s => by
      unfold pl0F plcF
      rw [if_pos (show ledF w < 0 by omega)]
      split <;> omega
    have hk : ∀ k : Nat, AgI w (k : Int) u := by
      intro k
      induction k with
      | zero => exact h
      | succ k ih => exact ih.skip (by omega) (hp _)
    have := hk (sltF w (w 3)).toNat
    rw [Int.toNat_of_nonneg hS.2.2.2.1.1] at this
    exact this
theorem ds_1190 : ∀ (n : Nat) (i : Int), dsN (slF w) (dsF w w) n i ≤ 120 * n := by
  intro n
  induction n with
  | zero => intro i; exact Int.le_refl _
  | succ n ih =>
    intro i
    have := ih (i + 1)
    unfold dsN
    by_cases h : 0 ≤ slF w i
    · have h1 := (dsF_self h).1
      have h2 := dsF_rng (w0 := w) (c := celF w i) h
      rw [if_pos h]; omega
    · rw [if_neg h]; omega
theorem cc_again (h : SI w C t) (hC : 300 ≤ C ∧ C < 1999999000) : Ct kap 5 rX0_again [.inr 10] t (fun v u => some (.inl (givF w).2.2.1) = v ∧ FrS t u ∧ nvC u = nvC t ∧ uC u = uC t) := by
  intro d hd
  have hr := h.2.2.2.2.rng (by omega)
  have hS := h.2.2.1
  have hn0 := hS.2.2.2.1
  refine wc_aload_n dX0_again_0 rfl ?_
  refine wc_call dX0_again_1 rfl (cc_laysPlaces h.1 hS hr h.2.1.2.2.1) (by omega) (hx_V (kV0_94 rfl) rfl rfl rfl rfl) ?_
  rintro _ _ ⟨rfl, hF, hP, h1⟩
  rename_i u1
  refine wc_iconst dX0_again_4 ?_
  refine wc_istore_n dX0_again_5 rfl ?_
  have hI := h.frs hF
  refine cc_again_6 hd 1024 0 u1 (by omega) (by omega) FrQ2.rf (fun B a b => by omega) (fun u2 g2 q2 => ?_)
  refine cc_again_39 hI hP hC hd (nC w).toNat 0 u2 (by have := nC_0 hS; omega) (by omega) g2 (AgI.zero q2) (fun u3 g3 q3 => ?_)
  have q4 := q3.lift hS
  have hop : 0 ≤ opB w (sltF w (w 3)) ∧ opB w (sltF w (w 3)) ≤ ((sltF w (w 3)).toNat : Int) := opn_rng w (sltF w (w 3)).toNat 0
  have hcn := giv_cnt (w := w)
  have hds := ds_1190 (w := w) 10 0
  have hd0 := (dsN_0 (w := w) 10 0).1
  rw [dsN_V] at hds hd0
  rw [hcn.2] at hds hd0
  have hend : ∀ x, (∀ B, 0 ≤ B → B < 1024 → x ≤ arF u3 23 B) → (x = 16777216 ∨ ∃ B, (0 ≤ B ∧ B < 1024) ∧ x = arF u3 23 B) → 0 ≤ x ∧ x % 10000 = (givF w).2.2.1 := fun x x1 x2 => again_end (V := wofF w) (n := (sltF w (w 3)).toNat) (L := lftF w (sltF w (w 3)).toNat 0 0) (sl := slF w) (f := arF u3 23) (P := opB w (sltF w (w 3))) (fun m s m0 m1 s0 s1 q => by
    have hp : 0 ≤ pl0F w s := Classical.byContradiction (fun r => q (by unfold wofF; rw [if_neg (fun z => r z.2.2)]))
    rw [lft_bit _ _ _ _ (by omega) s0, if_pos ⟨s0, by omega, hp⟩]
    omega) rfl hcn (by rw [Int.toNat_of_nonneg hn0.1]; exact q4.1) (by rw [Int.toNat_of_nonneg hn0.1]; exact q4.2) (by omega) (by show 0 ≤ (givF w).2.2.1 ∧ (givF w).2.2.1 < 10000; omega) (fun m s => (wof_le w m s).1) x1 x2
  refine wc_ldcN 16777216 dX0_again_67 (kK0_18 rfl) (by decide) ?_
  refine wc_istore_n dX0_again_69 rfl ?_
  refine wc_aload_n dX0_again_70 rfl ?_
  refine wc_getC dX0_again_71 (kF0_275 rfl) rfl rfl ?_
  refine wc_astore_n dX0_again_74 rfl ?_
  refine wc_aload_n dX0_again_75 rfl ?_
  refine wc_alenI dX0_again_76 rfl ?_
  refine wc_istore_n dX0_again_77 rfl ?_
  refine wc_iconst dX0_again_78 ?_
  refine wc_istore dX0_again_79 rfl ?_
  refine cc_again_81 (t := u3) (Nat.zero_le _) (fun A a b => ?_) 1024 0 16777216 none (by omega) (by omega) (by omega) (fun B a b => by omega) (Or.inl rfl) (fun x _ x1 x2 => ⟨?_, hF.tr g3.frs, ?_, ?_⟩)
  · have := q4.1.rng (A := A) (by omega) ⟨a, b⟩
    omega
  · rw [(hend x x1 x2).2]
  · show u3.1.2.1 = _; rw [g3.1, h1]
  · show u3.1.2.2 = _; rw [g3.1, h1]
end QAG3
