/-! THE CLASS'S METHODS, 55: again -/
set_option maxRecDepth 100000
/-- only scratch x is changed -/
theorem FrQ.frs {τ u : CT} {x : Nat} (g : FrQ x τ u) (hx : x < 100 ∧ x ≠ 10 ∧ x ≠ 17 ∧ x ≠ 18 ∧ x ≠ 19 ∧ x ≠ 20 ∧ x ≠ 21 ∧ x ≠ 22) : FrS τ u := by
  have e : ∀ y, y ≠ x → sg u y = sg τ y := g.2.2
  have e0 : n0C u = n0C τ := by unfold n0C; rw [g.1]
  have ev : nvC u = nvC τ := by unfold nvC; rw [g.1]
  exact ⟨⟨e0, by omega⟩, fun v hv => e v (by omega), fun j _ _ => by rw [e 10 (by omega)], fun y y1 y2 => ⟨by rw [g.2.1], fun _ => e y (by omega)⟩, e 18 (by omega), fun y y1 y2 => ⟨by rw [g.2.1], e y (by omega)⟩⟩
/-- an array of 1024 as a function of the set -/
abbrev arF (t : CT) (x : Nat) : Int → Int := fun A => sg t x A.toNat
section QAGN
variable {w w' : Nat → Int} {R : Nat → Nat → Int} {τ t u t0 : CT} {m c v C x y s f e A P : Int} {d n i j k a b z : Nat} {Q : Option AV → CT → Prop}
theorem SndA.rng {V : Int → Int → Int} {f : Int → Int} (h : SndA V s P f) (hP : 0 ≤ P ∧ P ≤ 20) (hA : 0 ≤ A ∧ A < 1024) : 0 ≤ f A ∧ f A ≤ 16777216 ∧ (f A < 16777216 → Snd1 V s P A (f A)) ∧ (f A ≤ 200000 ∨ f A = 16777216) := by
  rcases h A hA.1 hA.2 with r | r
  · exact ⟨by omega, by omega, fun q => by omega, Or.inr r⟩
  · have := r.1
    exact ⟨by omega, by omega, fun _ => r, Or.inl (by omega)⟩
theorem wof_le (w : Nat → Int) (m s : Int) : 0 ≤ wofF w m s ∧ wofF w m s ≤ 10000 := by
  rw [wofF_dd]
  have := ddF_rng w m s
  split <;> omega
/-- what givesTo leaves, from the state t1 behind its first step -/
def GvT (w : Nat → Int) (s P A : Int) (t1 u : CT) : Prop := FrQ 24 t1 u ∧ (∀ B, 0 ≤ B → B < 1024 → arF u 24 B ≤ arF t1 24 B) ∧ SndA (wofF w) (s + 1) (P + 1) (arF u 24) ∧ ∀ m, 0 ≤ m → m < 10 → ¬ bitF A m = 1 → ¬ wofF w m s = 0 → arF u 24 (setF A m) ≤ arF t1 23 A + (10000 - wofF w m s)
theorem cc_givesTo_27 (h1 : SI w C τ) (hP : PLs w τ) (hl : 0 ≤ ledF w) (hs : 0 ≤ s ∧ s < nC w) (hpl : 0 ≤ pl0F w s) (hA : 0 ≤ A ∧ A < 1024) (hPr : 0 ≤ P ∧ P ≤ 10) (hf : Snd1 (wofF w) s P A (arF τ 23 A)) (hC : 300 ≤ C ∧ C < 1999999000) (hd : 3 ≤ d) : ∀ (n : Nat) (m : Int) (t : CT) (o : Option AV), m + n = 10 → 0 ≤ m → FrQ 24 τ t → (∀ B, 0 ≤ B → B < 1024 → arF t 24 B ≤ arF τ 24 B) → SndA (wofF w) (s + 1) (P + 1) (arF t 24) → (∀ m', 0 ≤ m' → m' < m → ¬ bitF A m' = 1 → ¬ wofF w m' s = 0 → arF t 24 (setF A m') ≤ arF τ 23 A + (10000 - wofF w m' s)) → Wc kap d rX0_givesTo 27 [some (.inr 10), some (.inl s), some (.inl A), some (.inl m), o] [] t (nQ (fun v u => none = v ∧ GvT w s P A τ u)) := by
  have hr := h1.2.2.2.2.rng (by omega)
  have h0w := h1.2.1.1.2
  have hs10 := nC_le h1.2.2.1
  intro n
  induction n with
  | zero =>
    intro m t o hm h0 g g1 g2 g4
    have e : m = 10 := by omega
    subst e
    refine wc_iload_n dX0_givesTo_27 rfl ?_
    refine wc_bipush dX0_givesTo_28 (by decide) ?_
    refine wc_icmp dX0_givesTo_30 (cB_ge ⟨by omega, by omega⟩ ⟨by omega, by omega⟩) 148 rfl (fun c30 => ?_) (fun c30 => ?_)
    ·
      refine wc_vreturn dX0_givesTo_148 rfl ?_
      exact ⟨rfl, g, g1, g2, fun m m0 m1 => g4 m m0 m1⟩
    ·
      omega
  | succ n ih =>
    intro m t o hm h0 g g1 g2 g4
    have hI := g.si ⟨by decide, by decide, by decide⟩ h1
    have hbit := b_rng hA (s := m) ⟨h0, by omega⟩
    have hskip : ∀ (t' : CT) (o' : Option AV), FrQ 24 τ t' → (∀ B, 0 ≤ B → B < 1024 → arF t' 24 B ≤ arF t 24 B) → SndA (wofF w) (s + 1) (P + 1) (arF t' 24) → (¬ bitF A m = 1 → ¬ wofF w m s = 0 → arF t' 24 (setF A m) ≤ arF τ 23 A + (10000 - wofF w m s)) → Wc kap d rX0_givesTo 27 [some (.inr 10), some (.inl s), some (.inl A), some (.inl (m + 1)), o'] [] t' (nQ (fun v u => none = v ∧ GvT w s P A τ u)) := fun t' o' k1 k2 k3 k4 => by
      refine ih (m + 1) t' o' (by omega) (by omega) k1 (fun B b0 b1 => Int.le_trans (k2 B b0 b1) (g1 B b0 b1)) k3 (fun m' a b q q2 => ?_)
      by_cases e : m' = m
      · subst e; exact k4 q q2
      · exact Int.le_trans (k2 _ (b_rng hA (s := m') ⟨a, by omega⟩).2.1.1 (b_rng hA (s := m') ⟨a, by omega⟩).2.1.2) (g4 m' a (by omega) q q2)
    have hz : wofF w m s = 0 → ∀ o', Wc kap d rX0_givesTo 27 [some (.inr 10), some (.inl s), some (.inl A), some (.inl (m + 1)), o'] [] t (nQ (fun v u => none = v ∧ GvT w s P A τ u)) := fun q o' => hskip t o' g (fun B _ _ => Int.le_refl _) g2 (fun _ q2 => absurd q q2)
    have hrow := (hP.1 s hs.1 hs.2).2 hpl
    have e40 : sg t (40 + s.toNat) = sg τ (40 + s.toNat) := g.2.2 _ (by omega)
    have e23 : sg t 23 = sg τ 23 := g.2.2 23 (by decide)
    have hfA := hf.1
    by_cases hmm : isM w m
    · have hM := hI.1.1.mem h0w hmm
      have hkM := hM.kd (T := kap)
      have hmr := isM_le hmm h0w
      have hcm : 0 ≤ celF w m ∧ celF w m < 120 := ⟨hmm.2, (h1.2.2.1.2.2.1 m hmr.1 hmr.2).2⟩
      have hfr := fr_rng (w := w) (x := celF w m) hpl
      have hen : enF (frF w s) (celF w m) = if frF w s (celF w m) < 0 then 16777216 else frF w s (celF w m) := rfl
      have hld : ldO w = ledF w := by unfold ldO; rw [if_neg (by omega)]
      have hlr := ledF_rng w h0w
      have hN := g2.rng (A := setF A m) (by omega) hbit.2.1
      have hwo : ¬ m = ledF w → wofF w m s = if frF w s (celF w m) < 0 then 0 else 10000 - frF w s (celF w m) := fun q => by unfold wofF; rw [if_pos ⟨hmm, q, hpl⟩]
      refine wc_iload_n dX0_givesTo_27 rfl ?_
      refine wc_bipush dX0_givesTo_28 (by decide) ?_
      refine wc_icmp dX0_givesTo_30 (cB_ge ⟨by omega, by omega⟩ ⟨by omega, by omega⟩) 148 rfl (fun c30 => ?_) (fun c30 => ?_)
      ·
        omega
      ·
        refine wc_iload_n dX0_givesTo_33 rfl ?_
        refine wc_iload_n dX0_givesTo_34 rfl ?_
        refine wc_shr dX0_givesTo_35 hA ⟨h0, by omega⟩ ?_
        refine wc_iconst dX0_givesTo_36 ?_
        refine wc_and1 dX0_givesTo_37 hbit.2.2.2 ?_
        refine wc_iconst dX0_givesTo_38 ?_
        rw [show A / 2 ^ m.toNat % 2 = bitF A m from rfl]
        refine wc_icmp dX0_givesTo_39 (cB_eq (show rng _ by omega) (by omega)) 142 rfl (fun c39 => ?_) (fun c39 => ?_)
        ·
          refine wc_iinc dX0_givesTo_142 rfl ?_
          refine wc_goto dX0_givesTo_145 27 rfl ?_
          exact hskip t _ g (fun B _ _ => Int.le_refl _) g2 (fun q _ => absurd c39 q)
        ·
          refine wc_aload_n dX0_givesTo_42 rfl ?_
          refine wc_getC dX0_givesTo_43 (kF0_19 rfl) rfl rfl ?_
          refine wc_getC dX0_givesTo_46 (kF0_80 rfl) rfl rfl ?_
          refine wc_iload_n dX0_givesTo_49 rfl ?_
          refine wc_aaload (y := mnC t m) dX0_givesTo_50 rfl rfl rfl ⟨by omega, by omega⟩ rfl ?_
          refine wc_ifnull dX0_givesTo_51 (Or.inr (by rw [hM.kd]; rfl)) 142 rfl (fun c51 => ?_) (fun c51 => ?_)
          ·
            exact absurd c51 (by have := hM.1.1; omega)
          ·
            refine wc_iload_n dX0_givesTo_54 rfl ?_
            refine wc_aload_n dX0_givesTo_55 rfl ?_
            refine wc_getC dX0_givesTo_56 (kF0_19 rfl) rfl rfl ?_
            refine wc_call dX0_givesTo_59 rfl (cc_leads hI.1.1 h1.2.1.1 (hr 1)) (by omega) (hx_V (kV0_55 rfl) rfl rfl rfl rfl) ?_
            rintro _ _ ⟨rfl, rfl⟩
            rw [hld]
            refine wc_icmp dX0_givesTo_62 (cB_eq (show rng _ by omega) (show rng _ by omega)) 142 rfl (fun c62 => ?_) (fun c62 => ?_)
            ·
              refine wc_iinc dX0_givesTo_142 rfl ?_
              refine wc_goto dX0_givesTo_145 27 rfl ?_
              exact hz (by unfold wofF; rw [if_neg (fun q => q.2.1 c62)]) _
            ·
              refine wc_aload_n dX0_givesTo_65 rfl ?_
              refine wc_getC dX0_givesTo_66 (kF0_45 rfl) rfl rfl ?_
              refine wc_iload_n dX0_givesTo_69 rfl ?_
              refine wc_aaloadC dX0_givesTo_70 rfl rfl rfl ⟨by omega, by omega⟩ (if_pos (by omega)) ?_
              refine wc_aload_n dX0_givesTo_71 rfl ?_
              refine wc_getC dX0_givesTo_72 (kF0_19 rfl) rfl rfl ?_
              refine wc_getC dX0_givesTo_75 (kF0_80 rfl) rfl rfl ?_
              refine wc_iload_n dX0_givesTo_78 rfl ?_
              refine wc_aaload (y := mnC t m) dX0_givesTo_79 rfl rfl rfl ⟨by omega, by omega⟩ rfl ?_
              refine wc_getI dX0_givesTo_80 (kF0_49 rfl) hkM rfl ?_
              rw [hM.2.2.1]
              refine wc_iaload dX0_givesTo_83 (kap_from (by omega)) rfl rfl ⟨by omega, by omega⟩ _ rfl ?_
              rw [e40, hrow _ hcm.1 hcm.2]
              refine wc_ldcN 16777216 dX0_givesTo_84 (kK0_18 rfl) (by decide) ?_
              refine wc_icmp dX0_givesTo_86 (cB_ne (by rw [hen]; split <;> omega) (by omega)) 92 rfl (fun c86 => ?_) (fun c86 => ?_)
              ·
                refine wc_iload_n dX0_givesTo_92 rfl ?_
                refine wc_iconst dX0_givesTo_93 ?_
                refine wc_iload_n dX0_givesTo_94 rfl ?_
                refine wc_shl1 dX0_givesTo_95 ⟨h0, by omega⟩ ?_
                refine wc_or1 dX0_givesTo_96 hA ⟨h0, by omega⟩ ?_
                refine wc_istore dX0_givesTo_97 rfl ?_
                refine wc_aload_n dX0_givesTo_99 rfl ?_
                refine wc_getC dX0_givesTo_100 (kF0_278 rfl) rfl rfl ?_
                refine wc_iload dX0_givesTo_103 rfl ?_
                refine wc_aload_n dX0_givesTo_105 rfl ?_
                refine wc_getC dX0_givesTo_106 (kF0_278 rfl) rfl rfl ?_
                refine wc_iload dX0_givesTo_109 rfl ?_
                refine wc_iaload dX0_givesTo_111 rfl rfl rfl ⟨by omega, by omega⟩ _ rfl ?_
                refine wc_aload_n dX0_givesTo_112 rfl ?_
                refine wc_getC dX0_givesTo_113 (kF0_275 rfl) rfl rfl ?_
                refine wc_iload_n dX0_givesTo_116 rfl ?_
                refine wc_iaload dX0_givesTo_117 rfl rfl rfl ⟨by omega, by omega⟩ _ rfl ?_
                rw [e23]
                refine wc_aload_n dX0_givesTo_118 rfl ?_
                refine wc_getC dX0_givesTo_119 (kF0_45 rfl) rfl rfl ?_
                refine wc_iload_n dX0_givesTo_122 rfl ?_
                refine wc_aaloadC dX0_givesTo_123 rfl rfl rfl ⟨by omega, by omega⟩ (if_pos (by omega)) ?_
                refine wc_aload_n dX0_givesTo_124 rfl ?_
                refine wc_getC dX0_givesTo_125 (kF0_19 rfl) rfl rfl ?_
                refine wc_getC dX0_givesTo_128 (kF0_80 rfl) rfl rfl ?_
                refine wc_iload_n dX0_givesTo_131 rfl ?_
                refine wc_aaload (y := mnC t m) dX0_givesTo_132 rfl rfl rfl ⟨by omega, by omega⟩ rfl ?_
                refine wc_getI dX0_givesTo_133 (kF0_49 rfl) hkM rfl ?_
                rw [hM.2.2.1]
                refine wc_iaload dX0_givesTo_136 (kap_from (by omega)) rfl rfl ⟨by omega, by omega⟩ _ rfl ?_
                rw [e40, hrow _ hcm.1 hcm.2]
                refine wc_iadd dX0_givesTo_137 ?_
                refine wc_min dX0_givesTo_138 rfl rfl (show rng (arF t 24 (setF A m)) by omega) (show rng (arF τ 23 A + _) by omega) rfl ?_
                refine wc_iastore dX0_givesTo_141 rfl ⟨by decide, Or.inl (by decide)⟩ rfl ⟨by omega, by omega⟩ _ rfl ?_
                refine wc_iinc dX0_givesTo_142 rfl ?_
                refine wc_goto dX0_givesTo_145 27 rfl ?_
                have hfr0 : ¬ frF w s (celF w m) < 0 := fun q => by rw [hen, if_pos q] at c86; omega
                rw [hen, if_neg hfr0]
                have hw1 := hwo c62
                rw [if_neg hfr0] at hw1
                have hfA2 := hf.yes (m := m) ⟨h0, by omega⟩ c39 hs.1 (by omega) (by omega)
                rw [hw1] at hfA2
                have hsum : arF τ 23 A + (10000 - (10000 - frF w s (celF w m))) = sg τ 23 A.toNat + frF w s (celF w m) := by show sg τ 23 A.toNat + _ = _; omega
                rw [hsum] at hfA2
                have hv : ∀ v, (v = sg τ 23 A.toNat + frF w s (celF w m) ∨ v = sg t 24 (setF A m).toNat) → v ≤ sg τ 23 A.toNat + frF w s (celF w m) → v ≤ sg t 24 (setF A m).toNat → Wc kap d rX0_givesTo 27 [some (.inr 10), some (.inl s), some (.inl A), some (.inl (m + 1)), some (.inl (setF A m))] [] (stC t 24 (setF A m).toNat v) (nQ (fun v u => none = v ∧ GvT w s P A τ u)) := fun v hv v1 v2 => by
                  have hx : ∀ B : Int, 0 ≤ B → arF (stC t 24 (setF A m).toNat v) 24 B = if B = setF A m then v else arF t 24 B := fun B b0 => by
                    show sg (stC t 24 (setF A m).toNat v) 24 B.toNat = _
                    rw [sg_st]
                    simp only [toNat_ne b0 hbit.2.1.1]
                  refine hskip _ _ (g.tr FrQ.st) (fun B b0 b1 => ?_) (fun B b0 b1 => ?_) (fun _ _ => ?_)
                  · rw [hx B b0]
                    by_cases e : B = setF A m
                    · rw [if_pos e, e]; exact v2
                    · rw [if_neg e]; exact Int.le_refl _
                  · rw [hx B b0]
                    by_cases e : B = setF A m
                    · rw [if_pos e, e]
                      rcases hv with r | r
                      · rw [r]; exact Or.inr hfA2
                      · rw [r]; exact g2 _ hbit.2.1.1 hbit.2.1.2
                    · rw [if_neg e]; exact g2 B b0 b1
                  · rw [hx _ hbit.2.1.1, if_pos rfl, hw1]
                    have : arF τ 23 A = sg τ 23 A.toNat := rfl
                    omega
                refine hv _ ?_ ?_ ?_
                · split
                  · exact Or.inl rfl
                  · exact Or.inr rfl
                · split <;> omega
                · split <;> omega
              ·
                refine wc_goto dX0_givesTo_89 142 rfl ?_
                refine wc_iinc dX0_givesTo_142 rfl ?_
                refine wc_goto dX0_givesTo_145 27 rfl ?_
                exact hz (by rw [hwo c62, if_pos (by rw [hen] at c86; split at c86 <;> omega)]) _
    · have hzz : wofF w m s = 0 := by unfold wofF; rw [if_neg (fun q => hmm q.1)]
      have hz0 : mnC t m = 0 := by unfold mnC; rw [hI.1.1.non hmm ⟨h0, by omega⟩]; rfl
      refine wc_iload_n dX0_givesTo_27 rfl ?_
      refine wc_bipush dX0_givesTo_28 (by decide) ?_
      refine wc_icmp dX0_givesTo_30 (cB_ge ⟨by omega, by omega⟩ ⟨by omega, by omega⟩) 148 rfl (fun c30 => ?_) (fun c30 => ?_)
      ·
        omega
      ·
        refine wc_iload_n dX0_givesTo_33 rfl ?_
        refine wc_iload_n dX0_givesTo_34 rfl ?_
        refine wc_shr dX0_givesTo_35 hA ⟨h0, by omega⟩ ?_
        refine wc_iconst dX0_givesTo_36 ?_
        refine wc_and1 dX0_givesTo_37 hbit.2.2.2 ?_
        refine wc_iconst dX0_givesTo_38 ?_
        rw [show A / 2 ^ m.toNat % 2 = bitF A m from rfl]
        refine wc_icmp dX0_givesTo_39 (cB_eq (show rng _ by omega) (by omega)) 142 rfl (fun c39 => ?_) (fun c39 => ?_)
        ·
          refine wc_iinc dX0_givesTo_142 rfl ?_
          refine wc_goto dX0_givesTo_145 27 rfl ?_
          exact hz hzz _
        ·
          refine wc_aload_n dX0_givesTo_42 rfl ?_
          refine wc_getC dX0_givesTo_43 (kF0_19 rfl) rfl rfl ?_
          refine wc_getC dX0_givesTo_46 (kF0_80 rfl) rfl rfl ?_
          refine wc_iload_n dX0_givesTo_49 rfl ?_
          refine wc_aaload (y := mnC t m) dX0_givesTo_50 rfl rfl rfl ⟨by omega, by omega⟩ rfl ?_
          refine wc_ifnull dX0_givesTo_51 (Or.inl hz0) 142 rfl (fun c51 => ?_) (fun c51 => ?_)
          ·
            refine wc_iinc dX0_givesTo_142 rfl ?_
            refine wc_goto dX0_givesTo_145 27 rfl ?_
            exact hz hzz _
          ·
            exact absurd hz0 c51
theorem cc_givesTo (h1 : SI w C τ) (hP : PLs w τ) (hl : 0 ≤ ledF w) (hs : 0 ≤ s ∧ s < nC w) (hpl : 0 ≤ pl0F w s) (hA : 0 ≤ A ∧ A < 1024) (hPr : 0 ≤ P ∧ P ≤ 10) (hf : Snd1 (wofF w) s P A (arF τ 23 A)) (hg : SndA (wofF w) (s + 1) (P + 1) (arF τ 24)) (hC : 300 ≤ C ∧ C < 1999999000) : Ct kap 3 rX0_givesTo [.inr 10, .inl s, .inl A] τ (fun v u => none = v ∧ FrQ 24 τ u ∧ (∀ B, 0 ≤ B → B < 1024 → arF u 24 B ≤ arF τ 24 B) ∧ SndA (wofF w) (s + 1) (P + 1) (arF u 24) ∧ arF u 24 A ≤ arF τ 23 A + 10000 ∧ ∀ m, 0 ≤ m → m < 10 → ¬ bitF A m = 1 → ¬ wofF w m s = 0 → arF u 24 (setF A m) ≤ arF τ 23 A + (10000 - wofF w m s)) := by
  intro d hd
  have hs10 := nC_le h1.2.2.1
  have hfA := hf.1
  have hgA := hg.rng (A := A) (by omega) hA
  have e23 : arF τ 23 A = sg τ 23 A.toNat := rfl
  have e24 : arF τ 24 A = sg τ 24 A.toNat := rfl
  have hgo : ∀ v, (v = sg τ 23 A.toNat + 10000 ∨ v = sg τ 24 A.toNat) → v ≤ sg τ 23 A.toNat + 10000 → v ≤ sg τ 24 A.toNat → Wc kap d rX0_givesTo 27 [some (.inr 10), some (.inl s), some (.inl A), some (.inl 0), none] [] (stC τ 24 A.toNat v) (nQ (fun v u => none = v ∧ FrQ 24 τ u ∧ (∀ B, 0 ≤ B → B < 1024 → arF u 24 B ≤ arF τ 24 B) ∧ SndA (wofF w) (s + 1) (P + 1) (arF u 24) ∧ arF u 24 A ≤ arF τ 23 A + 10000 ∧ ∀ m, 0 ≤ m → m < 10 → ¬ bitF A m = 1 → ¬ wofF w m s = 0 → arF u 24 (setF A m) ≤ arF τ 23 A + (10000 - wofF w m s))) := fun v hv v1 v2 => by
    have hx : ∀ B : Int, 0 ≤ B → arF (stC τ 24 A.toNat v) 24 B = if B = A then v else arF τ 24 B := fun B b0 => by
      show sg (stC τ 24 A.toNat v) 24 B.toNat = _
      rw [sg_st]
      simp only [toNat_ne b0 hA.1]
    have g0 : FrQ 24 τ (stC τ 24 A.toNat v) := FrQ.st
    have hI := g0.si ⟨by decide, by decide, by decide⟩ h1
    have e3 : sg (stC τ 24 A.toNat v) 23 = sg τ 23 := sg_st' (by decide)
    have hP1 : PLs w (stC τ 24 A.toNat v) := hP.of h1.2.2.1 (fun y hy => sg_st' (by omega)) (by rw [sg_st' (by decide)]) (by rw [sg_st' (by decide)])
    have hs1 : SndA (wofF w) (s + 1) (P + 1) (arF (stC τ 24 A.toNat v) 24) := fun B b0 b1 => by
      rw [hx B b0]
      by_cases e : B = A
      · rw [if_pos e, e]
        rcases hv with r | r
        · rw [r]; exact Or.inr hf.no
        · rw [r]; exact hg A hA.1 hA.2
      · rw [if_neg e]; exact hg B b0 b1
    have eA : arF (stC τ 24 A.toNat v) 23 A = arF τ 23 A := by show sg (stC τ 24 A.toNat v) 23 A.toNat = _; rw [e3]
    have K := cc_givesTo_27 hI hP1 hl hs hpl hA hPr (by rw [eA]; exact hf) hC hd 10 0 _ none (by omega) (by omega) FrQ.rf (fun B _ _ => Int.le_refl _) hs1 (fun m a b => by omega)
    refine K.mn (fun r u q => ?_)
    obtain ⟨q1, q2, q3, q4, q5⟩ := q
    refine ⟨q1, g0.tr q2, fun B b0 b1 => ?_, q4, ?_, fun m m0 m1 r1 r2 => ?_⟩
    · have := q3 B b0 b1
      rw [hx B b0] at this
      by_cases e : B = A
      · rw [if_pos e] at this; rw [e] at this ⊢; exact Int.le_trans this v2
      · rw [if_neg e] at this; exact this
    · have := q3 A hA.1 hA.2
      rw [hx A hA.1, if_pos rfl] at this
      exact Int.le_trans this v1
    · have := q5 m m0 m1 r1 r2
      rw [eA] at this
      exact this
  refine wc_aload_n dX0_givesTo_0 rfl ?_
  refine wc_getC dX0_givesTo_1 (kF0_278 rfl) rfl rfl ?_
  refine wc_iload_n dX0_givesTo_4 rfl ?_
  refine wc_aload_n dX0_givesTo_5 rfl ?_
  refine wc_getC dX0_givesTo_6 (kF0_278 rfl) rfl rfl ?_
  refine wc_iload_n dX0_givesTo_9 rfl ?_
  refine wc_iaload dX0_givesTo_10 rfl rfl rfl ⟨by omega, by omega⟩ _ rfl ?_
  refine wc_aload_n dX0_givesTo_11 rfl ?_
  refine wc_getC dX0_givesTo_12 (kF0_275 rfl) rfl rfl ?_
  refine wc_iload_n dX0_givesTo_15 rfl ?_
  refine wc_iaload dX0_givesTo_16 rfl rfl rfl ⟨by omega, by omega⟩ _ rfl ?_
  refine wc_sipush dX0_givesTo_17 (by decide) ?_
  refine wc_iadd dX0_givesTo_20 ?_
  refine wc_min dX0_givesTo_21 rfl rfl (show rng (sg τ 24 A.toNat) by omega) (show rng (sg τ 23 A.toNat + 10000) by omega) rfl ?_
  refine wc_iastore dX0_givesTo_24 rfl ⟨by decide, Or.inl (by decide)⟩ rfl ⟨by omega, by omega⟩ _ rfl ?_
  refine wc_iconst dX0_givesTo_25 ?_
  refine wc_istore_n dX0_givesTo_26 rfl ?_
  refine hgo _ ?_ ?_ ?_
  · split
    · exact Or.inl rfl
    · exact Or.inr rfl
  · split <;> omega
  · split <;> omega
/-- one slot more: what goesOn leaves -/
def GonP (w : Nat → Int) (s P : Int) (τ u : CT) : Prop := (u.1 = τ.1 ∧ u.2.1 = τ.2.1 ∧ ∀ y, y ≠ 23 → y ≠ 24 → sg u y = sg τ y) ∧ SndA (wofF w) (s + 1) (P + 1) (arF u 23) ∧ (∀ A, 0 ≤ A → A < 1024 → arF τ 23 A < 16777216 → arF u 23 A ≤ arF τ 23 A + 10000) ∧ ∀ A m, 0 ≤ A → A < 1024 → arF τ 23 A < 16777216 → 0 ≤ m → m < 10 → ¬ bitF A m = 1 → ¬ wofF w m s = 0 → arF u 23 (setF A m) ≤ arF τ 23 A + (10000 - wofF w m s)
theorem cc_goesOn_27 (h1 : SI w C τ) (hP : PLs w τ) (hl : 0 ≤ ledF w) (hs : 0 ≤ s ∧ s < nC w) (hpl : 0 ≤ pl0F w s) (hPr : 0 ≤ P ∧ P ≤ 10) (hf : SndA (wofF w) s P (arF τ 23)) (hC : 300 ≤ C ∧ C < 1999999000) (hd : 4 ≤ d) : ∀ (n : Nat) (A : Int) (t : CT), A + n = 1024 → 0 ≤ A → FrQ 24 τ t → SndA (wofF w) (s + 1) (P + 1) (arF t 24) → (∀ B, 0 ≤ B → B < A → arF τ 23 B < 16777216 → arF t 24 B ≤ arF τ 23 B + 10000) → (∀ B m, 0 ≤ B → B < A → arF τ 23 B < 16777216 → 0 ≤ m → m < 10 → ¬ bitF B m = 1 → ¬ wofF w m s = 0 → arF t 24 (setF B m) ≤ arF τ 23 B + (10000 - wofF w m s)) → Wc kap d rX0_goesOn 27 [some (.inr 10), some (.inl s), some (.inl A)] [] t (nQ (fun v u => none = v ∧ GonP w s P τ u)) := by
  intro n
  induction n with
  | zero =>
    intro A t hA h0 g g2 g3 g4
    have e : A = 1024 := by omega
    subst e
    refine wc_iload_n dX0_goesOn_27 rfl ?_
    refine wc_aload_n dX0_goesOn_28 rfl ?_
    refine wc_getC dX0_goesOn_29 (kF0_275 rfl) rfl rfl ?_
    refine wc_alenI dX0_goesOn_32 rfl ?_
    refine wc_icmp dX0_goesOn_33 (cB_ge ⟨by omega, by omega⟩ ⟨by omega, by omega⟩) 59 rfl (fun c33 => ?_) (fun c33 => ?_)
    ·
      refine wc_aload_n dX0_goesOn_59 rfl ?_
      refine wc_getC dX0_goesOn_60 (kF0_278 rfl) rfl rfl ?_
      refine wc_iconst dX0_goesOn_63 ?_
      refine wc_aload_n dX0_goesOn_64 rfl ?_
      refine wc_getC dX0_goesOn_65 (kF0_275 rfl) rfl rfl ?_
      refine wc_iconst dX0_goesOn_68 ?_
      refine wc_aload_n dX0_goesOn_69 rfl ?_
      refine wc_getC dX0_goesOn_70 (kF0_275 rfl) rfl rfl ?_
      refine wc_alenI dX0_goesOn_73 rfl ?_
      refine wc_cpyI dX0_goesOn_74 rfl rfl rfl ⟨by decide, Or.inl (by decide)⟩ (Or.inl rfl) rfl (by omega) (by omega) (by omega) (by omega) (by omega) ⟨by omega, by omega⟩ ?_
      refine wc_vreturn dX0_goesOn_77 rfl ?_
      refine ⟨rfl, ⟨g.1, g.2.1, fun y y1 y2 => by rw [cp_o y1]; exact g.2.2 y y2⟩, ?_, ?_, ?_⟩
      all_goals
        have hx : ∀ B : Int, 0 ≤ B → B < 1024 → arF (cpC t 24 23 (Int.toNat 0) (Int.toNat 0) (Int.toNat ((1024 : Nat) : Int))) 23 B = arF t 24 B := fun B b0 b1 => by
          show sg (cpC t 24 23 0 0 1024) 23 B.toNat = _
          rw [cp_y, if_pos ⟨by omega, by omega⟩, show 0 + (B.toNat - 0) = B.toNat by omega]
      · intro B b0 b1
        rw [hx B b0 b1]
        exact g2 B b0 b1
      · intro B b0 b1 q
        rw [hx B b0 b1]
        exact g3 B b0 b1 q
      · intro B m b0 b1 q m0 m1 q1 q2
        have hb := (b_rng ⟨b0, b1⟩ (s := m) ⟨m0, by omega⟩).2.1
        rw [hx _ hb.1 hb.2]
        exact g4 B m b0 b1 q m0 m1 q1 q2
    ·
      omega
  | succ n ih =>
    intro A t hA h0 g g2 g3 g4
    have hI := g.si ⟨by decide, by decide, by decide⟩ h1
    have e23 : sg t 23 = sg τ 23 := g.2.2 23 (by decide)
    have hP1 : PLs w t := hP.of h1.2.2.1 (fun y hy => g.2.2 y (by omega)) (by rw [g.2.2 10 (by decide)]) (by rw [g.2.2 10 (by decide)])
    have hr := hf.rng (A := A) (by omega) ⟨h0, by omega⟩
    have eA : arF t 23 A = arF τ 23 A := by show sg t 23 A.toNat = _; rw [e23]
    have eA2 : arF τ 23 A = sg τ 23 A.toNat := rfl
    refine wc_iload_n dX0_goesOn_27 rfl ?_
    refine wc_aload_n dX0_goesOn_28 rfl ?_
    refine wc_getC dX0_goesOn_29 (kF0_275 rfl) rfl rfl ?_
    refine wc_alenI dX0_goesOn_32 rfl ?_
    refine wc_icmp dX0_goesOn_33 (cB_ge ⟨by omega, by omega⟩ ⟨by omega, by omega⟩) 59 rfl (fun c33 => ?_) (fun c33 => ?_)
    ·
      omega
    ·
      refine wc_aload_n dX0_goesOn_36 rfl ?_
      refine wc_getC dX0_goesOn_37 (kF0_275 rfl) rfl rfl ?_
      refine wc_iload_n dX0_goesOn_40 rfl ?_
      refine wc_iaload dX0_goesOn_41 rfl rfl rfl ⟨by omega, by omega⟩ _ rfl ?_
      rw [e23]
      refine wc_ldcN 16777216 dX0_goesOn_42 (kK0_18 rfl) (by decide) ?_
      refine wc_icmp dX0_goesOn_44 (cB_ge (show rng _ by omega) (by omega)) 53 rfl (fun c44 => ?_) (fun c44 => ?_)
      ·
        refine wc_iinc dX0_goesOn_53 rfl ?_
        refine wc_goto dX0_goesOn_56 27 rfl ?_
        refine ih (A + 1) t (by omega) (by omega) g g2 (fun B b0 b1 q => ?_) (fun B m b0 b1 q => ?_)
        · by_cases e : B = A
          · rw [e] at q; omega
          · exact g3 B b0 (by omega) q
        · by_cases e : B = A
          · rw [e] at q; omega
          · exact g4 B m b0 (by omega) q
      ·
        refine wc_aload_n dX0_goesOn_47 rfl ?_
        refine wc_iload_n dX0_goesOn_48 rfl ?_
        refine wc_iload_n dX0_goesOn_49 rfl ?_
        refine wc_call dX0_goesOn_50 rfl (cc_givesTo hI hP1 hl hs hpl ⟨h0, by omega⟩ hPr (by rw [eA]; exact hr.2.2.1 (by omega)) g2 hC) (by omega) (hx_V (kV0_408 rfl) rfl rfl rfl rfl) ?_
        rintro _ _ ⟨rfl, q1, q2, q3, q4, q5⟩
        refine wc_iinc dX0_goesOn_53 rfl ?_
        refine wc_goto dX0_goesOn_56 27 rfl ?_
        rw [eA] at q4 q5
        refine ih (A + 1) _ (by omega) (by omega) (g.tr q1) q3 (fun B b0 b1 q => ?_) (fun B m b0 b1 q m0 m1 r1 r2 => ?_)
        · by_cases e : B = A
          · rw [e]; exact q4
          · exact Int.le_trans (q2 B b0 (by omega)) (g3 B b0 (by omega) q)
        · by_cases e : B = A
          · rw [e] at r1 ⊢; exact q5 m m0 m1 r1 r2
          · have hb := (b_rng (a := B) ⟨b0, by omega⟩ (s := m) ⟨m0, by omega⟩).2.1
            exact Int.le_trans (q2 _ hb.1 hb.2) (g4 B m b0 (by omega) q m0 m1 r1 r2)
theorem cc_goesOn_2 (hd : 4 ≤ d) : ∀ (n : Nat) (A : Int) (t : CT), A + n = 1024 → 0 ≤ A → FrQ 24 τ t → (∀ B, 0 ≤ B → B < A → arF t 24 B = 16777216) → (∀ u, FrQ 24 τ u → (∀ B, 0 ≤ B → B < 1024 → arF u 24 B = 16777216) → Wc kap d rX0_goesOn 27 [some (.inr 10), some (.inl s), some (.inl 0)] [] u (nQ Q)) → Wc kap d rX0_goesOn 2 [some (.inr 10), some (.inl s), some (.inl A)] [] t (nQ Q) := by
  intro n
  induction n with
  | zero =>
    intro A t hA h0 g g2 K
    refine wc_iload_n dX0_goesOn_2 rfl ?_
    refine wc_aload_n dX0_goesOn_3 rfl ?_
    refine wc_getC dX0_goesOn_4 (kF0_275 rfl) rfl rfl ?_
    refine wc_alenI dX0_goesOn_7 rfl ?_
    refine wc_icmp dX0_goesOn_8 (cB_ge ⟨by omega, by omega⟩ ⟨by omega, by omega⟩) 25 rfl (fun c8 => ?_) (fun c8 => ?_)
    ·
      refine wc_iconst dX0_goesOn_25 ?_
      refine wc_istore_n dX0_goesOn_26 rfl ?_
      exact K t g (fun B b0 b1 => g2 B b0 (by omega))
    ·
      omega
  | succ n ih =>
    intro A t hA h0 g g2 K
    refine wc_iload_n dX0_goesOn_2 rfl ?_
    refine wc_aload_n dX0_goesOn_3 rfl ?_
    refine wc_getC dX0_goesOn_4 (kF0_275 rfl) rfl rfl ?_
    refine wc_alenI dX0_goesOn_7 rfl ?_
    refine wc_icmp dX0_goesOn_8 (cB_ge ⟨by omega, by omega⟩ ⟨by omega, by omega⟩) 25 rfl (fun c8 => ?_) (fun c8 => ?_)
    ·
      omega
    ·
      refine wc_aload_n dX0_goesOn_11 rfl ?_
      refine wc_getC dX0_goesOn_12 (kF0_278 rfl) rfl rfl ?_
      refine wc_iload_n dX0_goesOn_15 rfl ?_
      refine wc_ldcN 16777216 dX0_goesOn_16 (kK0_18 rfl) (by decide) ?_
      refine wc_iastore dX0_goesOn_18 rfl ⟨by decide, Or.inl (by decide)⟩ rfl ⟨by omega, by omega⟩ _ rfl ?_
      refine wc_iinc dX0_goesOn_19 rfl ?_
      refine wc_goto dX0_goesOn_22 2 rfl ?_
      refine ih (A + 1) _ (by omega) (by omega) (g.tr FrQ.st) (fun B b0 b1 => ?_) K
      show sg (stC t 24 A.toNat 16777216) 24 B.toNat = 16777216
      rw [sg_st]
      by_cases e : B.toNat = A.toNat
      · rw [if_pos e]
      · rw [if_neg e]; exact g2 B b0 (by omega)
theorem cc_goesOn (h1 : SI w C τ) (hP : PLs w τ) (hl : 0 ≤ ledF w) (hs : 0 ≤ s ∧ s < nC w) (hpl : 0 ≤ pl0F w s) (hPr : 0 ≤ P ∧ P ≤ 10) (hf : SndA (wofF w) s P (arF τ 23)) (hC : 300 ≤ C ∧ C < 1999999000) : Ct kap 4 rX0_goesOn [.inr 10, .inl s] τ (fun v u => none = v ∧ GonP w s P τ u) := by
  intro d hd
  refine wc_iconst dX0_goesOn_0 ?_
  refine wc_istore_n dX0_goesOn_1 rfl ?_
  refine cc_goesOn_2 hd 1024 0 τ (by omega) (by omega) FrQ.rf (fun B a b => by omega) (fun u g q => ?_)
  have hI := g.si ⟨by decide, by decide, by decide⟩ h1
  have e23 : sg u 23 = sg τ 23 := g.2.2 23 (by decide)
  have hP1 : PLs w u := hP.of h1.2.2.1 (fun y hy => g.2.2 y (by omega)) (by rw [g.2.2 10 (by decide)]) (by rw [g.2.2 10 (by decide)])
  have ef : arF u 23 = arF τ 23 := by unfold arF; rw [e23]
  refine (cc_goesOn_27 hI hP1 hl hs hpl hPr (by rw [ef]; exact hf) hC hd 1024 0 u (by omega) (by omega) FrQ.rf (fun B b0 b1 => Or.inl (q B b0 b1)) (fun B a b => by omega) (fun B m a b => by omega)).mn (fun v t r => ⟨r.1, ?_⟩)
  obtain ⟨r0, ⟨r1, r2, r3⟩, r4, r5, r6⟩ := r
  rw [ef] at r5 r6
  exact ⟨⟨r1.trans g.1, r2.trans g.2.1, fun y y1 y2 => (r3 y y1 y2).trans (g.2.2 y y2)⟩, r4, r5, r6⟩
end QAGN
