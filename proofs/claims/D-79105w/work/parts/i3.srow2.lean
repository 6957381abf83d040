/-! THE CLASS'S METHODS, 60: shapeRow -/
set_option maxRecDepth 100000
/-- what shapeRow leaves; E: what the reader comes to -/
def SRQ (y : Nat) (τ : CT) (Y : Int) (E : Int × (Nat → Int)) (v : CO) (u : CT) : Prop := (∃ q, v = .inr q ∧ 0 ≤ E.1 ∧ ThD y E.1 τ q u) ∨ (v = .inl none ∧ ∃ (n : Nat) (p x : Int) (r : Nat → Int), rdF (sg τ 21) (sg τ 10 14) n Y x p r = E ∧ (n : Int) = 100 - p ∧ (0 < x ∧ x ≤ 6) ∧ (0 ≤ p ∧ p ≤ sg τ 10 14) ∧ RI r ∧ ¬ (slc (heF (sg τ 21) (sg τ 10 14) p) ∨ heF (sg τ 21) (sg τ 10 14) p = 46) ∧ RD y p r u ∧ FrD y τ u ∧ nvC u = nvC τ ∧ uC u = uC τ)
section QSR2
variable {T : Nat → Option CK} {w w' : Nat → Int} {R : Nat → Nat → Int} {τ t u : CT} {m c v C x s f e A P p Y : Int} {d i j k a b z pc y q n : Nat} {Q : CO → CT → Prop} {M : MRec} {ls : AL} {st : List AV} {r : Nat → Int} {E : Int × (Nat → Int)} {tp : Nat → Int}
theorem cc_isSlotY (h : RD y p r t) (hp : 0 ≤ p ∧ p < 100000) (hT : 0 ≤ sg t 10 14 ∧ sg t 10 14 ≤ 60) (ht : ∀ i, 0 ≤ sg t 21 i ∧ sg t 21 i ≤ 127) (hs : slc (heF (sg t 21) (sg t 10 14) p)) : Cf kap 1 rX5_isSlot [.inr y] t (some (.inl 1)) t := (cc_isSlot h hp hT ht).mono (fun v u q => by
  rcases q with ⟨q1, ⟨-, q2⟩ | ⟨q2, -⟩⟩
  · exact ⟨q2, q1⟩
  · exact absurd hs q2)
theorem cc_isSlotN (h : RD y p r t) (hp : 0 ≤ p ∧ p < 100000) (hT : 0 ≤ sg t 10 14 ∧ sg t 10 14 ≤ 60) (ht : ∀ i, 0 ≤ sg t 21 i ∧ sg t 21 i ≤ 127) (hs : ¬ slc (heF (sg t 21) (sg t 10 14) p)) : Cf kap 1 rX5_isSlot [.inr y] t (some (.inl 0)) t := (cc_isSlot h hp hT ht).mono (fun v u q => by
  rcases q with ⟨q1, ⟨q2, -⟩ | ⟨-, q2⟩⟩
  · exact absurd q2 hs
  · exact ⟨q2, q1⟩)
theorem rd_bad {T : Int} (hn : 0 < n) (h : ((p < T ∨ x = 0)) ∧ ((heF tp T p = 47 ∧ (x = 0 ∨ Y = 5)) ∨ (¬ heF tp T p = 47 ∧ ((¬ (heF tp T p = 35 ∨ heF tp T p = 42) ∧ ¬ heF tp T p = 46) ∨ x = 6 ∨ ((heF tp T p = 35 ∨ heF tp T p = 42) ∧ r 0 = 10) ∨ (heF tp T p = 42 ∧ 0 ≤ r 1))))) : rdF tp T n Y x p r = (p, r) := by
  obtain ⟨k, rfl⟩ : ∃ k, n = k + 1 := ⟨n - 1, by omega⟩
  unfold rdF
  rw [if_neg (fun q => q h.1)]
  rcases h.2 with ⟨h1, h2⟩ | ⟨h1, h2⟩
  · rw [if_pos h1, if_pos h2]
  · rw [if_neg h1, if_pos h2]
theorem rd_go {T : Int} (h0 : p < T) (h1 : ¬ heF tp T p = 47) (h2 : ¬ ((¬ (heF tp T p = 35 ∨ heF tp T p = 42) ∧ ¬ heF tp T p = 46) ∨ x = 6 ∨ ((heF tp T p = 35 ∨ heF tp T p = 42) ∧ r 0 = 10) ∨ (heF tp T p = 42 ∧ 0 ≤ r 1))) : rdF tp T (n + 1) Y x p r = rdF tp T n Y (x + 1) (p + 1) (if heF tp T p = 35 ∨ heF tp T p = 42 then slotR r (heF tp T p) x Y else r) := by
  conv => lhs; unfold rdF
  rw [if_neg (fun q => q (Or.inl h0)), if_neg h1, if_neg h2]
theorem he_lt {T : Int} (h : heF tp T p ≠ -1) : p < T := by
  unfold heF at h
  split at h
  · assumption
  · exact absurd rfl h
theorem cc_shapeRow_2 (hT : 0 ≤ sg τ 10 14 ∧ sg τ 10 14 ≤ 60) (ht : ∀ i, 0 ≤ sg τ 21 i ∧ sg τ 21 i ≤ 127) (hY : 0 ≤ Y ∧ Y ≤ 5) (hd : 4 ≤ d) : ∀ (n : Nat) (p x : Int) (r : Nat → Int) (t : CT), (n : Int) = 100 - p → (0 ≤ p ∧ p ≤ sg τ 10 14) → RI r → (0 ≤ x ∧ x ≤ 6) → RD y p r t → FrD y τ t → (nvC t = nvC τ ∧ uC t = uC τ) → rdF (sg τ 21) (sg τ 10 14) n Y x p r = E → Wc kap d rX5_shapeRow 2 [some (.inr y), some (.inl Y), some (.inl x)] [] t (SRQ y τ Y E) := by
  intro n
  induction n with
  | zero => intro p x r t hn hp; omega
  | succ n ih =>
    intro p x r t hn hp hR hx hD hF hnu hE
    have h21 : sg t 21 = sg τ 21 := hF.2.2 21 (by have := hD.1.1; omega)
    have h10 : sg t 10 = sg τ 10 := hF.2.2 10 (by have := hD.1.1; omega)
    have hTt : 0 ≤ sg t 10 14 ∧ sg t 10 14 ≤ 60 := by rw [h10]; exact hT
    have htt : ∀ i, 0 ≤ sg t 21 i ∧ sg t 21 i ≤ 127 := by rw [h21]; exact ht
    have hh := heF_rng (T := sg τ 10 14) (p := p) ht
    have hy1 := hD.1.1
    have hp1 : 0 ≤ p ∧ p < 100000 := by omega
    have ky := hD.ky
    have hR0 := hR.1
    have hR1 := hR.2
    have hw := hD.wr
    have hgo : ∀ (t1 : CT) (r1 : Nat → Int), RD y p r1 t1 → FrD y τ t1 → (nvC t1 = nvC τ ∧ uC t1 = uC τ) → RI r1 → p < sg τ 10 14 → x ≤ 5 → rdF (sg τ 21) (sg τ 10 14) n Y (x + 1) (p + 1) r1 = E → Wc kap d rX5_shapeRow 128 [some (.inr y), some (.inl Y), some (.inl x)] [] t1 (SRQ y τ Y E) := fun t1 r1 k1 k2 k3 k4 k5 k6 k7 => by
      refine wc_iinc dX5_shapeRow_128 rfl ?_
      refine wc_aload_n dX5_shapeRow_131 rfl ?_
      refine wc_dup dX5_shapeRow_132 ?_
      refine wc_getI dX5_shapeRow_133 (kF5_26 rfl) k1.ky rfl ?_
      rw [k1.2.1.2.2]
      refine wc_iconst dX5_shapeRow_136 ?_
      refine wc_iadd dX5_shapeRow_137 ?_
      refine wc_putI dX5_shapeRow_138 (kF5_26 rfl) rfl k1.ky rfl k1.wr (Or.inl rfl) ?_
      refine wc_goto dX5_shapeRow_141 2 rfl ?_
      exact ih (p + 1) (x + 1) r1 _ (by omega) (by omega) k4 (by omega) k1.next (k2.tr (FrD.s1 (Nat.le_refl y))) k3 k7
    have cI := cc_isSlot hD hp1 hTt htt
    have cY := cc_isSlotY hD hp1 hTt htt
    have cN := cc_isSlotN hD hp1 hTt htt
    have cS := cc_sign hD hp1 hTt
    rw [h21, h10] at cI cY cN cS
    have hslot : ∀ an, slc (heF (sg τ 21) (sg τ 10 14) p) → x ≤ 5 → r 0 ≤ 9 → (heF (sg τ 21) (sg τ 10 14) p = 35 ∨ r 1 < 0) → an = (if heF (sg τ 21) (sg τ 10 14) p = 42 then r 0 else r 1) → Wc kap d rX5_shapeRow 95 [some (.inr y), some (.inl Y), some (.inl x)] [.inl an, .inr y] t (SRQ y τ Y E) := fun an s1 s2 s3 s4 s5 => by
      have hS := hD.slot (x := x) (Y := Y) ⟨hR0.1, s3⟩ s5
      have hF1 : FrD y τ (stC (stC (stC (stC t y 3 an) (y + 1) (r 0).toNat x) (y + 2) (r 0).toNat Y) y 2 (r 0 + 1)) := (((hF.tr (FrD.s1 (Nat.le_refl y))).tr (FrD.s1 (by omega))).tr (FrD.s1 (by omega))).tr (FrD.s1 (Nat.le_refl y))
      have hlt : p < sg τ 10 14 := he_lt (tp := sg τ 21) (by unfold slc at s1; omega)
      have hRI : RI (slotR r (heF (sg τ 21) (sg τ 10 14) p) x Y) := hR.slot s3
      refine wc_putI dX5_shapeRow_95 (kF5_22 rfl) rfl ky rfl hw (Or.inl rfl) ?_
      refine wc_aload_n dX5_shapeRow_98 rfl ?_
      refine wc_getR (y := y + 1) dX5_shapeRow_99 (kF5_15 rfl) ky rfl (by rw [sg_st, if_neg (by decide), hD.1.2.2.1]; exact Int.toNat_natCast _) ?_
      refine wc_aload_n dX5_shapeRow_102 rfl ?_
      refine wc_getI dX5_shapeRow_103 (kF5_53 rfl) ky rfl ?_
      rw [sg_st, if_neg (by decide), hD.2.1.1]
      refine wc_iload_n dX5_shapeRow_106 rfl ?_
      refine wc_iastore dX5_shapeRow_107 hD.k1 hD.w1 rfl ⟨by omega, by omega⟩ _ rfl ?_
      refine wc_aload_n dX5_shapeRow_108 rfl ?_
      refine wc_getR (y := y + 2) dX5_shapeRow_109 (kF5_19 rfl) ky rfl (by rw [sg_st' (by omega), sg_st, if_neg (by decide), hD.1.2.2.2.1]; exact Int.toNat_natCast _) ?_
      refine wc_aload_n dX5_shapeRow_112 rfl ?_
      refine wc_getI dX5_shapeRow_113 (kF5_53 rfl) ky rfl ?_
      rw [sg_st' (by omega), sg_st, if_neg (by decide), hD.2.1.1]
      refine wc_iload_n dX5_shapeRow_116 rfl ?_
      refine wc_iastore dX5_shapeRow_117 hD.k2 hD.w2 rfl ⟨by omega, by omega⟩ _ rfl ?_
      refine wc_aload_n dX5_shapeRow_118 rfl ?_
      refine wc_dup dX5_shapeRow_119 ?_
      refine wc_getI dX5_shapeRow_120 (kF5_53 rfl) ky rfl ?_
      rw [sg_st' (by omega), sg_st' (by omega), sg_st, if_neg (by decide), hD.2.1.1]
      refine wc_iconst dX5_shapeRow_123 ?_
      refine wc_iadd dX5_shapeRow_124 ?_
      refine wc_putI dX5_shapeRow_125 (kF5_53 rfl) rfl ky rfl hw (Or.inl rfl) ?_
      refine hgo _ _ hS hF1 hnu hRI hlt s2 ?_
      rw [← hE, rd_go hlt (by unfold slc at s1; omega) (by unfold slc at s1; omega), if_pos s1]
    refine wc_aload_n dX5_shapeRow_2 rfl ?_
    refine wc_call dX5_shapeRow_3 rfl (cI) (by omega) (hx_V (kV5_45 rfl) rfl ky rfl rfl) ?_
    rintro _ _ ⟨rfl, ⟨h3, rfl⟩ | ⟨h3, rfl⟩⟩
    ·
      refine wc_ifT dX5_shapeRow_6 (by decide) 18 rfl ?_
      refine wc_aload_n dX5_shapeRow_18 rfl ?_
      refine wc_iload_n dX5_shapeRow_19 rfl ?_
      refine wc_bipush dX5_shapeRow_20 (by decide) ?_
      refine wc_icmp dX5_shapeRow_22 (cB_ge (show rng _ by omega) (by omega)) 29 rfl (fun c22 => ?_) (fun c22 => ?_)
      ·
        refine wc_iconst dX5_shapeRow_29 ?_
        refine wc_callX dX5_shapeRow_30 rfl (cc_need0 hD (by omega)) (by omega) (hx_V (kV5_49 rfl) rfl ky rfl rfl) ?_ ?_
        · rintro _ _ ⟨q, h, -⟩
          cases h
        · rintro _ _ ⟨q, h, hT⟩
          cases h
          exact Or.inl ⟨rfl, Or.inl ⟨_, rfl, by rw [← hE, rd_bad (by omega) ⟨Or.inl (he_lt (tp := sg τ 21) (by unfold slc at h3; omega)), Or.inr ⟨by unfold slc at h3; omega, Or.inr (Or.inl (by omega))⟩⟩]; exact hp.1, by rw [← hE, rd_bad (by omega) ⟨Or.inl (he_lt (tp := sg τ 21) (by unfold slc at h3; omega)), Or.inr ⟨by unfold slc at h3; omega, Or.inr (Or.inl (by omega))⟩⟩]; exact (hT.thd (by omega)).fr hF hnu⟩⟩
      ·
        refine wc_iconst dX5_shapeRow_25 ?_
        refine wc_goto dX5_shapeRow_26 30 rfl ?_
        refine wc_call dX5_shapeRow_30 rfl (cc_need1 hD (by omega)) (by omega) (hx_V (kV5_49 rfl) rfl ky rfl rfl) ?_
        rintro _ _ ⟨rfl, rfl⟩
        refine wc_aload_n dX5_shapeRow_33 rfl ?_
        refine wc_call dX5_shapeRow_34 rfl (cY h3) (by omega) (hx_V (kV5_45 rfl) rfl ky rfl rfl) ?_
        rintro _ _ ⟨rfl, rfl⟩
        refine wc_ifF dX5_shapeRow_37 (by decide) 128 rfl ?_
        refine wc_aload_n dX5_shapeRow_40 rfl ?_
        refine wc_aload_n dX5_shapeRow_41 rfl ?_
        refine wc_getI dX5_shapeRow_42 (kF5_53 rfl) ky rfl ?_
        rw [hD.2.1.1]
        refine wc_bipush dX5_shapeRow_45 (by decide) ?_
        refine wc_icmp dX5_shapeRow_47 (cB_ge (show rng _ by omega) (by omega)) 70 rfl (fun c47 => ?_) (fun c47 => ?_)
        ·
          refine wc_iconst dX5_shapeRow_70 ?_
          refine wc_callX dX5_shapeRow_71 rfl (cc_need0 hD (by omega)) (by omega) (hx_V (kV5_49 rfl) rfl ky rfl rfl) ?_ ?_
          · rintro _ _ ⟨q, h, -⟩
            cases h
          · rintro _ _ ⟨q, h, hT⟩
            cases h
            exact Or.inl ⟨rfl, Or.inl ⟨_, rfl, by rw [← hE, rd_bad (by omega) ⟨Or.inl (he_lt (tp := sg τ 21) (by unfold slc at h3; omega)), Or.inr ⟨by unfold slc at h3; omega, Or.inr (Or.inr (Or.inl ⟨h3, by omega⟩))⟩⟩]; exact hp.1, by rw [← hE, rd_bad (by omega) ⟨Or.inl (he_lt (tp := sg τ 21) (by unfold slc at h3; omega)), Or.inr ⟨by unfold slc at h3; omega, Or.inr (Or.inr (Or.inl ⟨h3, by omega⟩))⟩⟩]; exact (hT.thd (by omega)).fr hF hnu⟩⟩
        ·
          refine wc_aload_n dX5_shapeRow_50 rfl ?_
          refine wc_call dX5_shapeRow_51 rfl (cS) (by omega) (hx_V (kV5_41 rfl) rfl ky rfl rfl) ?_
          rintro _ _ ⟨rfl, rfl⟩
          refine wc_bipush dX5_shapeRow_54 (by decide) ?_
          refine wc_icmp dX5_shapeRow_56 (cB_eq (show rng _ by omega) (by omega)) 66 rfl (fun c56 => ?_) (fun c56 => ?_)
          ·
            refine wc_iconst dX5_shapeRow_66 ?_
            refine wc_goto dX5_shapeRow_67 71 rfl ?_
            refine wc_call dX5_shapeRow_71 rfl (cc_need1 hD (by omega)) (by omega) (hx_V (kV5_49 rfl) rfl ky rfl rfl) ?_
            rintro _ _ ⟨rfl, rfl⟩
            refine wc_aload_n dX5_shapeRow_74 rfl ?_
            refine wc_aload_n dX5_shapeRow_75 rfl ?_
            refine wc_call dX5_shapeRow_76 rfl (cS) (by omega) (hx_V (kV5_41 rfl) rfl ky rfl rfl) ?_
            rintro _ _ ⟨rfl, rfl⟩
            refine wc_bipush dX5_shapeRow_79 (by decide) ?_
            refine wc_icmp dX5_shapeRow_81 (cB_ne (show rng _ by omega) (by omega)) 91 rfl (fun c81 => ?_) (fun c81 => ?_)
            ·
              refine wc_aload_n dX5_shapeRow_91 rfl ?_
              refine wc_getI dX5_shapeRow_92 (kF5_22 rfl) ky rfl ?_
              exact hslot _ h3 (by omega) (by omega) (Or.inl (by omega)) (by rw [hD.2.1.2.1, if_neg (by omega)])
            ·
              refine wc_aload_n dX5_shapeRow_84 rfl ?_
              refine wc_getI dX5_shapeRow_85 (kF5_53 rfl) ky rfl ?_
              refine wc_goto dX5_shapeRow_88 95 rfl ?_
              exact hslot _ h3 (by omega) (by omega) (Or.inl (by omega)) (by rw [hD.2.1.1, if_pos (by omega)])
          ·
            refine wc_aload_n dX5_shapeRow_59 rfl ?_
            refine wc_getI dX5_shapeRow_60 (kF5_22 rfl) ky rfl ?_
            rw [hD.2.1.2.1]
            refine wc_if dX5_shapeRow_63 (cB_ge (show rng _ by omega) ⟨by omega, by omega⟩) 70 rfl (fun c63 => ?_) (fun c63 => ?_)
            ·
              refine wc_iconst dX5_shapeRow_70 ?_
              refine wc_callX dX5_shapeRow_71 rfl (cc_need0 hD (by omega)) (by omega) (hx_V (kV5_49 rfl) rfl ky rfl rfl) ?_ ?_
              · rintro _ _ ⟨q, h, -⟩
                cases h
              · rintro _ _ ⟨q, h, hT⟩
                cases h
                exact Or.inl ⟨rfl, Or.inl ⟨_, rfl, by rw [← hE, rd_bad (by omega) ⟨Or.inl (he_lt (tp := sg τ 21) (by unfold slc at h3; omega)), Or.inr ⟨by unfold slc at h3; omega, Or.inr (Or.inr (Or.inr ⟨by unfold slc at h3; omega, by omega⟩))⟩⟩]; exact hp.1, by rw [← hE, rd_bad (by omega) ⟨Or.inl (he_lt (tp := sg τ 21) (by unfold slc at h3; omega)), Or.inr ⟨by unfold slc at h3; omega, Or.inr (Or.inr (Or.inr ⟨by unfold slc at h3; omega, by omega⟩))⟩⟩]; exact (hT.thd (by omega)).fr hF hnu⟩⟩
            ·
              refine wc_iconst dX5_shapeRow_66 ?_
              refine wc_goto dX5_shapeRow_67 71 rfl ?_
              refine wc_call dX5_shapeRow_71 rfl (cc_need1 hD (by omega)) (by omega) (hx_V (kV5_49 rfl) rfl ky rfl rfl) ?_
              rintro _ _ ⟨rfl, rfl⟩
              refine wc_aload_n dX5_shapeRow_74 rfl ?_
              refine wc_aload_n dX5_shapeRow_75 rfl ?_
              refine wc_call dX5_shapeRow_76 rfl (cS) (by omega) (hx_V (kV5_41 rfl) rfl ky rfl rfl) ?_
              rintro _ _ ⟨rfl, rfl⟩
              refine wc_bipush dX5_shapeRow_79 (by decide) ?_
              refine wc_icmp dX5_shapeRow_81 (cB_ne (show rng _ by omega) (by omega)) 91 rfl (fun c81 => ?_) (fun c81 => ?_)
              ·
                refine wc_aload_n dX5_shapeRow_91 rfl ?_
                refine wc_getI dX5_shapeRow_92 (kF5_22 rfl) ky rfl ?_
                exact hslot _ h3 (by omega) (by omega) (Or.inr (by omega)) (by rw [hD.2.1.2.1, if_neg (by omega)])
              ·
                refine wc_aload_n dX5_shapeRow_84 rfl ?_
                refine wc_getI dX5_shapeRow_85 (kF5_53 rfl) ky rfl ?_
                refine wc_goto dX5_shapeRow_88 95 rfl ?_
                exact hslot _ h3 (by omega) (by omega) (Or.inr (by omega)) (by rw [hD.2.1.1, if_pos (by omega)])
    ·
      refine wc_ifF dX5_shapeRow_6 (by decide) 18 rfl ?_
      refine wc_aload_n dX5_shapeRow_9 rfl ?_
      refine wc_call dX5_shapeRow_10 rfl (cS) (by omega) (hx_V (kV5_41 rfl) rfl ky rfl rfl) ?_
      rintro _ _ ⟨rfl, rfl⟩
      refine wc_bipush dX5_shapeRow_13 (by decide) ?_
      refine wc_icmp dX5_shapeRow_15 (cB_ne (show rng _ by omega) (by omega)) 144 rfl (fun c15 => ?_) (fun c15 => ?_)
      ·
        refine wc_aload_n dX5_shapeRow_144 rfl ?_
        refine wc_iload_n dX5_shapeRow_145 rfl ?_
        refine wc_if dX5_shapeRow_146 (cB_le (show rng _ by omega) ⟨by omega, by omega⟩) 153 rfl (fun c146 => ?_) (fun c146 => ?_)
        ·
          refine wc_iconst dX5_shapeRow_153 ?_
          refine wc_callX dX5_shapeRow_154 rfl (cc_need0 hD (by omega)) (by omega) (hx_V (kV5_49 rfl) rfl ky rfl rfl) ?_ ?_
          · rintro _ _ ⟨q, h, -⟩
            cases h
          · rintro _ _ ⟨q, h, hT⟩
            cases h
            have hx0 : x = 0 := by omega
            by_cases q47 : heF (sg τ 21) (sg τ 10 14) p = 47
            · exact Or.inl ⟨rfl, Or.inl ⟨_, rfl, by rw [← hE, rd_bad (by omega) ⟨Or.inr hx0, Or.inl ⟨q47, Or.inl hx0⟩⟩]; exact hp.1, by rw [← hE, rd_bad (by omega) ⟨Or.inr hx0, Or.inl ⟨q47, Or.inl hx0⟩⟩]; exact (hT.thd (by omega)).fr hF hnu⟩⟩
            · exact Or.inl ⟨rfl, Or.inl ⟨_, rfl, by rw [← hE, rd_bad (by omega) ⟨Or.inr hx0, Or.inr ⟨q47, Or.inl ⟨h3, c15⟩⟩⟩]; exact hp.1, by rw [← hE, rd_bad (by omega) ⟨Or.inr hx0, Or.inr ⟨q47, Or.inl ⟨h3, c15⟩⟩⟩]; exact (hT.thd (by omega)).fr hF hnu⟩⟩
        ·
          refine wc_iconst dX5_shapeRow_149 ?_
          refine wc_goto dX5_shapeRow_150 154 rfl ?_
          refine wc_call dX5_shapeRow_154 rfl (cc_need1 hD (by omega)) (by omega) (hx_V (kV5_49 rfl) rfl ky rfl rfl) ?_
          rintro _ _ ⟨rfl, rfl⟩
          refine wc_vreturn dX5_shapeRow_157 rfl ?_
          exact Or.inr ⟨rfl, n + 1, p, x, r, hE, hn, ⟨by omega, hx.2⟩, hp, hR, fun q => q.elim h3 c15, hD, hF, hnu⟩
      ·
        refine wc_aload_n dX5_shapeRow_18 rfl ?_
        refine wc_iload_n dX5_shapeRow_19 rfl ?_
        refine wc_bipush dX5_shapeRow_20 (by decide) ?_
        refine wc_icmp dX5_shapeRow_22 (cB_ge (show rng _ by omega) (by omega)) 29 rfl (fun c22 => ?_) (fun c22 => ?_)
        ·
          refine wc_iconst dX5_shapeRow_29 ?_
          refine wc_callX dX5_shapeRow_30 rfl (cc_need0 hD (by omega)) (by omega) (hx_V (kV5_49 rfl) rfl ky rfl rfl) ?_ ?_
          · rintro _ _ ⟨q, h, -⟩
            cases h
          · rintro _ _ ⟨q, h, hT⟩
            cases h
            exact Or.inl ⟨rfl, Or.inl ⟨_, rfl, by rw [← hE, rd_bad (by omega) ⟨Or.inl (he_lt (tp := sg τ 21) (by omega)), Or.inr ⟨by omega, Or.inr (Or.inl (by omega))⟩⟩]; exact hp.1, by rw [← hE, rd_bad (by omega) ⟨Or.inl (he_lt (tp := sg τ 21) (by omega)), Or.inr ⟨by omega, Or.inr (Or.inl (by omega))⟩⟩]; exact (hT.thd (by omega)).fr hF hnu⟩⟩
        ·
          refine wc_iconst dX5_shapeRow_25 ?_
          refine wc_goto dX5_shapeRow_26 30 rfl ?_
          refine wc_call dX5_shapeRow_30 rfl (cc_need1 hD (by omega)) (by omega) (hx_V (kV5_49 rfl) rfl ky rfl rfl) ?_
          rintro _ _ ⟨rfl, rfl⟩
          refine wc_aload_n dX5_shapeRow_33 rfl ?_
          refine wc_call dX5_shapeRow_34 rfl (cN h3) (by omega) (hx_V (kV5_45 rfl) rfl ky rfl rfl) ?_
          rintro _ _ ⟨rfl, rfl⟩
          refine wc_ifT dX5_shapeRow_37 (by decide) 128 rfl ?_
          refine hgo t r hD hF hnu hR (he_lt (tp := sg τ 21) (by omega)) (by omega) ?_
          rw [← hE, rd_go (he_lt (tp := sg τ 21) (by omega)) (by omega) (by unfold slc at h3; omega), if_neg h3]
theorem cc_shapeRow {r : Nat → Int} (hT : 0 ≤ sg τ 10 14 ∧ sg τ 10 14 ≤ 60) (ht : ∀ i, 0 ≤ sg τ 21 i ∧ sg τ 21 i ≤ 127) (hY : 0 ≤ Y ∧ Y ≤ 5) (hn : (n : Int) = 100 - p) (hp : 0 ≤ p ∧ p ≤ sg τ 10 14) (hR : RI r) (hD : RD y p r τ) : CtX kap 4 rX5_shapeRow [.inr y, .inl Y] τ (SRQ y τ Y (rdF (sg τ 21) (sg τ 10 14) n Y 0 p r)) := by
  intro d hd
  refine wc_iconst dX5_shapeRow_0 ?_
  refine wc_istore_n dX5_shapeRow_1 rfl ?_
  exact cc_shapeRow_2 hT ht hY hd n p 0 r τ hn hp hR (by omega) hD FrD.rf ⟨rfl, rfl⟩ rfl
end QSR2
