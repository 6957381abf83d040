/-! THE CLASS'S METHODS, 54: recognized -/
set_option maxRecDepth 100000
section QRCG
variable {w w' : Nat → Int} {R : Nat → Nat → Int} {τ t u : CT} {m c v C x y s f e : Int} {d n i j k a b z : Nat} {Q : Option AV → CT → Prop}
theorem trn_0 (q : y % 4 = 0) : trnR w x s y = (if 3 < y then -colF w x s else colF w x s, rowF w x s) := by unfold trnR; rw [q]; rfl
theorem trn_1 (q : y % 4 = 1) : trnR w x s y = (-rowF w x s, if 3 < y then -colF w x s else colF w x s) := by unfold trnR; rw [q]; rfl
theorem trn_2 (q : y % 4 = 2) : trnR w x s y = (-(if 3 < y then -colF w x s else colF w x s), -rowF w x s) := by unfold trnR; rw [q]; rfl
theorem trn_3 (q : y % 4 = 3) : trnR w x s y = (rowF w x s, -(if 3 < y then -colF w x s else colF w x s)) := by
  unfold trnR
  rw [q]
  show (-(-rowF w x s), -(if 3 < y then -colF w x s else colF w x s)) = _
  rw [Int.neg_neg]
theorem cc_turnedColumn (hA : ShC t w x z) (hs : 0 ≤ s ∧ s < sltF w x) (h10 : sltF w x ≤ 10) (hy : 0 ≤ y ∧ y ≤ 7) : Cf kap 0 rX7_turnedColumn [.inr z, .inl s, .inl y] t (some (.inl (trnR w x s y).1)) t := by
  intro d hd
  obtain ⟨kS, k0, k1⟩ := sh_kds hA
  have hnn : decide ((sltF w x).toNat ≤ 100000) = true := decide_eq_true (by omega)
  have hcr := hA.2.2.2.2
  refine wc_iload_n dX7_turnedColumn_0 rfl ?_
  refine wc_iconst dX7_turnedColumn_1 ?_
  refine wc_icmp dX7_turnedColumn_2 (cB_lt ⟨by omega, by omega⟩ ⟨by omega, by omega⟩) 15 rfl (fun c2 => ?_) (fun c2 => ?_)
  ·
    refine wc_aload_n dX7_turnedColumn_15 rfl ?_
    refine wc_getR dX7_turnedColumn_16 (kF7_9 rfl) kS rfl rfl ?_
    refine wc_iload_n dX7_turnedColumn_19 rfl ?_
    refine wc_iaload dX7_turnedColumn_20 k0 rfl hnn ⟨by omega, by omega⟩ _ rfl ?_
    rw [(hcr s hs.1 hs.2).1]
    refine wc_istore_n dX7_turnedColumn_21 rfl ?_
    refine wc_aload_n dX7_turnedColumn_22 rfl ?_
    refine wc_getR dX7_turnedColumn_23 (kF7_15 rfl) kS rfl rfl ?_
    refine wc_iload_n dX7_turnedColumn_26 rfl ?_
    refine wc_iaload dX7_turnedColumn_27 k1 rfl hnn ⟨by omega, by omega⟩ _ rfl ?_
    rw [(hcr s hs.1 hs.2).2]
    refine wc_istore dX7_turnedColumn_28 rfl ?_
    refine wc_iload_n dX7_turnedColumn_30 rfl ?_
    refine wc_iconst dX7_turnedColumn_31 ?_
    refine wc_irem dX7_turnedColumn_32 ⟨by omega, by omega⟩ ⟨by omega, by omega⟩ ?_
    rcases (show y % 4 = 0 ∨ y % 4 = 1 ∨ y % 4 = 2 ∨ y % 4 = 3 by omega) with q | q | q | q
    ·
      rw [q]
      refine wc_tsw dX7_turnedColumn_33 ⟨by omega, by omega⟩ rfl 60 rfl ?_
      refine wc_iload_n dX7_turnedColumn_60 rfl ?_
      refine wc_goto dX7_turnedColumn_61 77 rfl ?_
      refine wc_ireturn dX7_turnedColumn_77 rfl ?_
      exact ⟨by rw [trn_0 q, if_neg (by omega)], rfl⟩
    ·
      rw [q]
      refine wc_tsw dX7_turnedColumn_33 ⟨by omega, by omega⟩ rfl 64 rfl ?_
      refine wc_iload dX7_turnedColumn_64 rfl ?_
      refine wc_ineg dX7_turnedColumn_66 ?_
      refine wc_goto dX7_turnedColumn_67 77 rfl ?_
      refine wc_ireturn dX7_turnedColumn_77 rfl ?_
      exact ⟨by rw [trn_1 q], rfl⟩
    ·
      rw [q]
      refine wc_tsw dX7_turnedColumn_33 ⟨by omega, by omega⟩ rfl 70 rfl ?_
      refine wc_iload_n dX7_turnedColumn_70 rfl ?_
      refine wc_ineg dX7_turnedColumn_71 ?_
      refine wc_goto dX7_turnedColumn_72 77 rfl ?_
      refine wc_ireturn dX7_turnedColumn_77 rfl ?_
      exact ⟨by rw [trn_2 q, if_neg (by omega)], rfl⟩
    ·
      rw [q]
      refine wc_tsw dX7_turnedColumn_33 ⟨by omega, by omega⟩ rfl 75 rfl ?_
      refine wc_iload dX7_turnedColumn_75 rfl ?_
      refine wc_ireturn dX7_turnedColumn_77 rfl ?_
      exact ⟨by rw [trn_3 q], rfl⟩
  ·
    refine wc_aload_n dX7_turnedColumn_5 rfl ?_
    refine wc_getR dX7_turnedColumn_6 (kF7_9 rfl) kS rfl rfl ?_
    refine wc_iload_n dX7_turnedColumn_9 rfl ?_
    refine wc_iaload dX7_turnedColumn_10 k0 rfl hnn ⟨by omega, by omega⟩ _ rfl ?_
    rw [(hcr s hs.1 hs.2).1]
    refine wc_ineg dX7_turnedColumn_11 ?_
    refine wc_goto dX7_turnedColumn_12 21 rfl ?_
    refine wc_istore_n dX7_turnedColumn_21 rfl ?_
    refine wc_aload_n dX7_turnedColumn_22 rfl ?_
    refine wc_getR dX7_turnedColumn_23 (kF7_15 rfl) kS rfl rfl ?_
    refine wc_iload_n dX7_turnedColumn_26 rfl ?_
    refine wc_iaload dX7_turnedColumn_27 k1 rfl hnn ⟨by omega, by omega⟩ _ rfl ?_
    rw [(hcr s hs.1 hs.2).2]
    refine wc_istore dX7_turnedColumn_28 rfl ?_
    refine wc_iload_n dX7_turnedColumn_30 rfl ?_
    refine wc_iconst dX7_turnedColumn_31 ?_
    refine wc_irem dX7_turnedColumn_32 ⟨by omega, by omega⟩ ⟨by omega, by omega⟩ ?_
    rcases (show y % 4 = 0 ∨ y % 4 = 1 ∨ y % 4 = 2 ∨ y % 4 = 3 by omega) with q | q | q | q
    ·
      rw [q]
      refine wc_tsw dX7_turnedColumn_33 ⟨by omega, by omega⟩ rfl 60 rfl ?_
      refine wc_iload_n dX7_turnedColumn_60 rfl ?_
      refine wc_goto dX7_turnedColumn_61 77 rfl ?_
      refine wc_ireturn dX7_turnedColumn_77 rfl ?_
      exact ⟨by rw [trn_0 q, if_pos (by omega)], rfl⟩
    ·
      rw [q]
      refine wc_tsw dX7_turnedColumn_33 ⟨by omega, by omega⟩ rfl 64 rfl ?_
      refine wc_iload dX7_turnedColumn_64 rfl ?_
      refine wc_ineg dX7_turnedColumn_66 ?_
      refine wc_goto dX7_turnedColumn_67 77 rfl ?_
      refine wc_ireturn dX7_turnedColumn_77 rfl ?_
      exact ⟨by rw [trn_1 q], rfl⟩
    ·
      rw [q]
      refine wc_tsw dX7_turnedColumn_33 ⟨by omega, by omega⟩ rfl 70 rfl ?_
      refine wc_iload_n dX7_turnedColumn_70 rfl ?_
      refine wc_ineg dX7_turnedColumn_71 ?_
      refine wc_goto dX7_turnedColumn_72 77 rfl ?_
      refine wc_ireturn dX7_turnedColumn_77 rfl ?_
      exact ⟨by rw [trn_2 q, if_pos (by omega)], rfl⟩
    ·
      rw [q]
      refine wc_tsw dX7_turnedColumn_33 ⟨by omega, by omega⟩ rfl 75 rfl ?_
      refine wc_iload dX7_turnedColumn_75 rfl ?_
      refine wc_ireturn dX7_turnedColumn_77 rfl ?_
      exact ⟨by rw [trn_3 q], rfl⟩
theorem cc_turnedRow (hA : ShC t w x z) (hs : 0 ≤ s ∧ s < sltF w x) (h10 : sltF w x ≤ 10) (hy : 0 ≤ y ∧ y ≤ 7) : Cf kap 0 rX7_turnedRow [.inr z, .inl s, .inl y] t (some (.inl (trnR w x s y).2)) t := by
  intro d hd
  obtain ⟨kS, k0, k1⟩ := sh_kds hA
  have hnn : decide ((sltF w x).toNat ≤ 100000) = true := decide_eq_true (by omega)
  have hcr := hA.2.2.2.2
  refine wc_iload_n dX7_turnedRow_0 rfl ?_
  refine wc_iconst dX7_turnedRow_1 ?_
  refine wc_icmp dX7_turnedRow_2 (cB_lt ⟨by omega, by omega⟩ ⟨by omega, by omega⟩) 15 rfl (fun c2 => ?_) (fun c2 => ?_)
  ·
    refine wc_aload_n dX7_turnedRow_15 rfl ?_
    refine wc_getR dX7_turnedRow_16 (kF7_9 rfl) kS rfl rfl ?_
    refine wc_iload_n dX7_turnedRow_19 rfl ?_
    refine wc_iaload dX7_turnedRow_20 k0 rfl hnn ⟨by omega, by omega⟩ _ rfl ?_
    rw [(hcr s hs.1 hs.2).1]
    refine wc_istore_n dX7_turnedRow_21 rfl ?_
    refine wc_aload_n dX7_turnedRow_22 rfl ?_
    refine wc_getR dX7_turnedRow_23 (kF7_15 rfl) kS rfl rfl ?_
    refine wc_iload_n dX7_turnedRow_26 rfl ?_
    refine wc_iaload dX7_turnedRow_27 k1 rfl hnn ⟨by omega, by omega⟩ _ rfl ?_
    rw [(hcr s hs.1 hs.2).2]
    refine wc_istore dX7_turnedRow_28 rfl ?_
    refine wc_iload_n dX7_turnedRow_30 rfl ?_
    refine wc_iconst dX7_turnedRow_31 ?_
    refine wc_irem dX7_turnedRow_32 ⟨by omega, by omega⟩ ⟨by omega, by omega⟩ ?_
    rcases (show y % 4 = 0 ∨ y % 4 = 1 ∨ y % 4 = 2 ∨ y % 4 = 3 by omega) with q | q | q | q
    ·
      rw [q]
      refine wc_tsw dX7_turnedRow_33 ⟨by omega, by omega⟩ rfl 60 rfl ?_
      refine wc_iload dX7_turnedRow_60 rfl ?_
      refine wc_goto dX7_turnedRow_62 77 rfl ?_
      refine wc_ireturn dX7_turnedRow_77 rfl ?_
      exact ⟨by rw [trn_0 q], rfl⟩
    ·
      rw [q]
      refine wc_tsw dX7_turnedRow_33 ⟨by omega, by omega⟩ rfl 65 rfl ?_
      refine wc_iload_n dX7_turnedRow_65 rfl ?_
      refine wc_goto dX7_turnedRow_66 77 rfl ?_
      refine wc_ireturn dX7_turnedRow_77 rfl ?_
      exact ⟨by rw [trn_1 q, if_neg (by omega)], rfl⟩
    ·
      rw [q]
      refine wc_tsw dX7_turnedRow_33 ⟨by omega, by omega⟩ rfl 69 rfl ?_
      refine wc_iload dX7_turnedRow_69 rfl ?_
      refine wc_ineg dX7_turnedRow_71 ?_
      refine wc_goto dX7_turnedRow_72 77 rfl ?_
      refine wc_ireturn dX7_turnedRow_77 rfl ?_
      exact ⟨by rw [trn_2 q], rfl⟩
    ·
      rw [q]
      refine wc_tsw dX7_turnedRow_33 ⟨by omega, by omega⟩ rfl 75 rfl ?_
      refine wc_iload_n dX7_turnedRow_75 rfl ?_
      refine wc_ineg dX7_turnedRow_76 ?_
      refine wc_ireturn dX7_turnedRow_77 rfl ?_
      exact ⟨by rw [trn_3 q, if_neg (by omega)], rfl⟩
  ·
    refine wc_aload_n dX7_turnedRow_5 rfl ?_
    refine wc_getR dX7_turnedRow_6 (kF7_9 rfl) kS rfl rfl ?_
    refine wc_iload_n dX7_turnedRow_9 rfl ?_
    refine wc_iaload dX7_turnedRow_10 k0 rfl hnn ⟨by omega, by omega⟩ _ rfl ?_
    rw [(hcr s hs.1 hs.2).1]
    refine wc_ineg dX7_turnedRow_11 ?_
    refine wc_goto dX7_turnedRow_12 21 rfl ?_
    refine wc_istore_n dX7_turnedRow_21 rfl ?_
    refine wc_aload_n dX7_turnedRow_22 rfl ?_
    refine wc_getR dX7_turnedRow_23 (kF7_15 rfl) kS rfl rfl ?_
    refine wc_iload_n dX7_turnedRow_26 rfl ?_
    refine wc_iaload dX7_turnedRow_27 k1 rfl hnn ⟨by omega, by omega⟩ _ rfl ?_
    rw [(hcr s hs.1 hs.2).2]
    refine wc_istore dX7_turnedRow_28 rfl ?_
    refine wc_iload_n dX7_turnedRow_30 rfl ?_
    refine wc_iconst dX7_turnedRow_31 ?_
    refine wc_irem dX7_turnedRow_32 ⟨by omega, by omega⟩ ⟨by omega, by omega⟩ ?_
    rcases (show y % 4 = 0 ∨ y % 4 = 1 ∨ y % 4 = 2 ∨ y % 4 = 3 by omega) with q | q | q | q
    ·
      rw [q]
      refine wc_tsw dX7_turnedRow_33 ⟨by omega, by omega⟩ rfl 60 rfl ?_
      refine wc_iload dX7_turnedRow_60 rfl ?_
      refine wc_goto dX7_turnedRow_62 77 rfl ?_
      refine wc_ireturn dX7_turnedRow_77 rfl ?_
      exact ⟨by rw [trn_0 q], rfl⟩
    ·
      rw [q]
      refine wc_tsw dX7_turnedRow_33 ⟨by omega, by omega⟩ rfl 65 rfl ?_
      refine wc_iload_n dX7_turnedRow_65 rfl ?_
      refine wc_goto dX7_turnedRow_66 77 rfl ?_
      refine wc_ireturn dX7_turnedRow_77 rfl ?_
      exact ⟨by rw [trn_1 q, if_pos (by omega)], rfl⟩
    ·
      rw [q]
      refine wc_tsw dX7_turnedRow_33 ⟨by omega, by omega⟩ rfl 69 rfl ?_
      refine wc_iload dX7_turnedRow_69 rfl ?_
      refine wc_ineg dX7_turnedRow_71 ?_
      refine wc_goto dX7_turnedRow_72 77 rfl ?_
      refine wc_ireturn dX7_turnedRow_77 rfl ?_
      exact ⟨by rw [trn_2 q], rfl⟩
    ·
      rw [q]
      refine wc_tsw dX7_turnedRow_33 ⟨by omega, by omega⟩ rfl 75 rfl ?_
      refine wc_iload_n dX7_turnedRow_75 rfl ?_
      refine wc_ineg dX7_turnedRow_76 ?_
      refine wc_ireturn dX7_turnedRow_77 rfl ?_
      exact ⟨by rw [trn_3 q, if_pos (by omega)], rfl⟩
/-- one slot lies well -/
def see1 (w : Nat → Int) (x y f s s' : Int) : Prop := 0 ≤ xyF (celF w f % 12 + ((trnR w x s' y).1 - (trnR w x s y).1)) (celF w f / 12 + ((trnR w x s' y).2 - (trnR w x s y).2)) ∧ 0 ≤ onF w (xyF (celF w f % 12 + ((trnR w x s' y).1 - (trnR w x s y).1)) (celF w f / 12 + ((trnR w x s' y).2 - (trnR w x s y).2)))
theorem cc_lies_3 (hW : Wd w t) (hA : ShC t w x z) (hCR : CR w x) (hs : 0 ≤ s ∧ s < sltF w x) (h10 : sltF w x ≤ 10) (hy : 0 ≤ y ∧ y ≤ 7) (hc : 0 ≤ celF w f ∧ celF w f < 120) (hd : 2 ≤ d) : ∀ (n : Nat) (s' : Int) (o : Option AV), s' + n = sltF w x → 0 ≤ s' → (∀ e, 0 ≤ e → e < s' → see1 w x y f s e) → Wc kap d rX7_lies 3 [some (.inr z), some (.inl y), some (.inl s), some (.inl (celF w f)), some (.inr 102), some (.inl s'), o] [] t (nQ (fun v u => t = u ∧ ((seeF w x y f s ∧ some (.inl 1) = v) ∨ (¬ seeF w x y f s ∧ some (.inl 0) = v)))) := by
  obtain ⟨kS, k0, k1⟩ := sh_kds hA
  have e0 : ((sltF w x).toNat : Int) = sltF w x := by omega
  intro n
  induction n with
  | zero =>
    intro s' o hn h0 hok
    refine wc_iload dX7_lies_3 rfl ?_
    refine wc_aload_n dX7_lies_5 rfl ?_
    refine wc_call dX7_lies_6 rfl (cc_size kS rfl k0) (by omega) (hx_V (kV7_25 rfl) rfl kS rfl rfl) ?_
    rintro _ _ ⟨rfl, rfl⟩
    refine wc_icmp dX7_lies_9 (cB_ge (show rng _ by omega) (show rng _ by omega)) 67 rfl (fun c9 => ?_) (fun c9 => ?_)
    ·
      refine wc_iconst dX7_lies_67 ?_
      refine wc_breturn dX7_lies_68 rfl (by omega) ?_
      exact ⟨rfl, Or.inl ⟨fun e a b => hok e a (by omega), rfl⟩⟩
    ·
      omega
  | succ n ih =>
    intro s' o hn h0 hok
    have t1 := trnR_rng (y := y) hCR hs
    have t2 := trnR_rng (y := y) (s := s') hCR ⟨h0, by omega⟩
    have hx := xyF_rng (celF w f % 12 + ((trnR w x s' y).1 - (trnR w x s y).1)) (celF w f / 12 + ((trnR w x s' y).2 - (trnR w x s y).2))
    have hon := onF_rng w (xyF (celF w f % 12 + ((trnR w x s' y).1 - (trnR w x s y).1)) (celF w f / 12 + ((trnR w x s' y).2 - (trnR w x s y).2)))
    refine wc_iload dX7_lies_3 rfl ?_
    refine wc_aload_n dX7_lies_5 rfl ?_
    refine wc_call dX7_lies_6 rfl (cc_size kS rfl k0) (by omega) (hx_V (kV7_25 rfl) rfl kS rfl rfl) ?_
    rintro _ _ ⟨rfl, rfl⟩
    refine wc_icmp dX7_lies_9 (cB_ge (show rng _ by omega) (show rng _ by omega)) 67 rfl (fun c9 => ?_) (fun c9 => ?_)
    ·
      omega
    ·
      refine wc_iload_n dX7_lies_12 rfl ?_
      refine wc_aload_n dX7_lies_13 rfl ?_
      refine wc_iload dX7_lies_14 rfl ?_
      refine wc_iload_n dX7_lies_16 rfl ?_
      refine wc_call dX7_lies_17 rfl (cc_turnedColumn hA (s := s') ⟨h0, by omega⟩ h10 hy) (by omega) (hx_V (kV7_33 rfl) rfl kS rfl rfl) ?_
      rintro _ _ ⟨rfl, rfl⟩
      refine wc_aload_n dX7_lies_20 rfl ?_
      refine wc_iload_n dX7_lies_21 rfl ?_
      refine wc_iload_n dX7_lies_22 rfl ?_
      refine wc_call dX7_lies_23 rfl (cc_turnedColumn hA hs h10 hy) (by omega) (hx_V (kV7_33 rfl) rfl kS rfl rfl) ?_
      rintro _ _ ⟨rfl, rfl⟩
      refine wc_isub dX7_lies_26 ?_
      refine wc_aload_n dX7_lies_27 rfl ?_
      refine wc_iload dX7_lies_28 rfl ?_
      refine wc_iload_n dX7_lies_30 rfl ?_
      refine wc_call dX7_lies_31 rfl (cc_turnedRow hA (s := s') ⟨h0, by omega⟩ h10 hy) (by omega) (hx_V (kV7_37 rfl) rfl kS rfl rfl) ?_
      rintro _ _ ⟨rfl, rfl⟩
      refine wc_aload_n dX7_lies_34 rfl ?_
      refine wc_iload_n dX7_lies_35 rfl ?_
      refine wc_iload_n dX7_lies_36 rfl ?_
      refine wc_call dX7_lies_37 rfl (cc_turnedRow hA hs h10 hy) (by omega) (hx_V (kV7_37 rfl) rfl kS rfl rfl) ?_
      rintro _ _ ⟨rfl, rfl⟩
      refine wc_isub dX7_lies_40 ?_
      refine wc_call dX7_lies_41 rfl (cc_shifted hc (by omega) (by omega)) (by omega) (hx_S (kS7_40 rfl) (kSn7_40 rfl) rfl rfl) ?_
      rintro _ _ ⟨rfl, rfl⟩
      refine wc_istore dX7_lies_44 rfl ?_
      refine wc_iload dX7_lies_46 rfl ?_
      refine wc_if dX7_lies_48 (cB_lt (show rng _ by omega) ⟨by omega, by omega⟩) 59 rfl (fun c48 => ?_) (fun c48 => ?_)
      ·
        refine wc_iconst dX7_lies_59 ?_
        refine wc_breturn dX7_lies_60 rfl (by omega) ?_
        exact ⟨rfl, Or.inr ⟨fun q => by have := (q s' h0 (by omega)).1; omega, rfl⟩⟩
      ·
        refine wc_aload dX7_lies_51 rfl ?_
        refine wc_iload dX7_lies_53 rfl ?_
        refine wc_iaload dX7_lies_55 rfl rfl rfl ⟨by omega, by omega⟩ _ rfl ?_
        rw [hW.at ⟨by omega, by omega⟩]
        refine wc_if dX7_lies_56 (cB_ge (show rng _ by omega) ⟨by omega, by omega⟩) 61 rfl (fun c56 => ?_) (fun c56 => ?_)
        ·
          refine wc_iinc dX7_lies_61 rfl ?_
          refine wc_goto dX7_lies_64 3 rfl ?_
          refine ih (s' + 1) _ (by omega) (by omega) (fun e a b => ?_)
          by_cases q : e = s'
          · rw [q]; exact ⟨by omega, by omega⟩
          · exact hok e a (by omega)
        ·
          refine wc_iconst dX7_lies_59 ?_
          refine wc_breturn dX7_lies_60 rfl (by omega) ?_
          exact ⟨rfl, Or.inr ⟨fun q => by have := (q s' h0 (by omega)).2; omega, rfl⟩⟩
theorem cc_lies (hW : Wd w t) (hA : ShC t w x z) (hCR : CR w x) (hs : 0 ≤ s ∧ s < sltF w x) (h10 : sltF w x ≤ 10) (hy : 0 ≤ y ∧ y ≤ 7) (hc : 0 ≤ celF w f ∧ celF w f < 120) : Cb kap 2 rX7_lies [.inr z, .inl y, .inl s, .inl (celF w f), .inr 102] t (seeF w x y f s) := by
  intro d hd
  refine wc_iconst dX7_lies_0 ?_
  refine wc_istore dX7_lies_1 rfl ?_
  exact cc_lies_3 hW hA hCR hs h10 hy hc hd (sltF w x).toNat 0 _ (by omega) (by omega) (fun e a b => by omega)
theorem cc_isSeen_23 (h : SI w C t) (hA : ShC t w x z) (hCR : CR w x) (h10 : sltF w x ≤ 10) (hy : 0 ≤ y ∧ y ≤ 7) (hf : isM w f) (hd : 3 ≤ d) : ∀ (n : Nat) (s : Int), s + n = sltF w x → 0 ≤ s → (∀ e, 0 ≤ e → e < s → ¬ seeF w x y f e) → Wc kap d rX0_isSeen 23 [some (.inr 10), some (.inr z), some (.inl y), some (.inl f), some (.inl s)] [] t (nQ (fun v u => t = u ∧ (((∃ s, (0 ≤ s ∧ s < sltF w x) ∧ seeF w x y f s) ∧ some (.inl 1) = v) ∨ (¬ (∃ s, (0 ≤ s ∧ s < sltF w x) ∧ seeF w x y f s) ∧ some (.inl 0) = v)))) := by
  obtain ⟨kS, k0, k1⟩ := sh_kds hA
  have e0 : 0 ≤ sltF w x → ((sltF w x).toNat : Int) = sltF w x := by omega
  have hfr := isM_le hf h.2.1.1.2
  have hM := h.1.1.mem h.2.1.1.2 hf
  have hkM := hM.kd (T := kap)
  have hc : 0 ≤ celF w f ∧ celF w f < 120 := ⟨hf.2, (h.2.2.1.2.2.1 f hfr.1 hfr.2).2⟩
  intro n
  induction n with
  | zero =>
    intro s hn h0 hno
    refine wc_iload dX0_isSeen_23 rfl ?_
    refine wc_aload_n dX0_isSeen_25 rfl ?_
    refine wc_call dX0_isSeen_26 rfl (cc_size kS rfl k0) (by omega) (hx_V (kV0_66 rfl) rfl kS rfl rfl) ?_
    rintro _ _ ⟨rfl, rfl⟩
    refine wc_icmp dX0_isSeen_29 (cB_ge (show rng _ by omega) (show rng _ by omega)) 69 rfl (fun c29 => ?_) (fun c29 => ?_)
    ·
      refine wc_iconst dX0_isSeen_69 ?_
      refine wc_breturn dX0_isSeen_70 rfl (by omega) ?_
      exact ⟨rfl, Or.inr ⟨fun ⟨e, a, b⟩ => hno e a.1 (by omega) b, rfl⟩⟩
    ·
      omega
  | succ n ih =>
    intro s hn h0 hno
    refine wc_iload dX0_isSeen_23 rfl ?_
    refine wc_aload_n dX0_isSeen_25 rfl ?_
    refine wc_call dX0_isSeen_26 rfl (cc_size kS rfl k0) (by omega) (hx_V (kV0_66 rfl) rfl kS rfl rfl) ?_
    rintro _ _ ⟨rfl, rfl⟩
    refine wc_icmp dX0_isSeen_29 (cB_ge (show rng _ by omega) (show rng _ by omega)) 69 rfl (fun c29 => ?_) (fun c29 => ?_)
    ·
      omega
    ·
      refine wc_aload_n dX0_isSeen_32 rfl ?_
      refine wc_iload_n dX0_isSeen_33 rfl ?_
      refine wc_iload dX0_isSeen_34 rfl ?_
      refine wc_aload_n dX0_isSeen_36 rfl ?_
      refine wc_getC dX0_isSeen_37 (kF0_19 rfl) rfl rfl ?_
      refine wc_getC dX0_isSeen_40 (kF0_80 rfl) rfl rfl ?_
      refine wc_iload_n dX0_isSeen_43 rfl ?_
      refine wc_aaload (y := mnC t f) dX0_isSeen_44 rfl rfl rfl ⟨by omega, by omega⟩ rfl ?_
      refine wc_getI dX0_isSeen_45 (kF0_49 rfl) hkM rfl ?_
      rw [hM.2.2.1]
      refine wc_aload_n dX0_isSeen_48 rfl ?_
      refine wc_getC dX0_isSeen_49 (kF0_19 rfl) rfl rfl ?_
      refine wc_getC dX0_isSeen_52 (kF0_150 rfl) rfl rfl ?_
      refine wc_call dX0_isSeen_55 rfl (cc_lies h.1.1 hA hCR ⟨h0, by omega⟩ h10 hy hc) (by omega) (hx_V (kV0_389 rfl) rfl kS rfl rfl) ?_
      rintro _ _ ⟨rfl, ⟨h55, rfl⟩ | ⟨h55, rfl⟩⟩
      ·
        refine wc_ifF dX0_isSeen_58 (by decide) 63 rfl ?_
        refine wc_iconst dX0_isSeen_61 ?_
        refine wc_breturn dX0_isSeen_62 rfl (by omega) ?_
        exact ⟨rfl, Or.inl ⟨⟨s, ⟨h0, by omega⟩, h55⟩, rfl⟩⟩
      ·
        refine wc_ifT dX0_isSeen_58 (by decide) 63 rfl ?_
        refine wc_iinc dX0_isSeen_63 rfl ?_
        refine wc_goto dX0_isSeen_66 23 rfl ?_
        refine ih (s + 1) (by omega) (by omega) (fun e a b => ?_)
        by_cases q : e = s
        · rw [q]; exact h55
        · exact hno e a (by omega)
theorem cntB_ex {p : Int → Bool} : ∀ (k : Nat) (i : Int), 0 < cntB p k i → ∃ j, (i ≤ j ∧ j < i + k) ∧ p j = true := by
  intro k
  induction k with
  | zero => intro i h; exact absurd h (by unfold cntB; omega)
  | succ k ih =>
    intro i h
    unfold cntB at h
    by_cases q : p i = true
    · exact ⟨i, by omega, q⟩
    · rw [if_neg q] at h
      obtain ⟨j, a, b⟩ := ih (i + 1) (by omega)
      exact ⟨j, by omega, b⟩
theorem many_ex (h : 0 < manyF w) : ∃ m, isM w m := by
  have h2 : 0 < cntB (fun m => decide (isM w m)) 10 0 := by rw [← cntF_B]; exact h
  obtain ⟨j, -, q⟩ := cntB_ex 10 0 h2
  exact ⟨j, of_decide_eq_true q⟩
theorem cc_isSeen_2 (h : SI w C t) (hA : ShC t w x z) (hCR : CR w x) (hD : DS w x) (h10 : 0 < sltF w x ∧ sltF w x ≤ 10) (hmn : manyF w = sltF w x) (hy : 0 ≤ y ∧ y ≤ 7) (hd : 3 ≤ d) : ∀ (n : Nat) (f : Int), f + n = 10 → 0 ≤ f → (∀ e, 0 ≤ e → e < f → ¬ isM w e) → Wc kap d rX0_isSeen 2 [some (.inr 10), some (.inr z), some (.inl y), some (.inl f), none] [] t (nQ (fun v u => t = u ∧ ((recF w x y ∧ some (.inl 1) = v) ∨ (¬ recF w x y ∧ some (.inl 0) = v)))) := by
  have h0w := h.2.1.1.2
  intro n
  induction n with
  | zero =>
    intro f hn h0 hno
    obtain ⟨m, hm⟩ := many_ex (w := w) (by omega)
    have := isM_le hm h0w
    exact absurd hm (hno m this.1 (by omega))
  | succ n ih =>
    intro f hn h0 hno
    by_cases hf : isM w f
    · have hM := h.1.1.mem h0w hf
      refine wc_aload_n dX0_isSeen_2 rfl ?_
      refine wc_getC dX0_isSeen_3 (kF0_19 rfl) rfl rfl ?_
      refine wc_getC dX0_isSeen_6 (kF0_80 rfl) rfl rfl ?_
      refine wc_iload_n dX0_isSeen_9 rfl ?_
      refine wc_aaload (y := mnC t f) dX0_isSeen_10 rfl rfl rfl ⟨by omega, by omega⟩ rfl ?_
      refine wc_ifnonnull dX0_isSeen_11 (Or.inr (by rw [hM.kd]; rfl)) 20 rfl (fun c11 => ?_) (fun c11 => ?_)
      ·
        refine wc_iconst dX0_isSeen_20 ?_
        refine wc_istore dX0_isSeen_21 rfl ?_
        refine (cc_isSeen_23 h hA hCR h10.2 hy hf hd (sltF w x).toNat 0 (by omega) (by omega) (fun e a b => by omega)).mn (fun v u q => ⟨q.1, ?_⟩)
        rw [see_rec hf hmn h0w (fun m hm => (h.2.2.1.2.2.1 m (isM_le hm h0w).1 (isM_le hm h0w).2).2) hD h10.1]
        exact q.2
      ·
        exact absurd c11 (by have := hM.1.1; omega)
    · have hz : mnC t f = 0 := by unfold mnC; rw [h.1.1.non hf ⟨h0, by omega⟩]; rfl
      refine wc_aload_n dX0_isSeen_2 rfl ?_
      refine wc_getC dX0_isSeen_3 (kF0_19 rfl) rfl rfl ?_
      refine wc_getC dX0_isSeen_6 (kF0_80 rfl) rfl rfl ?_
      refine wc_iload_n dX0_isSeen_9 rfl ?_
      refine wc_aaload (y := mnC t f) dX0_isSeen_10 rfl rfl rfl ⟨by omega, by omega⟩ rfl ?_
      refine wc_ifnonnull dX0_isSeen_11 (Or.inl hz) 20 rfl (fun c11 => ?_) (fun c11 => ?_)
      ·
        exact absurd hz c11
      ·
        refine wc_iinc dX0_isSeen_14 rfl ?_
        refine wc_goto dX0_isSeen_17 2 rfl ?_
        refine ih (f + 1) (by omega) (by omega) (fun e a b => ?_)
        by_cases q : e = f
        · rw [q]; exact hf
        · exact hno e a (by omega)
theorem cc_isSeen (h : SI w C t) (hA : ShC t w x z) (hCR : CR w x) (hD : DS w x) (h10 : 0 < sltF w x ∧ sltF w x ≤ 10) (hmn : manyF w = sltF w x) (hy : 0 ≤ y ∧ y ≤ 7) : Cb kap 3 rX0_isSeen [.inr 10, .inr z, .inl y] t (recF w x y) := by
  intro d hd
  refine wc_iconst dX0_isSeen_0 ?_
  refine wc_istore_n dX0_isSeen_1 rfl ?_
  exact cc_isSeen_2 h hA hCR hD h10 hmn hy hd 10 0 (by omega) (by omega) (fun e a b => by omega)
theorem cc_recognized_47 (h : SI w C t) (hA : ShC t w x z) (hCR : CR w x) (hD : DS w x) (h10 : 0 < sltF w x ∧ sltF w x ≤ 10) (hmn : manyF w = sltF w x) (hd : 4 ≤ d) : ∀ (n : Nat) (y : Int), y + n = 8 → 0 ≤ y → Wc kap d rX0_recognized 47 [some (.inr 10), some (.inl x), some (.inr z), some (.inl y)] [] t (nQ (fun v u => some (.inl (recgF w x n y)) = v ∧ t = u)) := by
  intro n
  induction n with
  | zero =>
    intro y hn h0
    refine wc_iload_n dX0_recognized_47 rfl ?_
    refine wc_bipush dX0_recognized_48 (by decide) ?_
    refine wc_icmp dX0_recognized_50 (cB_ge ⟨by omega, by omega⟩ ⟨by omega, by omega⟩) 70 rfl (fun c50 => ?_) (fun c50 => ?_)
    ·
      refine wc_bipush dX0_recognized_70 (by decide) ?_
      refine wc_ireturn dX0_recognized_72 rfl ?_
      exact ⟨rfl, rfl⟩
    ·
      omega
  | succ n ih =>
    intro y hn h0
    refine wc_iload_n dX0_recognized_47 rfl ?_
    refine wc_bipush dX0_recognized_48 (by decide) ?_
    refine wc_icmp dX0_recognized_50 (cB_ge ⟨by omega, by omega⟩ ⟨by omega, by omega⟩) 70 rfl (fun c50 => ?_) (fun c50 => ?_)
    ·
      omega
    ·
      refine wc_aload_n dX0_recognized_53 rfl ?_
      refine wc_aload_n dX0_recognized_54 rfl ?_
      refine wc_iload_n dX0_recognized_55 rfl ?_
      refine wc_call dX0_recognized_56 rfl (cc_isSeen h hA hCR hD h10 hmn ⟨h0, by omega⟩) (by omega) (hx_V (kV0_393 rfl) rfl rfl rfl rfl) ?_
      rintro _ _ ⟨rfl, ⟨h56, rfl⟩ | ⟨h56, rfl⟩⟩
      ·
        refine wc_ifF dX0_recognized_59 (by decide) 64 rfl ?_
        refine wc_iload_n dX0_recognized_62 rfl ?_
        refine wc_ireturn dX0_recognized_63 rfl ?_
        exact ⟨by rw [recg_y h56], rfl⟩
      ·
        refine wc_ifT dX0_recognized_59 (by decide) 64 rfl ?_
        refine wc_iinc dX0_recognized_64 rfl ?_
        refine wc_goto dX0_recognized_67 47 rfl ?_
        rw [recg_n h56]
        exact ih (y + 1) (by omega) (by omega)
theorem many_rng : 0 ≤ manyF w ∧ manyF w ≤ 10 := by
  have h : ∀ (k : Nat) (i : Int), 0 ≤ cntF w k i ∧ cntF w k i ≤ k := by
    intro k
    induction k with
    | zero => intro i; exact ⟨Int.le_refl _, Int.le_refl _⟩
    | succ k ih => intro i; have := ih (i + 1); show 0 ≤ (if isM w i then 1 else 0) + cntF w k (i + 1) ∧ (if isM w i then 1 else 0) + cntF w k (i + 1) ≤ ((k + 1 : Nat) : Int); split <;> omega
  exact h 10 0
theorem cc_recognized (h : SI w C t) (hx : rng x) (hCR : ∀ x, 0 ≤ x → x ≤ 2 → CR w x ∧ DS w x) : Cf kap 4 rX0_recognized [.inr 10, .inl x] t (some (.inl (if 0 ≤ x ∧ x ≤ 2 then (if sltF w x = 0 then -3 else if manyF w = sltF w x then recgF w x 8 0 else -5) else -1))) t := by
  intro d hd
  have hS := h.1.2.2
  have hh := h.2.2.2.1
  have hmr := many_rng (w := w)
  refine wc_iload_n dX0_recognized_0 rfl ?_
  refine wc_iconst dX0_recognized_1 ?_
  refine wc_iconst dX0_recognized_2 ?_
  refine wc_call dX0_recognized_3 rfl (cc_in hx (by omega) (by omega)) (by omega) (hx_S (kS0_3 rfl) (kSn0_3 rfl) rfl rfl) ?_
  rintro _ _ ⟨rfl, ⟨h3, rfl⟩ | ⟨h3, rfl⟩⟩
  ·
    refine wc_ifT dX0_recognized_6 (by decide) 11 rfl ?_
    refine wc_aload_n dX0_recognized_11 rfl ?_
    refine wc_getC dX0_recognized_12 (kF0_19 rfl) rfl rfl ?_
    refine wc_getC dX0_recognized_15 (kF0_59 rfl) rfl rfl ?_
    refine wc_iload_n dX0_recognized_18 rfl ?_
    refine wc_aaload (y := (sg t 104 x.toNat).toNat) dX0_recognized_19 rfl rfl rfl ⟨by omega, by omega⟩ rfl ?_
    refine wc_astore_n dX0_recognized_20 rfl ?_
    refine wc_aload_n dX0_recognized_21 rfl ?_
    refine wc_ifnonnull dX0_recognized_22 (by by_cases q : 0 < sltF w x; exact Or.inr (by rw [(sh_kds ((hS x h3.1 (by omega)).1 q)).1]; rfl); exact Or.inl (by rw [(hS x h3.1 (by omega)).2 q]; rfl)) 28 rfl (fun c22 => ?_) (fun c22 => ?_)
    ·
      have hsl : 0 < sltF w x := Classical.byContradiction (fun q => c22 (by rw [(hS x h3.1 (by omega)).2 q]; rfl))
      have hA := (hS x h3.1 (by omega)).1 hsl
      obtain ⟨kS, k0, k1⟩ := sh_kds hA
      have h10 := (hh x h3.1 h3.2).1
      have e0 : ((sltF w x).toNat : Int) = sltF w x := by omega
      refine wc_aload_n dX0_recognized_28 rfl ?_
      refine wc_getC dX0_recognized_29 (kF0_19 rfl) rfl rfl ?_
      refine wc_call dX0_recognized_32 rfl (cc_many h.1.1 h.2.1.1) (by omega) (hx_V (kV0_307 rfl) rfl rfl rfl rfl) ?_
      rintro _ _ ⟨rfl, rfl⟩
      refine wc_aload_n dX0_recognized_35 rfl ?_
      refine wc_call dX0_recognized_36 rfl (cc_size kS rfl k0) (by omega) (hx_V (kV0_66 rfl) rfl kS rfl rfl) ?_
      rintro _ _ ⟨rfl, rfl⟩
      refine wc_icmp dX0_recognized_39 (cB_eq (show rng _ by omega) (show rng _ by omega)) 45 rfl (fun c39 => ?_) (fun c39 => ?_)
      ·
        refine wc_iconst dX0_recognized_45 ?_
        refine wc_istore_n dX0_recognized_46 rfl ?_
        rw [if_pos h3, if_neg (by omega), if_pos (by omega)]
        exact cc_recognized_47 h hA (hCR x h3.1 h3.2).1 (hCR x h3.1 h3.2).2 ⟨hsl, h10.2⟩ (by omega) hd 8 0 (by omega) (by omega)
      ·
        refine wc_bipush dX0_recognized_42 (by decide) ?_
        refine wc_ireturn dX0_recognized_44 rfl ?_
        exact ⟨by rw [if_pos h3, if_neg (by omega), if_neg (by omega)], rfl⟩
    ·
      refine wc_bipush dX0_recognized_25 (by decide) ?_
      refine wc_ireturn dX0_recognized_27 rfl ?_
      refine ⟨?_, rfl⟩
      have h10 := (hh x h3.1 h3.2).1
      have : ¬ 0 < sltF w x := fun q => by have := ((hS x h3.1 (by omega)).1 q).1.1; omega
      rw [if_pos h3, if_pos (by omega)]
  ·
    refine wc_ifF dX0_recognized_6 (by decide) 11 rfl ?_
    refine wc_iconst dX0_recognized_9 ?_
    refine wc_ireturn dX0_recognized_10 rfl ?_
    exact ⟨by rw [if_neg h3], rfl⟩
end QRCG
