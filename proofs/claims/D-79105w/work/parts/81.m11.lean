/-! THE MODEL'S METHODS, 11: questions -/
set_option maxRecDepth 100000
def sltAtF (w : Nat → Int) (c : Int) (k : Nat) (s : Int) : Int := if fstI (fun s => decide (plcF w s = c)) k s < 0 then -5 else fstI (fun s => decide (plcF w s = c)) k s
def dstF (w : Nat → Int) (x y : Int) : Int := if bfsF (blkF w) y x < 0 then -5 else bfsF (blkF w) y x
def slotF (w : Nat → Int) (x y : Int) : Int :=
  if ¬ (0 ≤ x ∧ x ≤ 2) then -100 else if sltF w x = 0 then -100 else if 0 ≤ y ∧ y ≤ 1 then (if y = 0 then sltF w x else ancF w x) else
  if 10 ≤ y ∧ y ≤ 9 + sltF w x then colF w x (y - 10) else if 30 ≤ y ∧ y ≤ 29 + sltF w x then rowF w x (y - 30) else -100
def opnAF (w : Nat → Int) (c : Int) : Nat → Int → Int
  | 0, _ => 0
  | k + 1, v => (if 0 ≤ besF c v ∧ ¬ w (72 + besF c v).toNat = 1 then 1 else 0) + opnAF w c k (v + 1)
/-- every shape in order -/
def SH (w : Nat → Int) : Prop := ∀ s, 0 ≤ s → s ≤ 2 → (0 ≤ sltF w s ∧ sltF w s ≤ 10) ∧ (0 ≤ ancF w s ∧ ancF w s ≤ 9)
section M15
variable {τ : MT} {m c v x y z b n dd : Int} {d : Nat} {Q : Option Int → MT → Prop}
theorem mc_account_16 : ∀ (k : Nat) (i a : Int), i + k = 120 → 0 ≤ i → Wm d rX3_account 40 [some (.inr 1), some (.inl x), some (.inl (a + oF (τ.2 0) k i)), some (.inl 120)] [] τ Q → Wm d rX3_account 16 [some (.inr 1), some (.inl x), some (.inl a), some (.inl i)] [] τ Q := by
  intro k
  induction k with
  | zero =>
    intro i a hi h0 K
    have e : i = 120 := by omega
    subst e
    refine wm_iload_n dX3_account_16 rfl ?_
    refine wm_bipush dX3_account_17 (by decide) ?_
    refine wm_icmp dX3_account_19 (cB_ge ⟨by omega, by omega⟩ ⟨by omega, by omega⟩) 40 rfl (fun c19 => ?_) (fun c19 => ?_)
    ·
      rw [oF, Int.add_zero] at K
      exact K
    ·
      omega
  | succ k ih =>
    intro i a hi h0 K
    refine wm_iload_n dX3_account_16 rfl ?_
    refine wm_bipush dX3_account_17 (by decide) ?_
    refine wm_icmp dX3_account_19 (cB_ge ⟨by omega, by omega⟩ ⟨by omega, by omega⟩) 40 rfl (fun c19 => ?_) (fun c19 => ?_)
    ·
      omega
    ·
      refine wm_iload_n dX3_account_22 rfl ?_
      refine wm_aload_n dX3_account_23 rfl ?_
      refine wm_getA dX3_account_24 (kF3_9 rfl) rfl ?_
      refine wm_bipush dX3_account_27 (by decide) ?_
      refine wm_iload_n dX3_account_29 rfl ?_
      refine wm_iadd dX3_account_30 ?_
      refine wm_iaload dX3_account_31 rfl ⟨by omega, by omega⟩ _ rfl ?_
      refine wm_iadd dX3_account_32 ?_
      refine wm_istore_n dX3_account_33 rfl ?_
      refine wm_iinc dX3_account_34 rfl ?_
      refine wm_goto dX3_account_37 16 rfl ?_
      refine ih (i + 1) _ (by omega) (by omega) ?_
      rw [oF, ← Int.add_assoc] at K
      exact K
theorem mc_account (hx : rng x) : Mf 2 rX3_account [.inr 1, .inl x] τ (some (if 0 ≤ x ∧ x ≤ 7 then (if x = 6 then oF (τ.2 0) 120 0 else τ.2 0 (4 + x).toNat) else -1)) τ := by
  intro d hd
  refine wm_iload_n dX3_account_0 rfl ?_
  refine wm_iconst dX3_account_1 ?_
  refine wm_bipush dX3_account_2 (by decide) ?_
  refine wm_calls dX3_account_4 (kS3_57 rfl) (kSn3_57 rfl) (mc_in hx (by omega) (by omega)) (by omega) rfl rfl ?_
  rintro _ _ ⟨rfl, ⟨h4, rfl⟩ | ⟨h4, rfl⟩⟩
  ·
    refine wm_ifT dX3_account_7 (by decide) 12 rfl ?_
    refine wm_iconst dX3_account_12 ?_
    refine wm_istore_n dX3_account_13 rfl ?_
    refine wm_iconst dX3_account_14 ?_
    refine wm_istore_n dX3_account_15 rfl ?_
    refine mc_account_16 120 0 0 (by omega) (by omega) ?_
    refine wm_iload_n dX3_account_40 rfl ?_
    refine wm_bipush dX3_account_41 (by decide) ?_
    refine wm_icmp dX3_account_43 (cB_ne ⟨by omega, by omega⟩ ⟨by omega, by omega⟩) 50 rfl (fun c43 => ?_) (fun c43 => ?_)
    ·
      refine wm_aload_n dX3_account_50 rfl ?_
      refine wm_getA dX3_account_51 (kF3_9 rfl) rfl ?_
      refine wm_iconst dX3_account_54 ?_
      refine wm_iload_n dX3_account_55 rfl ?_
      refine wm_iadd dX3_account_56 ?_
      refine wm_iaload dX3_account_57 rfl ⟨by omega, by omega⟩ _ rfl ?_
      refine wm_ireturn dX3_account_58 rfl ?_
      exact ⟨by rw [if_pos h4, if_neg c43], rfl⟩
    ·
      refine wm_iload_n dX3_account_46 rfl ?_
      refine wm_goto dX3_account_47 58 rfl ?_
      refine wm_ireturn dX3_account_58 rfl ?_
      exact ⟨by rw [if_pos h4, if_pos (by omega), Int.zero_add], rfl⟩
  ·
    refine wm_ifF dX3_account_7 (by decide) 12 rfl ?_
    refine wm_iconst dX3_account_10 ?_
    refine wm_ireturn dX3_account_11 rfl ?_
    exact ⟨by rw [if_neg h4], rfl⟩
theorem mc_slotAt_2 {C : Int} (hC : 300 ≤ C ∧ C < 1999999000) (hb : bdW C (τ.2 0)) (hS : WS (τ.2 0)) (hd : 4 ≤ d) (hc : rng c) : ∀ (k : Nat) (s : Int), s + k = sltF (τ.2 0) (τ.2 0 3) → 0 ≤ s → Wm d rX3_slotAt 2 [some (.inr 1), some (.inl c), some (.inl s)] [] τ (fun v t => some (sltAtF (τ.2 0) c k s) = v ∧ τ = t) := by
  have hr := hb.rng (by omega)
  obtain ⟨w0, w3, wc, ws, wa, wk, w2⟩ := hS
  intro k
  induction k with
  | zero =>
    intro s hs h0
    refine wm_iload_n dX3_slotAt_2 rfl ?_
    refine wm_aload_n dX3_slotAt_3 rfl ?_
    refine wm_aload_n dX3_slotAt_4 rfl ?_
    refine wm_getA dX3_slotAt_5 (kF3_9 rfl) rfl ?_
    refine wm_iconst dX3_slotAt_8 ?_
    refine wm_iaload dX3_slotAt_9 rfl ⟨by omega, by omega⟩ 3 rfl ?_
    refine wm_callv dX3_slotAt_10 (kV3_101 rfl) rfl (mc_slots w3) (by omega) rfl rfl ?_
    rintro _ _ ⟨rfl, rfl⟩
    refine wm_icmp dX3_slotAt_13 (cB_ge ⟨by omega, by omega⟩ ⟨by omega, by omega⟩) 33 rfl (fun c13 => ?_) (fun c13 => ?_)
    ·
      refine wm_bipush dX3_slotAt_33 (by decide) ?_
      refine wm_ireturn dX3_slotAt_35 rfl ?_
      exact ⟨by rw [sltAtF, fstI, if_pos (by decide)], rfl⟩
    ·
      omega
  | succ k ih =>
    intro s hs h0
    have hp := plcF_rng (τ.2 0) s
    refine wm_iload_n dX3_slotAt_2 rfl ?_
    refine wm_aload_n dX3_slotAt_3 rfl ?_
    refine wm_aload_n dX3_slotAt_4 rfl ?_
    refine wm_getA dX3_slotAt_5 (kF3_9 rfl) rfl ?_
    refine wm_iconst dX3_slotAt_8 ?_
    refine wm_iaload dX3_slotAt_9 rfl ⟨by omega, by omega⟩ 3 rfl ?_
    refine wm_callv dX3_slotAt_10 (kV3_101 rfl) rfl (mc_slots w3) (by omega) rfl rfl ?_
    rintro _ _ ⟨rfl, rfl⟩
    refine wm_icmp dX3_slotAt_13 (cB_ge ⟨by omega, by omega⟩ ⟨by omega, by omega⟩) 33 rfl (fun c13 => ?_) (fun c13 => ?_)
    ·
      omega
    ·
      refine wm_aload_n dX3_slotAt_16 rfl ?_
      refine wm_iload_n dX3_slotAt_17 rfl ?_
      refine wm_callv dX3_slotAt_18 (kV3_104 rfl) rfl (mc_placeOf w0 hr w3 (fun m a1 a2 => (wc m a1 a2).2) (by omega) wa (wk s h0 (by omega))) (by omega) rfl rfl ?_
      rintro _ _ ⟨rfl, rfl⟩
      refine wm_iload_n dX3_slotAt_21 rfl ?_
      refine wm_icmp dX3_slotAt_22 (cB_ne ⟨by omega, by omega⟩ ⟨by omega, by omega⟩) 27 rfl (fun c22 => ?_) (fun c22 => ?_)
      ·
        refine wm_iinc dX3_slotAt_27 rfl ?_
        refine wm_goto dX3_slotAt_30 2 rfl ?_
        refine (ih (s + 1) (by omega) (by omega)).mono (fun v t h => ⟨?_, h.2⟩)
        rw [← h.1, sltAtF, sltAtF, fstI, if_neg (show ¬ decide (plcF (τ.2 0) s = c) = true by rw [decide_eq_true_eq]; exact c22)]
      ·
        refine wm_iload_n dX3_slotAt_25 rfl ?_
        refine wm_ireturn dX3_slotAt_26 rfl ?_
        have e : fstI (fun s => decide (plcF (τ.2 0) s = c)) (k + 1) s = s := by rw [fstI, if_pos (decide_eq_true (show plcF (τ.2 0) s = c by omega))]
        exact ⟨by rw [sltAtF, e, if_neg (by omega)], rfl⟩
theorem mc_slotAt {C : Int} (hC : 300 ≤ C ∧ C < 1999999000) (hb : bdW C (τ.2 0)) (hS : WS (τ.2 0)) (hc : rng c) : Mf 4 rX3_slotAt [.inr 1, .inl c] τ (some (sltAtF (τ.2 0) c (sltF (τ.2 0) (τ.2 0 3)).toNat 0)) τ := by
  intro d hd
  have ws := hS.2.2.2.1
  refine wm_iconst dX3_slotAt_0 ?_
  refine wm_istore_n dX3_slotAt_1 rfl ?_
  exact mc_slotAt_2 hC hb hS hd hc _ 0 (by omega) (by omega)
theorem mc_distance (hx : rng x) (hy : rng y) (hr : ∀ i, rng (τ.2 0 i)) : Mt 4 rX3_distance [.inr 1, .inl x, .inl y] τ (fun v t => (¬ ((0 ≤ x ∧ x ≤ 119) ∧ 0 ≤ y ∧ y ≤ 119) ∧ some (-1) = v ∧ τ = t) ∨ (((0 ≤ x ∧ x ≤ 119) ∧ 0 ≤ y ∧ y ≤ 119) ∧ some (dstF (τ.2 0) x y) = v ∧ ∃ q, t = flR τ 1200 (bfsF (blkF (τ.2 0)) y) q)) := by
  intro d hd
  refine wm_iload_n dX3_distance_0 rfl ?_
  refine wm_calls dX3_distance_1 (kS3_166 rfl) (kSn3_166 rfl) (mc_isCell hx) (by omega) rfl rfl ?_
  rintro _ _ ⟨rfl, ⟨h1, rfl⟩ | ⟨h1, rfl⟩⟩
  ·
    refine wm_ifF dX3_distance_4 (by decide) 14 rfl ?_
    refine wm_iload_n dX3_distance_7 rfl ?_
    refine wm_calls dX3_distance_8 (kS3_166 rfl) (kSn3_166 rfl) (mc_isCell hy) (by omega) rfl rfl ?_
    rintro _ _ ⟨rfl, ⟨h8, rfl⟩ | ⟨h8, rfl⟩⟩
    ·
      refine wm_ifT dX3_distance_11 (by decide) 16 rfl ?_
      refine wm_aload_n dX3_distance_16 rfl ?_
      refine wm_iload_n dX3_distance_17 rfl ?_
      refine wm_iload_n dX3_distance_18 rfl ?_
      refine wm_callv dX3_distance_19 (kV3_216 rfl) rfl (mc_distanceOf (by omega) (by omega) hr) (by omega) rfl rfl ?_
      rintro _ _ ⟨rfl, q, rfl⟩
      have hbr := bfsF_rng (blkF (τ.2 0)) (c := y) (by omega) x
      refine wm_istore_n dX3_distance_22 rfl ?_
      refine wm_iload_n dX3_distance_23 rfl ?_
      refine wm_if dX3_distance_24 (cB_ge ⟨by omega, by omega⟩ ⟨by omega, by omega⟩) 32 rfl (fun c24 => ?_) (fun c24 => ?_)
      ·
        refine wm_iload_n dX3_distance_32 rfl ?_
        refine wm_ireturn dX3_distance_33 rfl ?_
        exact Or.inr ⟨⟨h1, h8⟩, by rw [dstF, if_neg (by omega)], q, rfl⟩
      ·
        refine wm_bipush dX3_distance_27 (by decide) ?_
        refine wm_goto dX3_distance_29 33 rfl ?_
        refine wm_ireturn dX3_distance_33 rfl ?_
        exact Or.inr ⟨⟨h1, h8⟩, by rw [dstF, if_pos (by omega)], q, rfl⟩
    ·
      refine wm_ifF dX3_distance_11 (by decide) 16 rfl ?_
      refine wm_iconst dX3_distance_14 ?_
      refine wm_ireturn dX3_distance_15 rfl ?_
      exact Or.inl ⟨fun h => h8 h.2, rfl, rfl⟩
  ·
    refine wm_ifT dX3_distance_4 (by decide) 14 rfl ?_
    refine wm_iconst dX3_distance_14 ?_
    refine wm_ireturn dX3_distance_15 rfl ?_
    exact Or.inl ⟨fun h => h1 h.1, rfl, rfl⟩
theorem mc_slot (hx : rng x) (hy : rng y) (hr : ∀ i, rng (τ.2 0 i)) (hs : SH (τ.2 0)) : Mf 4 rX3_slot [.inr 1, .inl x, .inl y] τ (some (slotF (τ.2 0) x y)) τ := by
  intro d hd
  refine wm_iload_n dX3_slot_0 rfl ?_
  refine wm_iconst dX3_slot_1 ?_
  refine wm_iconst dX3_slot_2 ?_
  refine wm_calls dX3_slot_3 (kS3_57 rfl) (kSn3_57 rfl) (mc_in hx (by omega) (by omega)) (by omega) rfl rfl ?_
  rintro _ _ ⟨rfl, ⟨h3, rfl⟩ | ⟨h3, rfl⟩⟩
  ·
    refine wm_ifF dX3_slot_6 (by decide) 17 rfl ?_
    refine wm_aload_n dX3_slot_9 rfl ?_
    refine wm_iload_n dX3_slot_10 rfl ?_
    refine wm_callv dX3_slot_11 (kV3_101 rfl) rfl (mc_slots h3) (by omega) rfl rfl ?_
    rintro _ _ ⟨rfl, rfl⟩
    have hs1 := hs x h3.1 h3.2
    refine wm_if dX3_slot_14 (cB_ne ⟨by omega, by omega⟩ ⟨by omega, by omega⟩) 20 rfl (fun c14 => ?_) (fun c14 => ?_)
    ·
      refine wm_aload_n dX3_slot_20 rfl ?_
      refine wm_iload_n dX3_slot_21 rfl ?_
      refine wm_callv dX3_slot_22 (kV3_101 rfl) rfl (mc_slots h3) (by omega) rfl rfl ?_
      rintro _ _ ⟨rfl, rfl⟩
      refine wm_istore_n dX3_slot_25 rfl ?_
      refine wm_iload_n dX3_slot_26 rfl ?_
      refine wm_iconst dX3_slot_27 ?_
      refine wm_iconst dX3_slot_28 ?_
      refine wm_calls dX3_slot_29 (kS3_57 rfl) (kSn3_57 rfl) (mc_in hy (by omega) (by omega)) (by omega) rfl rfl ?_
      rintro _ _ ⟨rfl, ⟨h29, rfl⟩ | ⟨h29, rfl⟩⟩
      ·
        refine wm_ifF dX3_slot_32 (by decide) 49 rfl ?_
        refine wm_iload_n dX3_slot_35 rfl ?_
        refine wm_if dX3_slot_36 (cB_ne ⟨by omega, by omega⟩ ⟨by omega, by omega⟩) 43 rfl (fun c36 => ?_) (fun c36 => ?_)
        ·
          refine wm_aload_n dX3_slot_43 rfl ?_
          refine wm_iload_n dX3_slot_44 rfl ?_
          refine wm_callv dX3_slot_45 (kV3_82 rfl) rfl (mc_anchor h3) (by omega) rfl rfl ?_
          rintro _ _ ⟨rfl, rfl⟩
          refine wm_ireturn dX3_slot_48 rfl ?_
          exact ⟨by rw [slotF, if_neg (fun h => h h3), if_neg c14, if_pos h29, if_neg c36], rfl⟩
        ·
          refine wm_iload_n dX3_slot_39 rfl ?_
          refine wm_goto dX3_slot_40 48 rfl ?_
          refine wm_ireturn dX3_slot_48 rfl ?_
          exact ⟨by rw [slotF, if_neg (fun h => h h3), if_neg c14, if_pos h29, if_pos (by omega)], rfl⟩
      ·
        refine wm_ifT dX3_slot_32 (by decide) 49 rfl ?_
        refine wm_iload_n dX3_slot_49 rfl ?_
        refine wm_bipush dX3_slot_50 (by decide) ?_
        refine wm_bipush dX3_slot_52 (by decide) ?_
        refine wm_iload_n dX3_slot_54 rfl ?_
        refine wm_iadd dX3_slot_55 ?_
        refine wm_calls dX3_slot_56 (kS3_57 rfl) (kSn3_57 rfl) (mc_in hy (by omega) (by omega)) (by omega) rfl rfl ?_
        rintro _ _ ⟨rfl, ⟨h56, rfl⟩ | ⟨h56, rfl⟩⟩
        ·
          refine wm_ifF dX3_slot_59 (by decide) 74 rfl ?_
          refine wm_aload_n dX3_slot_62 rfl ?_
          refine wm_iload_n dX3_slot_63 rfl ?_
          refine wm_iload_n dX3_slot_64 rfl ?_
          refine wm_bipush dX3_slot_65 (by decide) ?_
          refine wm_isub dX3_slot_67 ?_
          refine wm_callv dX3_slot_68 (kV3_89 rfl) rfl (mc_column h3 (by omega) hs1.2) (by omega) rfl rfl ?_
          rintro _ _ ⟨rfl, rfl⟩
          refine wm_goto dX3_slot_71 101 rfl ?_
          refine wm_ireturn dX3_slot_101 rfl ?_
          exact ⟨by rw [slotF, if_neg (fun h => h h3), if_neg c14, if_neg h29, if_pos (by omega)], rfl⟩
        ·
          refine wm_ifT dX3_slot_59 (by decide) 74 rfl ?_
          refine wm_iload_n dX3_slot_74 rfl ?_
          refine wm_bipush dX3_slot_75 (by decide) ?_
          refine wm_bipush dX3_slot_77 (by decide) ?_
          refine wm_iload_n dX3_slot_79 rfl ?_
          refine wm_iadd dX3_slot_80 ?_
          refine wm_calls dX3_slot_81 (kS3_57 rfl) (kSn3_57 rfl) (mc_in hy (by omega) (by omega)) (by omega) rfl rfl ?_
          rintro _ _ ⟨rfl, ⟨h81, rfl⟩ | ⟨h81, rfl⟩⟩
          ·
            refine wm_ifF dX3_slot_84 (by decide) 99 rfl ?_
            refine wm_aload_n dX3_slot_87 rfl ?_
            refine wm_iload_n dX3_slot_88 rfl ?_
            refine wm_iload_n dX3_slot_89 rfl ?_
            refine wm_bipush dX3_slot_90 (by decide) ?_
            refine wm_isub dX3_slot_92 ?_
            refine wm_callv dX3_slot_93 (kV3_92 rfl) rfl (mc_rowOf h3 (by omega) hs1.2) (by omega) rfl rfl ?_
            rintro _ _ ⟨rfl, rfl⟩
            refine wm_goto dX3_slot_96 101 rfl ?_
            refine wm_ireturn dX3_slot_101 rfl ?_
            exact ⟨by rw [slotF, if_neg (fun h => h h3), if_neg c14, if_neg h29, if_neg (by omega), if_pos (by omega)], rfl⟩
          ·
            refine wm_ifT dX3_slot_84 (by decide) 99 rfl ?_
            refine wm_bipush dX3_slot_99 (by decide) ?_
            refine wm_ireturn dX3_slot_101 rfl ?_
            exact ⟨by rw [slotF, if_neg (fun h => h h3), if_neg c14, if_neg h29, if_neg (by omega), if_neg (by omega)], rfl⟩
    ·
      refine wm_bipush dX3_slot_17 (by decide) ?_
      refine wm_ireturn dX3_slot_19 rfl ?_
      exact ⟨by rw [slotF, if_neg (fun h => h h3), if_pos (by omega)], rfl⟩
  ·
    refine wm_ifT dX3_slot_6 (by decide) 17 rfl ?_
    refine wm_bipush dX3_slot_17 (by decide) ?_
    refine wm_ireturn dX3_slot_19 rfl ?_
    exact ⟨by rw [slotF, if_pos h3], rfl⟩
theorem mc_cell_114 {C : Int} (hC : 300 ≤ C ∧ C < 1999999000) (hb : bdW C (τ.2 0)) (hd : 3 ≤ d) (hx : 0 ≤ x ∧ x < 120) : ∀ (k : Nat) (v a : Int), v + k = 4 → 0 ≤ v → Wm d rX3_cell 114 [some (.inr 1), some (.inl x), some (.inl y), some (.inl a), some (.inl v)] [] τ (fun r t => some (a + opnAF (τ.2 0) x k v) = r ∧ τ = t) := by
  have hr := hb.rng (by omega)
  intro k
  induction k with
  | zero =>
    intro v a hv h0
    refine wm_iload dX3_cell_114 rfl ?_
    refine wm_iconst dX3_cell_116 ?_
    refine wm_icmp dX3_cell_117 (cB_ge ⟨by omega, by omega⟩ ⟨by omega, by omega⟩) 156 rfl (fun c117 => ?_) (fun c117 => ?_)
    ·
      refine wm_iload_n dX3_cell_156 rfl ?_
      refine wm_ireturn dX3_cell_157 rfl ?_
      exact ⟨by rw [opnAF, Int.add_zero], rfl⟩
    ·
      omega
  | succ k ih =>
    intro v a hv h0
    have hbs := besF_rng x v
    have hgo : ∀ u, u = (if 0 ≤ besF x v ∧ ¬ τ.2 0 (72 + besF x v).toNat = 1 then (1 : Int) else 0) → Wm d rX3_cell 148 [some (.inr 1), some (.inl x), some (.inl y), some (.inl a), some (.inl v)] [.inl u, .inl a] τ (fun r t => some (a + opnAF (τ.2 0) x (k + 1) v) = r ∧ τ = t) := fun u hu => by
      refine wm_iadd dX3_cell_148 ?_
      refine wm_istore_n dX3_cell_149 rfl ?_
      refine wm_iinc dX3_cell_150 rfl ?_
      refine wm_goto dX3_cell_153 114 rfl ?_
      refine (ih (v + 1) _ (by omega) (by omega)).mono (fun r t h => ⟨?_, h.2⟩)
      rw [← h.1, opnAF, ← hu, Int.add_assoc]
    refine wm_iload dX3_cell_114 rfl ?_
    refine wm_iconst dX3_cell_116 ?_
    refine wm_icmp dX3_cell_117 (cB_ge ⟨by omega, by omega⟩ ⟨by omega, by omega⟩) 156 rfl (fun c117 => ?_) (fun c117 => ?_)
    ·
      omega
    ·
      refine wm_iload_n dX3_cell_120 rfl ?_
      refine wm_iload_n dX3_cell_121 rfl ?_
      refine wm_iload dX3_cell_122 rfl ?_
      refine wm_calls dX3_cell_124 (kS3_72 rfl) (kSn3_72 rfl) (mc_beside hx (by omega)) (by omega) rfl rfl ?_
      rintro _ _ ⟨rfl, rfl⟩
      refine wm_if dX3_cell_127 (cB_lt ⟨by omega, by omega⟩ ⟨by omega, by omega⟩) 147 rfl (fun c127 => ?_) (fun c127 => ?_)
      ·
        refine wm_iconst dX3_cell_147 ?_
        exact hgo _ (by rw [if_neg (by omega)])
      ·
        refine wm_aload_n dX3_cell_130 rfl ?_
        refine wm_iload_n dX3_cell_131 rfl ?_
        refine wm_iload dX3_cell_132 rfl ?_
        refine wm_calls dX3_cell_134 (kS3_72 rfl) (kSn3_72 rfl) (mc_beside hx (by omega)) (by omega) rfl rfl ?_
        rintro _ _ ⟨rfl, rfl⟩
        refine wm_callv dX3_cell_137 (kV3_69 rfl) rfl (mc_isBlocked (by omega) (hr _)) (by omega) rfl rfl ?_
        rintro _ _ ⟨rfl, ⟨h137, rfl⟩ | ⟨h137, rfl⟩⟩
        ·
          refine wm_ifT dX3_cell_140 (by decide) 147 rfl ?_
          refine wm_iconst dX3_cell_147 ?_
          exact hgo _ (by rw [if_neg (fun h => h.2 h137)])
        ·
          refine wm_ifF dX3_cell_140 (by decide) 147 rfl ?_
          refine wm_iconst dX3_cell_143 ?_
          refine wm_goto dX3_cell_144 148 rfl ?_
          exact hgo _ (by rw [if_pos ⟨by omega, h137⟩])
def cellF (w : Nat → Int) (x y : Int) : Int := if y = 0 then w (72 + x).toNat else if y = 1 then (if onF w x < 0 then -5 else onF w x) else if y = 2 then sltAtF w x (sltF w (w 3)).toNat 0 else
  if y = 3 then (if ledF w < 0 then -5 else dstF w (celF w (ledF w)) x) else opnAF w x 4 0
theorem mc_cell {C : Int} (hx : rng x) (hy : rng y) (hC : 300 ≤ C ∧ C < 1999999000) (hb : bdW C (τ.2 0)) (hS : WS (τ.2 0)) : Mt 5 rX3_cell [.inr 1, .inl x, .inl y] τ (fun v t => (¬ ((0 ≤ x ∧ x ≤ 119) ∧ 0 ≤ y ∧ y ≤ 4) ∧ some (-1) = v ∧ τ = t) ∨ (((0 ≤ x ∧ x ≤ 119) ∧ 0 ≤ y ∧ y ≤ 4) ∧ some (cellF (τ.2 0) x y) = v ∧ (τ = t ∨ ∃ q, t = flR τ 1200 (bfsF (blkF (τ.2 0)) x) q))) := by
  intro d hd
  have hr := hb.rng (by omega)
  have hlr := ledF_rng (τ.2 0) hS.1.2
  have hon := onF_rng (τ.2 0) x
  refine wm_iload_n dX3_cell_0 rfl ?_
  refine wm_calls dX3_cell_1 (kS3_166 rfl) (kSn3_166 rfl) (mc_isCell hx) (by omega) rfl rfl ?_
  rintro _ _ ⟨rfl, ⟨h1, rfl⟩ | ⟨h1, rfl⟩⟩
  ·
    refine wm_ifF dX3_cell_4 (by decide) 16 rfl ?_
    refine wm_iload_n dX3_cell_7 rfl ?_
    refine wm_iconst dX3_cell_8 ?_
    refine wm_iconst dX3_cell_9 ?_
    refine wm_calls dX3_cell_10 (kS3_57 rfl) (kSn3_57 rfl) (mc_in hy (by omega) (by omega)) (by omega) rfl rfl ?_
    rintro _ _ ⟨rfl, ⟨h10, rfl⟩ | ⟨h10, rfl⟩⟩
    ·
      refine wm_ifT dX3_cell_13 (by decide) 18 rfl ?_
      refine wm_iload_n dX3_cell_18 rfl ?_
      refine wm_if dX3_cell_19 (cB_ne ⟨by omega, by omega⟩ ⟨by omega, by omega⟩) 32 rfl (fun c19 => ?_) (fun c19 => ?_)
      ·
        refine wm_iload_n dX3_cell_32 rfl ?_
        refine wm_iconst dX3_cell_33 ?_
        refine wm_icmp dX3_cell_34 (cB_ne ⟨by omega, by omega⟩ ⟨by omega, by omega⟩) 56 rfl (fun c34 => ?_) (fun c34 => ?_)
        ·
          refine wm_iload_n dX3_cell_56 rfl ?_
          refine wm_iconst dX3_cell_57 ?_
          refine wm_icmp dX3_cell_58 (cB_ne ⟨by omega, by omega⟩ ⟨by omega, by omega⟩) 67 rfl (fun c58 => ?_) (fun c58 => ?_)
          ·
            refine wm_iload_n dX3_cell_67 rfl ?_
            refine wm_iconst dX3_cell_68 ?_
            refine wm_icmp dX3_cell_69 (cB_ne ⟨by omega, by omega⟩ ⟨by omega, by omega⟩) 109 rfl (fun c69 => ?_) (fun c69 => ?_)
            ·
              refine wm_iconst dX3_cell_109 ?_
              refine wm_istore_n dX3_cell_110 rfl ?_
              refine wm_iconst dX3_cell_111 ?_
              refine wm_istore dX3_cell_112 rfl ?_
              refine (mc_cell_114 hC hb (by omega) (by omega) 4 0 0 (by omega) (by omega)).mono (fun v t h => Or.inr ⟨⟨h1, h10⟩, ?_, Or.inl h.2⟩)
              rw [← h.1, cellF, if_neg (by omega), if_neg (by omega), if_neg (by omega), if_neg (by omega), Int.zero_add]
            ·
              refine wm_aload_n dX3_cell_72 rfl ?_
              refine wm_callv dX3_cell_73 (kV3_85 rfl) rfl (mc_leader hS.1 hr) (by omega) rfl rfl ?_
              rintro _ _ ⟨rfl, rfl⟩
              refine wm_if dX3_cell_76 (cB_ge ⟨by omega, by omega⟩ ⟨by omega, by omega⟩) 83 rfl (fun c76 => ?_) (fun c76 => ?_)
              ·
                refine wm_aload_n dX3_cell_83 rfl ?_
                refine wm_aload_n dX3_cell_84 rfl ?_
                refine wm_aload_n dX3_cell_85 rfl ?_
                refine wm_callv dX3_cell_86 (kV3_85 rfl) rfl (mc_leader hS.1 hr) (by omega) rfl rfl ?_
                rintro _ _ ⟨rfl, rfl⟩
                refine wm_iconst dX3_cell_89 ?_
                refine wm_callv dX3_cell_90 (kV3_61 rfl) rfl (mc_of (by omega)) (by omega) rfl rfl ?_
                rintro _ _ ⟨rfl, rfl⟩
                refine wm_iload_n dX3_cell_93 rfl ?_
                refine wm_callv dX3_cell_94 (kV3_216 rfl) rfl (mc_distanceOf (x := celF (τ.2 0) (ledF (τ.2 0))) ⟨(hlr.2.2 (by omega)).2, hS.lt _ (by omega) hlr.2.1⟩ (by omega) hr) (by omega) rfl rfl ?_
                rintro _ _ ⟨rfl, q, rfl⟩
                have hbr := bfsF_rng (blkF (τ.2 0)) (c := x) (by omega) (celF (τ.2 0) (ledF (τ.2 0)))
                refine wm_istore_n dX3_cell_97 rfl ?_
                refine wm_iload_n dX3_cell_98 rfl ?_
                refine wm_if dX3_cell_99 (cB_ge ⟨by omega, by omega⟩ ⟨by omega, by omega⟩) 107 rfl (fun c99 => ?_) (fun c99 => ?_)
                ·
                  refine wm_iload_n dX3_cell_107 rfl ?_
                  refine wm_ireturn dX3_cell_108 rfl ?_
                  exact Or.inr ⟨⟨h1, h10⟩, by rw [cellF, if_neg (by omega), if_neg (by omega), if_neg (by omega), if_pos (by omega), if_neg (by omega), dstF, if_neg (by omega)], Or.inr ⟨q, rfl⟩⟩
                ·
                  refine wm_bipush dX3_cell_102 (by decide) ?_
                  refine wm_goto dX3_cell_104 108 rfl ?_
                  refine wm_ireturn dX3_cell_108 rfl ?_
                  exact Or.inr ⟨⟨h1, h10⟩, by rw [cellF, if_neg (by omega), if_neg (by omega), if_neg (by omega), if_pos (by omega), if_neg (by omega), dstF, if_pos (by omega)], Or.inr ⟨q, rfl⟩⟩
              ·
                refine wm_iconst dX3_cell_79 ?_
                refine wm_goto dX3_cell_80 97 rfl ?_
                refine wm_istore_n dX3_cell_97 rfl ?_
                refine wm_iload_n dX3_cell_98 rfl ?_
                refine wm_if dX3_cell_99 (cB_ge ⟨by omega, by omega⟩ ⟨by omega, by omega⟩) 107 rfl (fun c99 => ?_) (fun c99 => ?_)
                ·
                  exact absurd c99 (by decide)
                ·
                  refine wm_bipush dX3_cell_102 (by decide) ?_
                  refine wm_goto dX3_cell_104 108 rfl ?_
                  refine wm_ireturn dX3_cell_108 rfl ?_
                  exact Or.inr ⟨⟨h1, h10⟩, by rw [cellF, if_neg (by omega), if_neg (by omega), if_neg (by omega), if_pos (by omega), if_pos (by omega)], Or.inl rfl⟩
          ·
            refine wm_aload_n dX3_cell_61 rfl ?_
            refine wm_iload_n dX3_cell_62 rfl ?_
            refine wm_callv dX3_cell_63 (kV3_213 rfl) rfl (mc_slotAt hC hb hS hx) (by omega) rfl rfl ?_
            rintro _ _ ⟨rfl, rfl⟩
            refine wm_ireturn dX3_cell_66 rfl ?_
            exact Or.inr ⟨⟨h1, h10⟩, by rw [cellF, if_neg (by omega), if_neg (by omega), if_pos (by omega)], Or.inl rfl⟩
        ·
          refine wm_aload_n dX3_cell_37 rfl ?_
          refine wm_iload_n dX3_cell_38 rfl ?_
          refine wm_callv dX3_cell_39 (kV3_121 rfl) rfl (mc_on hx hS.1 hr) (by omega) rfl rfl ?_
          rintro _ _ ⟨rfl, rfl⟩
          refine wm_if dX3_cell_42 (cB_ge ⟨by omega, by omega⟩ ⟨by omega, by omega⟩) 50 rfl (fun c42 => ?_) (fun c42 => ?_)
          ·
            refine wm_aload_n dX3_cell_50 rfl ?_
            refine wm_iload_n dX3_cell_51 rfl ?_
            refine wm_callv dX3_cell_52 (kV3_121 rfl) rfl (mc_on hx hS.1 hr) (by omega) rfl rfl ?_
            rintro _ _ ⟨rfl, rfl⟩
            refine wm_ireturn dX3_cell_55 rfl ?_
            exact Or.inr ⟨⟨h1, h10⟩, by rw [cellF, if_neg (by omega), if_pos (by omega), if_neg (by omega)], Or.inl rfl⟩
          ·
            refine wm_bipush dX3_cell_45 (by decide) ?_
            refine wm_goto dX3_cell_47 55 rfl ?_
            refine wm_ireturn dX3_cell_55 rfl ?_
            exact Or.inr ⟨⟨h1, h10⟩, by rw [cellF, if_neg (by omega), if_pos (by omega), if_pos (by omega)], Or.inl rfl⟩
      ·
        refine wm_aload_n dX3_cell_22 rfl ?_
        refine wm_getA dX3_cell_23 (kF3_9 rfl) rfl ?_
        refine wm_bipush dX3_cell_26 (by decide) ?_
        refine wm_iload_n dX3_cell_28 rfl ?_
        refine wm_iadd dX3_cell_29 ?_
        refine wm_iaload dX3_cell_30 rfl ⟨by omega, by omega⟩ _ rfl ?_
        refine wm_ireturn dX3_cell_31 rfl ?_
        exact Or.inr ⟨⟨h1, h10⟩, by rw [cellF, if_pos (by omega)], Or.inl rfl⟩
    ·
      refine wm_ifF dX3_cell_13 (by decide) 18 rfl ?_
      refine wm_iconst dX3_cell_16 ?_
      refine wm_ireturn dX3_cell_17 rfl ?_
      exact Or.inl ⟨fun h => h10 h.2, rfl, rfl⟩
  ·
    refine wm_ifT dX3_cell_4 (by decide) 16 rfl ?_
    refine wm_iconst dX3_cell_16 ?_
    refine wm_ireturn dX3_cell_17 rfl ?_
    exact Or.inl ⟨fun h => h1 h.1, rfl, rfl⟩
end M15
