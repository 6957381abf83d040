/-! THE CLASS'S METHODS, 53: shapes, count, refusal, slot -/
set_option maxRecDepth 100000
section QCNT
variable {T : Nat → Option CK} {w w' : Nat → Int} {R : Nat → Nat → Int} {τ t u : CT} {m c v C x y e : Int} {d n i j k a b s pc : Nat} {Q : Option AV → CT → Prop} {M : MRec} {ls : AL} {st : List AV}
theorem wc_shl0 {Q : CO → CT → Prop} (hd : decode (rC M) pc = .ok (.ishl, 1)) (K : Wc T d M (pc + 1) ls (.inl 0 :: st) τ Q) : Wc T d M pc ls (.inl e :: .inl 0 :: st) τ Q := wc_bits (f := fun x y => x <<< (y &&& 31)) hd rfl (fun _ _ _ => rfl) (by
  have h : (cI 0 <<< (cI e &&& 31)).toInt = 0 := by
    rw [show cI 0 = 0 by decide, Int32.zero_shiftLeft]
    rfl
  rw [h]
  exact K)
theorem cc_shapes_4 (h : SI w C t) (hd : 1 ≤ d) : ∀ (n : Nat) (x A : Int), x + n = 3 → 0 ≤ x → 0 ≤ A ∧ A < 1024 → Wc kap d rX0_shapes 4 [some (.inr 10), some (.inl A), some (.inl x)] [] t (nQ (fun v u => some (.inl (shsF w n x A)) = v ∧ t = u)) := by
  intro n
  induction n with
  | zero =>
    intro x A hx h0 hA
    refine wc_iload_n dX0_shapes_4 rfl ?_
    refine wc_iconst dX0_shapes_5 ?_
    refine wc_icmp dX0_shapes_6 (cB_ge ⟨by omega, by omega⟩ ⟨by omega, by omega⟩) 40 rfl (fun c6 => ?_) (fun c6 => ?_)
    ·
      refine wc_iload_n dX0_shapes_40 rfl ?_
      refine wc_ireturn dX0_shapes_41 rfl ?_
      exact ⟨rfl, rfl⟩
    ·
      omega
  | succ n ih =>
    intro x A hx h0 hA
    have hS := h.1.2.2 x h0 (by omega)
    by_cases q : 0 < sltF w x
    · have hy := (hS.1 q).1
      have hA2 := (b_rng hA (s := x) ⟨h0, by omega⟩).2.1
      refine wc_iload_n dX0_shapes_4 rfl ?_
      refine wc_iconst dX0_shapes_5 ?_
      refine wc_icmp dX0_shapes_6 (cB_ge ⟨by omega, by omega⟩ ⟨by omega, by omega⟩) 40 rfl (fun c6 => ?_) (fun c6 => ?_)
      ·
        omega
      ·
        refine wc_iload_n dX0_shapes_9 rfl ?_
        refine wc_aload_n dX0_shapes_10 rfl ?_
        refine wc_getC dX0_shapes_11 (kF0_19 rfl) rfl rfl ?_
        refine wc_getC dX0_shapes_14 (kF0_59 rfl) rfl rfl ?_
        refine wc_iload_n dX0_shapes_17 rfl ?_
        refine wc_aaload dX0_shapes_18 rfl rfl rfl ⟨by omega, by omega⟩ rfl ?_
        refine wc_ifnull dX0_shapes_19 (Or.inr (by rw [kd_dyn (by omega) hy.2.2]; rfl)) 26 rfl (fun c19 => ?_) (fun c19 => ?_)
        ·
          exact absurd c19 (by omega)
        ·
          refine wc_iconst dX0_shapes_22 ?_
          refine wc_goto dX0_shapes_23 27 rfl ?_
          refine wc_call dX0_shapes_27 rfl (cc_bit (Or.inr rfl)) (by omega) (hx_S (kS0_112 rfl) (kSn0_112 rfl) rfl rfl) ?_
          rintro _ _ ⟨rfl, rfl⟩
          refine wc_iload_n dX0_shapes_30 rfl ?_
          refine wc_shl1 dX0_shapes_31 ⟨by omega, by omega⟩ ?_
          refine wc_or1 dX0_shapes_32 hA ⟨by omega, by omega⟩ ?_
          refine wc_istore_n dX0_shapes_33 rfl ?_
          refine wc_iinc dX0_shapes_34 rfl ?_
          refine wc_goto dX0_shapes_37 4 rfl ?_
          have := ih (x + 1) (setF A x) (by omega) (by omega) hA2
          rw [shsF, if_neg (by omega)]
          exact this
    · have hy := hS.2 q
      refine wc_iload_n dX0_shapes_4 rfl ?_
      refine wc_iconst dX0_shapes_5 ?_
      refine wc_icmp dX0_shapes_6 (cB_ge ⟨by omega, by omega⟩ ⟨by omega, by omega⟩) 40 rfl (fun c6 => ?_) (fun c6 => ?_)
      ·
        omega
      ·
        refine wc_iload_n dX0_shapes_9 rfl ?_
        refine wc_aload_n dX0_shapes_10 rfl ?_
        refine wc_getC dX0_shapes_11 (kF0_19 rfl) rfl rfl ?_
        refine wc_getC dX0_shapes_14 (kF0_59 rfl) rfl rfl ?_
        refine wc_iload_n dX0_shapes_17 rfl ?_
        refine wc_aaload dX0_shapes_18 rfl rfl rfl ⟨by omega, by omega⟩ rfl ?_
        refine wc_ifnull dX0_shapes_19 (Or.inl (by rw [hy]; rfl)) 26 rfl (fun c19 => ?_) (fun c19 => ?_)
        ·
          refine wc_iconst dX0_shapes_26 ?_
          refine wc_call dX0_shapes_27 rfl (cc_bit (Or.inl rfl)) (by omega) (hx_S (kS0_112 rfl) (kSn0_112 rfl) rfl rfl) ?_
          rintro _ _ ⟨rfl, rfl⟩
          refine wc_iload_n dX0_shapes_30 rfl ?_
          refine wc_shl0 dX0_shapes_31 ?_
          refine wc_or0 dX0_shapes_32 (by omega) ?_
          refine wc_istore_n dX0_shapes_33 rfl ?_
          refine wc_iinc dX0_shapes_34 rfl ?_
          refine wc_goto dX0_shapes_37 4 rfl ?_
          have := ih (x + 1) A (by omega) (by omega) hA
          rw [shsF, if_pos (by omega)]
          exact this
        ·
          exact absurd (show (sg t 104 x.toNat).toNat = 0 by rw [hy]; rfl) c19
theorem cc_shapes (h : SI w C t) : Cf kap 1 rX0_shapes [.inr 10] t (some (.inl (shsF w 3 0 0))) t := by
  intro d hd
  refine wc_iconst dX0_shapes_0 ?_
  refine wc_istore_n dX0_shapes_1 rfl ?_
  refine wc_iconst dX0_shapes_2 ?_
  refine wc_istore_n dX0_shapes_3 rfl ?_
  exact (cc_shapes_4 h hd 3 0 0 (by omega) (by omega) (by omega)).mn (fun v u q => q)
theorem cc_count (h : SI w C t) (hK : Kp R s t) (hx : rng x) (hT : rng (sg t 10 14)) : Cf kap 2 rX0_count [.inr 10, .inl x] t (some (.inl (if ¬ (0 ≤ x ∧ x ≤ 2) then -1 else if x = 0 then sg t 10 14 else if x = 1 then (s : Int) else shsF w 3 0 0))) t := by
  intro d hd
  obtain ⟨x', n, f, e, hX⟩ := hK
  refine wc_iload_n dX0_count_0 rfl ?_
  refine wc_if dX0_count_1 (cB_ne ⟨by omega, by omega⟩ ⟨by omega, by omega⟩) 11 rfl (fun c1 => ?_) (fun c1 => ?_)
  ·
    refine wc_iload_n dX0_count_11 rfl ?_
    refine wc_iconst dX0_count_12 ?_
    refine wc_icmp dX0_count_13 (cB_ne ⟨by omega, by omega⟩ ⟨by omega, by omega⟩) 26 rfl (fun c13 => ?_) (fun c13 => ?_)
    ·
      refine wc_iload_n dX0_count_26 rfl ?_
      refine wc_iconst dX0_count_27 ?_
      refine wc_icmp dX0_count_28 (cB_ne ⟨by omega, by omega⟩ ⟨by omega, by omega⟩) 38 rfl (fun c28 => ?_) (fun c28 => ?_)
      ·
        refine wc_iconst dX0_count_38 ?_
        refine wc_ireturn dX0_count_39 rfl ?_
        exact ⟨by rw [if_pos (by omega)], rfl⟩
      ·
        refine wc_aload_n dX0_count_31 rfl ?_
        refine wc_call dX0_count_32 rfl (cc_shapes h) (by omega) (hx_V (kV0_424 rfl) rfl rfl rfl rfl) ?_
        rintro _ _ ⟨rfl, rfl⟩
        refine wc_goto dX0_count_35 39 rfl ?_
        refine wc_ireturn dX0_count_39 rfl ?_
        exact ⟨by rw [if_neg (by omega), if_neg (by omega), if_neg (by omega)], rfl⟩
    ·
      refine wc_aload_n dX0_count_16 rfl ?_
      refine wc_getC dX0_count_17 (kF0_259 rfl) rfl rfl ?_
      refine wc_call dX0_count_20 rfl ((cc_size2 hX.1.1)) (by omega) (hx_V (kV0_233 rfl) rfl rfl rfl rfl) ?_
      rintro _ _ ⟨rfl, rfl⟩
      refine wc_goto dX0_count_23 39 rfl ?_
      refine wc_ireturn dX0_count_39 rfl ?_
      exact ⟨by rw [if_neg (by omega), if_neg (by omega), if_pos (by omega)], rfl⟩
  ·
    refine wc_aload_n dX0_count_4 rfl ?_
    refine wc_getI dX0_count_5 (kF0_322 rfl) rfl rfl ?_
    refine wc_goto dX0_count_8 39 rfl ?_
    refine wc_ireturn dX0_count_39 rfl ?_
    exact ⟨by rw [if_neg (by omega), if_pos (by omega)], rfl⟩
theorem cc_refusal (hx : rng x) : Cf kap 0 rX0_refusal [.inr 10, .inl x] t (some (.inl (if x = 0 then sg t 10 16 else if x = 1 then sg t 10 17 else -1))) t := by
  intro d hd
  refine wc_iload_n dX0_refusal_0 rfl ?_
  refine wc_if dX0_refusal_1 (cB_ne ⟨by omega, by omega⟩ ⟨by omega, by omega⟩) 11 rfl (fun c1 => ?_) (fun c1 => ?_)
  ·
    refine wc_iload_n dX0_refusal_11 rfl ?_
    refine wc_iconst dX0_refusal_12 ?_
    refine wc_icmp dX0_refusal_13 (cB_ne ⟨by omega, by omega⟩ ⟨by omega, by omega⟩) 23 rfl (fun c13 => ?_) (fun c13 => ?_)
    ·
      refine wc_iconst dX0_refusal_23 ?_
      refine wc_ireturn dX0_refusal_24 rfl ?_
      exact ⟨by rw [if_neg (by omega), if_neg (by omega)], rfl⟩
    ·
      refine wc_aload_n dX0_refusal_16 rfl ?_
      refine wc_getI dX0_refusal_17 (kF0_272 rfl) rfl rfl ?_
      refine wc_goto dX0_refusal_20 24 rfl ?_
      refine wc_ireturn dX0_refusal_24 rfl ?_
      exact ⟨by rw [if_neg (by omega), if_pos (by omega)], rfl⟩
  ·
    refine wc_aload_n dX0_refusal_4 rfl ?_
    refine wc_getI dX0_refusal_5 (kF0_269 rfl) rfl rfl ?_
    refine wc_goto dX0_refusal_8 24 rfl ?_
    refine wc_ireturn dX0_refusal_24 rfl ?_
    exact ⟨by rw [if_pos (by omega)], rfl⟩
/-- a shape's cells, as a walk wants them -/
theorem sh_kds {z : Nat} (hA : ShC t w x z) : kd kap t z = some shK ∧ kd kap t (sg t z 0).toNat = some (ckI 0 (sltF w x).toNat) ∧ kd kap t (sg t z 1).toNat = some (ckI 0 (sltF w x).toNat) :=
  ⟨kd_dyn (by have := hA.1; omega) hA.1.2.2, kd_dyn (by have := hA.2.2.1; omega) hA.2.2.1.2.2, kd_dyn (by have := hA.2.2.2.1; omega) hA.2.2.2.1.2.2⟩
theorem cc_told {z : Nat} (hA : ShC t w x z) (hx : 0 ≤ x ∧ x ≤ 2) (hs : 0 < sltF w x ∧ sltF w x ≤ 10) (hy : rng y) : Cf kap 1 rX7_told [.inr z, .inl y] t (some (.inl (slotF w x y))) t := by
  intro d hd
  obtain ⟨kS, k0, k1⟩ := sh_kds hA
  have hnn : decide ((sltF w x).toNat ≤ 100000) = true := decide_eq_true (by omega)
  have hcr := hA.2.2.2.2
  have e0 : ((sltF w x).toNat : Int) = sltF w x := by omega
  have eT : slotF w x y = if 0 ≤ y ∧ y ≤ 1 then (if y = 0 then sltF w x else ancF w x) else if 10 ≤ y ∧ y ≤ 9 + sltF w x then colF w x (y - 10) else if 30 ≤ y ∧ y ≤ 29 + sltF w x then rowF w x (y - 30) else -100 := by
    unfold slotF
    rw [if_neg (fun q => q hx), if_neg (by omega)]
  rw [eT]
  refine wc_iload_n dX7_told_0 rfl ?_
  refine wc_if dX7_told_1 (cB_ne ⟨by omega, by omega⟩ ⟨by omega, by omega⟩) 9 rfl (fun c1 => ?_) (fun c1 => ?_)
  ·
    refine wc_iload_n dX7_told_9 rfl ?_
    refine wc_iconst dX7_told_10 ?_
    refine wc_icmp dX7_told_11 (cB_ne ⟨by omega, by omega⟩ ⟨by omega, by omega⟩) 19 rfl (fun c11 => ?_) (fun c11 => ?_)
    ·
      refine wc_iload_n dX7_told_19 rfl ?_
      refine wc_bipush dX7_told_20 (by decide) ?_
      refine wc_bipush dX7_told_22 (by decide) ?_
      refine wc_aload_n dX7_told_24 rfl ?_
      refine wc_call dX7_told_25 rfl (cc_size kS rfl k0) (by omega) (hx_V (kV7_25 rfl) rfl kS rfl rfl) ?_
      rintro _ _ ⟨rfl, rfl⟩
      refine wc_iadd dX7_told_28 ?_
      refine wc_call dX7_told_29 rfl (cc_in hy (by omega) (by omega)) (by omega) (hx_S (kS7_29 rfl) (kSn7_29 rfl) rfl rfl) ?_
      rintro _ _ ⟨rfl, ⟨h29, rfl⟩ | ⟨h29, rfl⟩⟩
      ·
        refine wc_ifF dX7_told_32 (by decide) 45 rfl ?_
        refine wc_aload_n dX7_told_35 rfl ?_
        refine wc_getR dX7_told_36 (kF7_9 rfl) kS rfl rfl ?_
        refine wc_iload_n dX7_told_39 rfl ?_
        refine wc_bipush dX7_told_40 (by decide) ?_
        refine wc_isub dX7_told_42 ?_
        refine wc_iaload dX7_told_43 k0 rfl hnn ⟨by omega, by omega⟩ _ rfl ?_
        rw [(hcr (y - 10) (by omega) (by omega)).1]
        refine wc_ireturn dX7_told_44 rfl ?_
        refine ⟨?_, rfl⟩
        rw [if_neg (by omega), if_pos (by omega)]
      ·
        refine wc_ifT dX7_told_32 (by decide) 45 rfl ?_
        refine wc_iload_n dX7_told_45 rfl ?_
        refine wc_bipush dX7_told_46 (by decide) ?_
        refine wc_bipush dX7_told_48 (by decide) ?_
        refine wc_aload_n dX7_told_50 rfl ?_
        refine wc_call dX7_told_51 rfl (cc_size kS rfl k0) (by omega) (hx_V (kV7_25 rfl) rfl kS rfl rfl) ?_
        rintro _ _ ⟨rfl, rfl⟩
        refine wc_iadd dX7_told_54 ?_
        refine wc_call dX7_told_55 rfl (cc_in hy (by omega) (by omega)) (by omega) (hx_S (kS7_29 rfl) (kSn7_29 rfl) rfl rfl) ?_
        rintro _ _ ⟨rfl, ⟨h55, rfl⟩ | ⟨h55, rfl⟩⟩
        ·
          refine wc_ifF dX7_told_58 (by decide) 73 rfl ?_
          refine wc_aload_n dX7_told_61 rfl ?_
          refine wc_getR dX7_told_62 (kF7_15 rfl) kS rfl rfl ?_
          refine wc_iload_n dX7_told_65 rfl ?_
          refine wc_bipush dX7_told_66 (by decide) ?_
          refine wc_isub dX7_told_68 ?_
          refine wc_iaload dX7_told_69 k1 rfl hnn ⟨by omega, by omega⟩ _ rfl ?_
          rw [(hcr (y - 30) (by omega) (by omega)).2]
          refine wc_goto dX7_told_70 75 rfl ?_
          refine wc_ireturn dX7_told_75 rfl ?_
          refine ⟨?_, rfl⟩
          rw [if_neg (by omega), if_neg (by omega), if_pos (by omega)]
        ·
          refine wc_ifT dX7_told_58 (by decide) 73 rfl ?_
          refine wc_bipush dX7_told_73 (by decide) ?_
          refine wc_ireturn dX7_told_75 rfl ?_
          refine ⟨?_, rfl⟩
          rw [if_neg (by omega), if_neg (by omega), if_neg (by omega)]
    ·
      refine wc_aload_n dX7_told_14 rfl ?_
      refine wc_getI dX7_told_15 (kF7_18 rfl) kS rfl ?_
      rw [hA.2.1.1]
      refine wc_ireturn dX7_told_18 rfl ?_
      refine ⟨?_, rfl⟩
      rw [if_pos (by omega), if_neg (by omega)]
  ·
    refine wc_aload_n dX7_told_4 rfl ?_
    refine wc_call dX7_told_5 rfl (cc_size kS rfl k0) (by omega) (hx_V (kV7_25 rfl) rfl kS rfl rfl) ?_
    rintro _ _ ⟨rfl, rfl⟩
    refine wc_ireturn dX7_told_8 rfl ?_
    refine ⟨?_, rfl⟩
    rw [if_pos (by omega), if_pos (by omega), e0]
theorem cc_slot (h : SI w C t) (hx : rng x) (hy : rng y) : Cf kap 2 rX0_slot [.inr 10, .inl x, .inl y] t (some (.inl (slotF w x y))) t := by
  intro d hd
  have hS := h.1.2.2
  have hh := h.2.2.2.1
  refine wc_aload_n dX0_slot_0 rfl ?_
  refine wc_iload_n dX0_slot_1 rfl ?_
  refine wc_call dX0_slot_2 rfl (cc_isShape h hx) (by omega) (hx_V (kV0_383 rfl) rfl rfl rfl rfl) ?_
  rintro _ _ ⟨rfl, ⟨h2, rfl⟩ | ⟨h2, rfl⟩⟩
  ·
    refine wc_ifF dX0_slot_5 (by decide) 24 rfl ?_
    refine wc_aload_n dX0_slot_8 rfl ?_
    refine wc_getC dX0_slot_9 (kF0_19 rfl) rfl rfl ?_
    refine wc_getC dX0_slot_12 (kF0_59 rfl) rfl rfl ?_
    refine wc_iload_n dX0_slot_15 rfl ?_
    refine wc_aaload (y := (sg t 104 x.toNat).toNat) dX0_slot_16 rfl rfl rfl ⟨by omega, by omega⟩ rfl ?_
    refine wc_iload_n dX0_slot_17 rfl ?_
    refine wc_call dX0_slot_18 rfl (cc_told (z := (sg t 104 x.toNat).toNat) ((hS x h2.1.1 (by omega)).1 h2.2) h2.1 ⟨h2.2, (hh x h2.1.1 h2.1.2).1.2⟩ hy) (by omega) (hx_V (kV0_386 rfl) rfl (sh_kds ((hS x h2.1.1 (by omega)).1 h2.2)).1 rfl rfl) ?_
    rintro _ _ ⟨rfl, rfl⟩
    refine wc_goto dX0_slot_21 26 rfl ?_
    refine wc_ireturn dX0_slot_26 rfl ?_
    exact ⟨rfl, rfl⟩
  ·
    refine wc_ifT dX0_slot_5 (by decide) 24 rfl ?_
    refine wc_bipush dX0_slot_24 (by decide) ?_
    refine wc_ireturn dX0_slot_26 rfl ?_
    refine ⟨?_, rfl⟩
    unfold slotF
    by_cases q : 0 ≤ x ∧ x ≤ 2
    · rw [if_neg (fun r => r q), if_pos]
      have := (hh x q.1 q.2).1
      by_cases q2 : 0 < sltF w x
      · exact absurd ⟨q, q2⟩ h2
      · omega
    · rw [if_pos q]
end QCNT
