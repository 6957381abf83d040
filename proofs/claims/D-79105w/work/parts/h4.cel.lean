/-! THE CLASS'S METHODS, 52: slotAt, openAround, cell -/
set_option maxRecDepth 100000
section QCEL
variable {w w' : Nat → Int} {R : Nat → Nat → Int} {τ t u : CT} {m c v C x y : Int} {d n i j k a b s : Nat} {Q : Option AV → CT → Prop}
theorem slt_none {p : Int → Bool} : ∀ (k : Nat) (s : Int), (∀ e, s ≤ e → e < s + k → p e = false) → fstI p k s = -1 := by
  intro k
  induction k with
  | zero => intro s _; rfl
  | succ k ih =>
    intro s h
    unfold fstI
    rw [if_neg (by rw [h s (Int.le_refl _) (by omega)]; decide)]
    exact ih (s + 1) (fun e a b => h e (by omega) (by omega))
theorem slt_no (hp : ∀ e, 0 ≤ e → ¬ plcF w e = c) : sltAtF w c k 0 = -5 := by
  have : fstI (fun s => decide (plcF w s = c)) k 0 = -1 := slt_none k 0 (fun e a b => decide_eq_false (hp e a))
  unfold sltAtF
  rw [this]
  rfl
theorem plc_bl (hc : 0 ≤ c) (hb : w (72 + c).toNat = 1) (e : Int) : ¬ plcF w e = c := fun q => by
  by_cases hl : ledF w < 0
  · unfold plcF at q
    rw [if_pos hl] at q
    omega
  · rw [plcF_of (by omega)] at q
    unfold plOf at q
    split at q
    · rename_i r
      rw [q] at r
      exact r.2 hb
    · omega
theorem cc_slotAt_50 {z : Nat} (h : SI w C t) (hl : 0 ≤ ledF w) (hc : 0 ≤ c ∧ c < 120) (hb : ¬ w (72 + c).toNat = 1) (hz : (sg t 104 (w 3).toNat).toNat = z) (hsl : 0 < sltF w (w 3)) (hd : 3 ≤ d) : ∀ (n : Nat) (s : Int), s + n = sltF w (w 3) → 0 ≤ s → Wc kap d rX0_slotAt 50 [some (.inr 10), some (.inl c), some (.inl (ledF w)), some (.inr z), some (.inl s)] [] t (nQ (fun v u => some (.inl (if fstI (fun s => decide (plcF w s = c)) n s < 0 then -5 else fstI (fun s => decide (plcF w s = c)) n s)) = v ∧ t = u)) := by
  have hS := h.2.2.1
  have hlr := ledF_rng w hS.1.2
  have hml := hlr.2.2 hl
  have hM := h.1.1.mem hS.1.2 hml
  have hkM := hM.kd (T := kap)
  have hcel : 0 ≤ celF w (ledF w) ∧ celF w (ledF w) < 120 := ⟨hml.2, (hS.2.2.1 (ledF w) hl hlr.2.1).2⟩
  have h3 := hS.2.1
  have h4 := hS.2.2.2.1
  have hA := (h.1.2.2 (w 3) (by omega) (by omega)).1 hsl
  rw [hz] at hA
  have kS : kd kap t z = some shK := kd_dyn (by have := hA.1; omega) hA.1.2.2
  have k0 : kd kap t (sg t z 0).toNat = some (ckI 0 (sltF w (w 3)).toNat) := kd_dyn (by have := hA.2.2.1; omega) hA.2.2.1.2.2
  have k1 : kd kap t (sg t z 1).toNat = some (ckI 0 (sltF w (w 3)).toNat) := kd_dyn (by have := hA.2.2.2.1; omega) hA.2.2.2.1.2.2
  have hnn : decide ((sltF w (w 3)).toNat ≤ 100000) = true := decide_eq_true (by omega)
  intro n
  induction n with
  | zero =>
    intro s hs h0
    refine wc_iload dX0_slotAt_50 rfl ?_
    refine wc_aload_n dX0_slotAt_52 rfl ?_
    refine wc_call dX0_slotAt_53 rfl (cc_size kS rfl k0) (by omega) (hx_V (kV0_66 rfl) rfl kS rfl rfl) ?_
    rintro _ _ ⟨rfl, rfl⟩
    refine wc_icmp dX0_slotAt_56 (cB_ge (show rng _ by omega) (show rng _ by omega)) 101 rfl (fun c56 => ?_) (fun c56 => ?_)
    ·
      refine wc_bipush dX0_slotAt_101 (by decide) ?_
      refine wc_ireturn dX0_slotAt_103 rfl ?_
      exact ⟨rfl, rfl⟩
    ·
      omega
  | succ n ih =>
    intro s hs h0
    have hcr := hA.2.2.2.2 s h0 (by omega)
    have hcb := hS.2.2.2.2.2.1 s h0 (by omega)
    have hx := xyF_rng (celF w (ledF w) % 12 + colF w (w 3) s) (celF w (ledF w) / 12 + rowF w (w 3) s)
    have hpl : plcF w s = c ↔ xyF (celF w (ledF w) % 12 + colF w (w 3) s) (celF w (ledF w) / 12 + rowF w (w 3) s) = c := by
      rw [plcF_of hl]
      unfold plOf
      constructor
      · intro q
        split at q
        · exact q
        · omega
      · intro q
        rw [q, if_pos ⟨hc.1, hb⟩]
    refine wc_iload dX0_slotAt_50 rfl ?_
    refine wc_aload_n dX0_slotAt_52 rfl ?_
    refine wc_call dX0_slotAt_53 rfl (cc_size kS rfl k0) (by omega) (hx_V (kV0_66 rfl) rfl kS rfl rfl) ?_
    rintro _ _ ⟨rfl, rfl⟩
    refine wc_icmp dX0_slotAt_56 (cB_ge (show rng _ by omega) (show rng _ by omega)) 101 rfl (fun c56 => ?_) (fun c56 => ?_)
    ·
      omega
    ·
      refine wc_aload_n dX0_slotAt_59 rfl ?_
      refine wc_getC dX0_slotAt_60 (kF0_19 rfl) rfl rfl ?_
      refine wc_getC dX0_slotAt_63 (kF0_80 rfl) rfl rfl ?_
      refine wc_iload_n dX0_slotAt_66 rfl ?_
      refine wc_aaload dX0_slotAt_67 rfl rfl rfl ⟨by omega, by omega⟩ rfl ?_
      refine wc_getI dX0_slotAt_68 (kF0_49 rfl) hkM rfl ?_
      rw [hM.2.2.1]
      refine wc_aload_n dX0_slotAt_71 rfl ?_
      refine wc_getR dX0_slotAt_72 (kF0_84 rfl) kS rfl rfl ?_
      refine wc_iload dX0_slotAt_75 rfl ?_
      refine wc_iaload dX0_slotAt_77 k0 rfl hnn ⟨by omega, by omega⟩ _ rfl ?_
      rw [hcr.1]
      refine wc_aload_n dX0_slotAt_78 rfl ?_
      refine wc_getR dX0_slotAt_79 (kF0_87 rfl) kS rfl rfl ?_
      refine wc_iload dX0_slotAt_82 rfl ?_
      refine wc_iaload dX0_slotAt_84 k1 rfl hnn ⟨by omega, by omega⟩ _ rfl ?_
      rw [hcr.2]
      refine wc_call dX0_slotAt_85 rfl (cc_shifted hcel (by omega) (by omega)) (by omega) (hx_S (kS0_14 rfl) (kSn0_14 rfl) rfl rfl) ?_
      rintro _ _ ⟨rfl, rfl⟩
      refine wc_iload_n dX0_slotAt_88 rfl ?_
      refine wc_icmp dX0_slotAt_89 (cB_ne (show rng _ by omega) (show rng _ by omega)) 95 rfl (fun c89 => ?_) (fun c89 => ?_)
      ·
        refine wc_iinc dX0_slotAt_95 rfl ?_
        refine wc_goto dX0_slotAt_98 50 rfl ?_
        have e : fstI (fun s => decide (plcF w s = c)) (n + 1) s = fstI (fun s => decide (plcF w s = c)) n (s + 1) := by
          conv => lhs; unfold fstI
          rw [if_neg (by rw [decide_eq_false (fun q => c89 (hpl.mp q))]; decide)]
        rw [e]
        exact ih (s + 1) (by omega) (by omega)
      ·
        refine wc_iload dX0_slotAt_92 rfl ?_
        refine wc_ireturn dX0_slotAt_94 rfl ?_
        refine ⟨?_, rfl⟩
        have e : fstI (fun s => decide (plcF w s = c)) (n + 1) s = s := by
          unfold fstI
          rw [if_pos (decide_eq_true (hpl.mpr (by omega)))]
        rw [e, if_neg (by omega)]
theorem cc_slotAt (h : SI w C t) (hC : 300 ≤ C ∧ C < 1999999000) (hc : 0 ≤ c ∧ c < 120) : Cf kap 3 rX0_slotAt [.inr 10, .inl c] t (some (.inl (sltAtF w c (sltF w (w 3)).toNat 0))) t := by
  intro d hd
  have hS := h.2.2.1
  have hlr := ledF_rng w hS.1.2
  have hr := h.2.2.2.2.rng (by omega)
  have h3 := hS.2.1
  have hA := h.1.2.2 (w 3) (by omega) (by omega)
  have e7 : sg t 100 7 = w 3 := h.1.1.1.2.2.2.2.2
  have hbo := h.2.1.2.2.1 c hc.1 hc.2
  have hld : ldO w < 0 ↔ ledF w < 0 := by unfold ldO; split <;> omega
  have hn5 : ∀ s', ledF w < 0 → ¬ plcF w s' = c := fun s' hl q => by unfold plcF at q; rw [if_pos hl] at q; omega
  refine wc_aload_n dX0_slotAt_0 rfl ?_
  refine wc_getC dX0_slotAt_1 (kF0_19 rfl) rfl rfl ?_
  refine wc_call dX0_slotAt_4 rfl (cc_leads h.1.1 h.2.1.1 (hr 1)) (by omega) (hx_V (kV0_55 rfl) rfl rfl rfl rfl) ?_
  rintro _ _ ⟨rfl, rfl⟩
  refine wc_istore_n dX0_slotAt_7 rfl ?_
  refine wc_aload_n dX0_slotAt_8 rfl ?_
  refine wc_getC dX0_slotAt_9 (kF0_19 rfl) rfl rfl ?_
  refine wc_getC dX0_slotAt_12 (kF0_59 rfl) rfl rfl ?_
  refine wc_aload_n dX0_slotAt_15 rfl ?_
  refine wc_getC dX0_slotAt_16 (kF0_19 rfl) rfl rfl ?_
  refine wc_getI dX0_slotAt_19 (kF0_63 rfl) rfl rfl ?_
  rw [e7]
  refine wc_aaload dX0_slotAt_22 rfl rfl rfl ⟨by omega, by omega⟩ rfl ?_
  refine wc_astore_n dX0_slotAt_23 rfl ?_
  refine wc_iload_n dX0_slotAt_24 rfl ?_
  refine wc_if dX0_slotAt_25 (cB_lt (show rng _ by unfold ldO; split <;> omega) ⟨by omega, by omega⟩) 44 rfl (fun c25 => ?_) (fun c25 => ?_)
  ·
    refine wc_bipush dX0_slotAt_44 (by decide) ?_
    refine wc_ireturn dX0_slotAt_46 rfl ?_
    exact ⟨by rw [slt_no (fun e _ => hn5 e (hld.mp c25))], rfl⟩
  ·
    refine wc_aload_n dX0_slotAt_28 rfl ?_
    refine wc_ifnull dX0_slotAt_29 (by by_cases q : 0 < sltF w (w 3); exact Or.inr (by rw [kd_dyn (by have := (hA.1 q).1; omega) (hA.1 q).1.2.2]; rfl); exact Or.inl (by rw [hA.2 q]; rfl)) 44 rfl (fun c29 => ?_) (fun c29 => ?_)
    ·
      refine wc_bipush dX0_slotAt_44 (by decide) ?_
      refine wc_ireturn dX0_slotAt_46 rfl ?_
      refine ⟨?_, rfl⟩
      have : ¬ 0 < sltF w (w 3) := fun q => by have := (hA.1 q).1.1; rw [c29] at this; omega
      rw [show (sltF w (w 3)).toNat = 0 by omega]
      rfl
    ·
      refine wc_aload_n dX0_slotAt_32 rfl ?_
      refine wc_getC dX0_slotAt_33 (kF0_19 rfl) rfl rfl ?_
      refine wc_getC dX0_slotAt_36 (kF0_23 rfl) rfl rfl ?_
      refine wc_iload_n dX0_slotAt_39 rfl ?_
      refine wc_baload dX0_slotAt_40 rfl rfl rfl ⟨by omega, by omega⟩ _ rfl ?_
      rw [h.1.1.obs hc]
      refine wc_if dX0_slotAt_41 (cB_eq (show rng _ by omega) ⟨by omega, by omega⟩) 47 rfl (fun c41 => ?_) (fun c41 => ?_)
      ·
        refine wc_iconst dX0_slotAt_47 ?_
        refine wc_istore dX0_slotAt_48 rfl ?_
        have hsl : 0 < sltF w (w 3) := Classical.byContradiction (fun q => c29 (by rw [hA.2 q]; rfl))
        rw [show ldO w = ledF w by unfold ldO; rw [if_neg (fun q => c25 (hld.mpr q))]]
        exact cc_slotAt_50 h (by omega) hc (by omega) rfl hsl hd (sltF w (w 3)).toNat 0 (by omega) (by omega)
      ·
        refine wc_bipush dX0_slotAt_44 (by decide) ?_
        refine wc_ireturn dX0_slotAt_46 rfl ?_
        exact ⟨by rw [slt_no (fun e _ => plc_bl hc.1 (by omega) e)], rfl⟩
theorem cc_openAround_4 (h : SI w C t) (hc : 0 ≤ c ∧ c < 120) (hd : 3 ≤ d) : ∀ (n : Nat) (x a : Int) (o : Option AV), x + n = 4 → 0 ≤ x → Wc kap d rX0_openAround 4 [some (.inr 10), some (.inl c), some (.inl a), some (.inl x), o] [] t (nQ (fun v u => some (.inl (a + opnAF w c n x)) = v ∧ t = u)) := by
  intro n
  induction n with
  | zero =>
    intro x a o hx h0
    refine wc_iload_n dX0_openAround_4 rfl ?_
    refine wc_iconst dX0_openAround_5 ?_
    refine wc_icmp dX0_openAround_6 (cB_ge ⟨by omega, by omega⟩ ⟨by omega, by omega⟩) 51 rfl (fun c6 => ?_) (fun c6 => ?_)
    ·
      refine wc_iload_n dX0_openAround_51 rfl ?_
      refine wc_ireturn dX0_openAround_52 rfl ?_
      exact ⟨by simp [opnAF], rfl⟩
    ·
      omega
  | succ n ih =>
    intro x a o hx h0
    have hbe := besF_rng c x
    have hgo : ∀ q o, q = (if 0 ≤ besF c x ∧ ¬ w (72 + besF c x).toNat = 1 then (1 : Int) else 0) → Wc kap d rX0_openAround 4 [some (.inr 10), some (.inl c), some (.inl (a + q)), some (.inl (x + 1)), o] [] t (nQ (fun v u => some (.inl (a + opnAF w c (n + 1) x)) = v ∧ t = u)) := fun q o hq => by
      refine (ih (x + 1) (a + q) o (by omega) (by omega)).mn (fun v u r => ⟨?_, r.2⟩)
      rw [← r.1, opnAF, ← hq, Int.add_assoc]
    refine wc_iload_n dX0_openAround_4 rfl ?_
    refine wc_iconst dX0_openAround_5 ?_
    refine wc_icmp dX0_openAround_6 (cB_ge ⟨by omega, by omega⟩ ⟨by omega, by omega⟩) 51 rfl (fun c6 => ?_) (fun c6 => ?_)
    ·
      omega
    ·
      refine wc_iload_n dX0_openAround_9 rfl ?_
      refine wc_iload_n dX0_openAround_10 rfl ?_
      refine wc_call dX0_openAround_11 rfl (cc_neighbor hc ⟨by omega, by omega⟩) (by omega) (hx_S (kS0_32 rfl) (kSn0_32 rfl) rfl rfl) ?_
      rintro _ _ ⟨rfl, rfl⟩
      refine wc_istore dX0_openAround_14 rfl ?_
      refine wc_iload_n dX0_openAround_16 rfl ?_
      refine wc_iload dX0_openAround_17 rfl ?_
      refine wc_if dX0_openAround_19 (cB_lt (show rng _ by omega) ⟨by omega, by omega⟩) 39 rfl (fun c19 => ?_) (fun c19 => ?_)
      ·
        refine wc_iconst dX0_openAround_39 ?_
        refine wc_call dX0_openAround_40 rfl (cc_bit (Or.inl rfl)) (by omega) (hx_S (kS0_112 rfl) (kSn0_112 rfl) rfl rfl) ?_
        rintro _ _ ⟨rfl, rfl⟩
        refine wc_iadd dX0_openAround_43 ?_
        refine wc_istore_n dX0_openAround_44 rfl ?_
        refine wc_iinc dX0_openAround_45 rfl ?_
        refine wc_goto dX0_openAround_48 4 rfl ?_
        exact hgo _ _ (by rw [if_neg (by omega)])
      ·
        refine wc_aload_n dX0_openAround_22 rfl ?_
        refine wc_getC dX0_openAround_23 (kF0_19 rfl) rfl rfl ?_
        refine wc_getC dX0_openAround_26 (kF0_23 rfl) rfl rfl ?_
        refine wc_iload dX0_openAround_29 rfl ?_
        refine wc_baload dX0_openAround_31 rfl rfl rfl ⟨by omega, by omega⟩ _ rfl ?_
        rw [h.1.1.obs ⟨by omega, by omega⟩]
        have hbo := h.2.1.2.2.1 (besF c x) (by omega) (by omega)
        refine wc_if dX0_openAround_32 (cB_ne (show rng _ by omega) ⟨by omega, by omega⟩) 39 rfl (fun c32 => ?_) (fun c32 => ?_)
        ·
          refine wc_iconst dX0_openAround_39 ?_
          refine wc_call dX0_openAround_40 rfl (cc_bit (Or.inl rfl)) (by omega) (hx_S (kS0_112 rfl) (kSn0_112 rfl) rfl rfl) ?_
          rintro _ _ ⟨rfl, rfl⟩
          refine wc_iadd dX0_openAround_43 ?_
          refine wc_istore_n dX0_openAround_44 rfl ?_
          refine wc_iinc dX0_openAround_45 rfl ?_
          refine wc_goto dX0_openAround_48 4 rfl ?_
          exact hgo _ _ (by rw [if_neg (by omega)])
        ·
          refine wc_iconst dX0_openAround_35 ?_
          refine wc_goto dX0_openAround_36 40 rfl ?_
          refine wc_call dX0_openAround_40 rfl (cc_bit (Or.inr rfl)) (by omega) (hx_S (kS0_112 rfl) (kSn0_112 rfl) rfl rfl) ?_
          rintro _ _ ⟨rfl, rfl⟩
          refine wc_iadd dX0_openAround_43 ?_
          refine wc_istore_n dX0_openAround_44 rfl ?_
          refine wc_iinc dX0_openAround_45 rfl ?_
          refine wc_goto dX0_openAround_48 4 rfl ?_
          exact hgo _ _ (by rw [if_pos (by omega)])
theorem cc_openAround (h : SI w C t) (hc : 0 ≤ c ∧ c < 120) : Cf kap 3 rX0_openAround [.inr 10, .inl c] t (some (.inl (opnAF w c 4 0))) t := by
  intro d hd
  refine wc_iconst dX0_openAround_0 ?_
  refine wc_istore_n dX0_openAround_1 rfl ?_
  refine wc_iconst dX0_openAround_2 ?_
  refine wc_istore_n dX0_openAround_3 rfl ?_
  refine (cc_openAround_4 h hc hd 4 0 0 _ (by omega) (by omega)).mn (fun v u q => ⟨?_, q.2⟩)
  rw [← q.1, Int.zero_add]
theorem cc_cell (h : SI w C t) (hC : 300 ≤ C ∧ C < 1999999000) (hx : rng x) (hy : rng y) : Ct kap 6 rX0_cell [.inr 10, .inl x, .inl y] t (fun v u => some (.inl (if (0 ≤ x ∧ x ≤ 119) ∧ 0 ≤ y ∧ y ≤ 4 then cellF w x y else -1)) = v ∧ FrS t u ∧ nvC u = nvC t ∧ uC u = uC t) := by
  intro d hd
  have hS := h.2.2.1
  have h0 := hS.1
  have hr := h.2.2.2.2.rng (by omega)
  have hlr := ledF_rng w hS.1.2
  have hld : ldO w < 0 ↔ ledF w < 0 := by unfold ldO; split <;> omega
  have hon := onF_rng w x
  have hbx : (0 ≤ x ∧ x < 120) → (w (72 + x).toNat = 0 ∨ w (72 + x).toNat = 1) := fun q => h.2.1.2.2.1 x q.1 q.2
  refine wc_iload_n dX0_cell_0 rfl ?_
  refine wc_call dX0_cell_1 rfl (cc_isCell hx) (by omega) (hx_S (kS0_313 rfl) (kSn0_313 rfl) rfl rfl) ?_
  rintro _ _ ⟨rfl, ⟨h1, rfl⟩ | ⟨h1, rfl⟩⟩
  ·
    refine wc_ifT dX0_cell_4 (by decide) 9 rfl ?_
    refine wc_iload_n dX0_cell_9 rfl ?_
    rcases (show y = 0 ∨ y = 1 ∨ y = 2 ∨ y = 3 ∨ y = 4 ∨ ¬ (0 ≤ y ∧ y ≤ 4) by omega) with e | e | e | e | e | e
    ·
      subst e
      refine wc_tsw dX0_cell_10 ⟨by omega, by omega⟩ rfl 44 rfl ?_
      refine wc_aload_n dX0_cell_44 rfl ?_
      refine wc_getC dX0_cell_45 (kF0_19 rfl) rfl rfl ?_
      refine wc_getC dX0_cell_48 (kF0_23 rfl) rfl rfl ?_
      refine wc_iload_n dX0_cell_51 rfl ?_
      refine wc_baload dX0_cell_52 rfl rfl rfl ⟨by omega, by omega⟩ _ rfl ?_
      rw [h.1.1.obs ⟨h1.1, by omega⟩]
      refine wc_call dX0_cell_53 rfl (cc_bit (hbx ⟨h1.1, by omega⟩)) (by omega) (hx_S (kS0_112 rfl) (kSn0_112 rfl) rfl rfl) ?_
      rintro _ _ ⟨rfl, rfl⟩
      refine wc_goto dX0_cell_56 146 rfl ?_
      refine wc_ireturn dX0_cell_146 rfl ?_
      exact ⟨by rw [if_pos ⟨h1, by omega, by omega⟩]; rfl, FrS.rf, rfl, rfl⟩
    ·
      subst e
      refine wc_tsw dX0_cell_10 ⟨by omega, by omega⟩ rfl 59 rfl ?_
      refine wc_aload_n dX0_cell_59 rfl ?_
      refine wc_getC dX0_cell_60 (kF0_19 rfl) rfl rfl ?_
      refine wc_getC dX0_cell_63 (kF0_150 rfl) rfl rfl ?_
      refine wc_iload_n dX0_cell_66 rfl ?_
      refine wc_iaload dX0_cell_67 rfl rfl rfl ⟨by omega, by omega⟩ _ rfl ?_
      rw [h.1.1.at ⟨h1.1, by omega⟩]
      refine wc_if dX0_cell_68 (cB_ge (show rng _ by omega) ⟨by omega, by omega⟩) 76 rfl (fun c68 => ?_) (fun c68 => ?_)
      ·
        refine wc_aload_n dX0_cell_76 rfl ?_
        refine wc_getC dX0_cell_77 (kF0_19 rfl) rfl rfl ?_
        refine wc_getC dX0_cell_80 (kF0_150 rfl) rfl rfl ?_
        refine wc_iload_n dX0_cell_83 rfl ?_
        refine wc_iaload dX0_cell_84 rfl rfl rfl ⟨by omega, by omega⟩ _ rfl ?_
        rw [h.1.1.at ⟨h1.1, by omega⟩]
        refine wc_goto dX0_cell_85 146 rfl ?_
        refine wc_ireturn dX0_cell_146 rfl ?_
        refine ⟨?_, FrS.rf, rfl, rfl⟩
        rw [if_pos ⟨h1, by omega, by omega⟩]
        show some (Sum.inl (if onF w x < 0 then -5 else onF w x)) = _
        rw [if_neg (by omega)]
      ·
        refine wc_bipush dX0_cell_71 (by decide) ?_
        refine wc_goto dX0_cell_73 146 rfl ?_
        refine wc_ireturn dX0_cell_146 rfl ?_
        refine ⟨?_, FrS.rf, rfl, rfl⟩
        rw [if_pos ⟨h1, by omega, by omega⟩]
        show some (Sum.inl (if onF w x < 0 then -5 else onF w x)) = _
        rw [if_pos (by omega)]
    ·
      subst e
      refine wc_tsw dX0_cell_10 ⟨by omega, by omega⟩ rfl 88 rfl ?_
      refine wc_aload_n dX0_cell_88 rfl ?_
      refine wc_iload_n dX0_cell_89 rfl ?_
      refine wc_call dX0_cell_90 rfl (cc_slotAt h hC ⟨h1.1, by omega⟩) (by omega) (hx_V (kV0_374 rfl) rfl rfl rfl rfl) ?_
      rintro _ _ ⟨rfl, rfl⟩
      refine wc_goto dX0_cell_93 146 rfl ?_
      refine wc_ireturn dX0_cell_146 rfl ?_
      exact ⟨by rw [if_pos ⟨h1, by omega, by omega⟩]; rfl, FrS.rf, rfl, rfl⟩
    ·
      subst e
      refine wc_tsw dX0_cell_10 ⟨by omega, by omega⟩ rfl 96 rfl ?_
      refine wc_aload_n dX0_cell_96 rfl ?_
      refine wc_getC dX0_cell_97 (kF0_19 rfl) rfl rfl ?_
      refine wc_call dX0_cell_100 rfl (cc_leads h.1.1 h0 (hr 1)) (by omega) (hx_V (kV0_55 rfl) rfl rfl rfl rfl) ?_
      rintro _ _ ⟨rfl, rfl⟩
      refine wc_if dX0_cell_103 (cB_ge (show rng _ by unfold ldO; split <;> omega) ⟨by omega, by omega⟩) 111 rfl (fun c103 => ?_) (fun c103 => ?_)
      ·
        have hl : 0 ≤ ledF w := by omega
        have hml := hlr.2.2 hl
        have hM := h.1.1.mem hS.1.2 hml
        have hcel : 0 ≤ celF w (ledF w) ∧ celF w (ledF w) < 120 := ⟨hml.2, (hS.2.2.1 (ledF w) hl hlr.2.1).2⟩
        have el : ldO w = ledF w := by unfold ldO; rw [if_neg (by omega)]
        refine wc_aload_n dX0_cell_111 rfl ?_
        refine wc_aload_n dX0_cell_112 rfl ?_
        refine wc_getC dX0_cell_113 (kF0_19 rfl) rfl rfl ?_
        refine wc_getC dX0_cell_116 (kF0_80 rfl) rfl rfl ?_
        refine wc_aload_n dX0_cell_119 rfl ?_
        refine wc_getC dX0_cell_120 (kF0_19 rfl) rfl rfl ?_
        refine wc_call dX0_cell_123 rfl (cc_leads h.1.1 h0 (hr 1)) (by omega) (hx_V (kV0_55 rfl) rfl rfl rfl rfl) ?_
        rintro _ _ ⟨rfl, rfl⟩
        rw [el]
        refine wc_aaload (y := mnC t (ledF w)) dX0_cell_126 rfl rfl rfl ⟨by omega, by omega⟩ rfl ?_
        refine wc_getI dX0_cell_127 (kF0_49 rfl) (hM.kd (T := kap)) rfl ?_
        rw [hM.2.2.1]
        refine wc_iload_n dX0_cell_130 rfl ?_
        refine wc_call dX0_cell_131 rfl (cc_wayOf h hcel ⟨h1.1, by omega⟩ (by have := (bfsF_rng (blkF w) (c := celF w (ledF w)) hcel x).2; omega)) (by omega) (hx_V (kV0_377 rfl) rfl rfl rfl rfl) ?_
        rintro _ _ ⟨rfl, a1, a2, a3⟩
        refine wc_goto dX0_cell_134 146 rfl ?_
        refine wc_ireturn dX0_cell_146 rfl ?_
        refine ⟨?_, a1, a2, a3⟩
        rw [if_pos ⟨h1, by omega, by omega⟩]
        show some (Sum.inl (if ledF w < 0 then -5 else dstF w (celF w (ledF w)) x)) = _
        rw [if_neg (by omega), dstF, bfs_sym ⟨h1.1, by omega⟩ hcel]
      ·
        refine wc_bipush dX0_cell_106 (by decide) ?_
        refine wc_goto dX0_cell_108 146 rfl ?_
        refine wc_ireturn dX0_cell_146 rfl ?_
        refine ⟨?_, FrS.rf, rfl, rfl⟩
        rw [if_pos ⟨h1, by omega, by omega⟩]
        show some (Sum.inl (if ledF w < 0 then -5 else dstF w (celF w (ledF w)) x)) = _
        rw [if_pos (by omega)]
    ·
      subst e
      refine wc_tsw dX0_cell_10 ⟨by omega, by omega⟩ rfl 137 rfl ?_
      refine wc_aload_n dX0_cell_137 rfl ?_
      refine wc_iload_n dX0_cell_138 rfl ?_
      refine wc_call dX0_cell_139 rfl (cc_openAround h ⟨h1.1, by omega⟩) (by omega) (hx_V (kV0_380 rfl) rfl rfl rfl rfl) ?_
      rintro _ _ ⟨rfl, rfl⟩
      refine wc_goto dX0_cell_142 146 rfl ?_
      refine wc_ireturn dX0_cell_146 rfl ?_
      exact ⟨by rw [if_pos ⟨h1, by omega, by omega⟩]; rfl, FrS.rf, rfl, rfl⟩
    ·
      refine wc_tsw dX0_cell_10 hy (if_pos (by omega)) 145 rfl ?_
      refine wc_iconst dX0_cell_145 ?_
      refine wc_ireturn dX0_cell_146 rfl ?_
      exact ⟨by rw [if_neg (fun q => e q.2)], FrS.rf, rfl, rfl⟩
  ·
    refine wc_ifF dX0_cell_4 (by decide) 9 rfl ?_
    refine wc_iconst dX0_cell_7 ?_
    refine wc_ireturn dX0_cell_8 rfl ?_
    exact ⟨by rw [if_neg (fun q => h1 q.1)], FrS.rf, rfl, rfl⟩
end QCEL
