/-! THE CLASS'S METHODS, 22: round, whole; makes -/
set_option maxRecDepth 100000
section RN6
variable {w w0 w1 wb w' : Nat → Int} {τ t t0 u : CT} {a b m c v C : Int} {d p q n k s x cap B U : Nat} {e tr : Nat → Int} {Q : Option AV → CT → Prop} {L : TL} {S : Int → Prop}
theorem SW.cnt0 (hS : WS w) : SW w (cntW w 0) := SW.cnt (by omega) (fun m m0 m1 => (hS.2.2.1 m m0 m1).2)
theorem Gd.frs (hS : WS w0) (h : Gd w0 t) (g13 : ∀ v, v = 13 ∨ v = 15 ∨ (40 ≤ v ∧ v < 50) → sg u v = sg t v) (g10 : sg u 10 = sg t 10) : Gd w0 u := ⟨fun m m0 m1 => by rw [g13 15 (by omega)]; exact h.1 m m0 m1, h.2.of hS (fun v hv => g13 v (by omega)) (by rw [g10]) (by rw [g10])⟩
theorem cc_round (h : St w τ) (hI : IR w) (hS : WS w) (hH : SH w) (hb : bdW C w) (hC : 300 ≤ C ∧ C < 900000000) (hl : 0 ≤ ledF w) : Ct kap 70 rX0_round [.inr 10] τ (fun v u => none = v ∧ FrW τ u ∧ Wd (roundF w) u ∧ (IR (roundF w) ∧ SW w (roundF w) ∧ bdW (C + 100) (roundF w)) ∧ (nvC u ≤ nvC τ + 13 ∧ uC u ≤ uC τ + 64)) := by
  intro d hd
  refine Wc.nv (fun hnv => ?_)
  have h0 := hI.1.2
  have hSWa := SW.cnt0 hS
  have hSa : WS (cntW w 0) := hS.sw hSWa
  have hIa : IR (cntW w 0) := hI.cnt (by omega)
  have hled : ledF (cntW w 0) = ledF w := hSWa.led h0
  have hla : 0 ≤ ledF (cntW w 0) := by omega
  have hlr := ledF_rng (cntW w 0) hSa.1.2
  have hba : bdW (C + 1) (cntW w 0) := hb.cnt
  have hWa : Wd (cntW w 0) (stC τ 105 (0 : Int).toNat (w 4 + 1)) := h.1.cnt h0 (k := 0) (by omega)
  have hFa : FrA τ (stC τ 105 (0 : Int).toNat (w 4 + 1)) := FrA.s105
  have hFWa : FrW τ (stC τ 105 (0 : Int).toNat (w 4 + 1)) := hFa.toW h.1 h0
  have hSta : St (cntW w 0) (stC τ 105 (0 : Int).toNat (w 4 + 1)) := hFWa.st h hH (fun i hi => by unfold cntW; rw [upd_ne (by omega)]) hWa
  have ea : sg τ 105 (0 : Int).toNat = w 4 := h.1.acc (k := 0) (by omega)
  have hldr : ldO (cntW w 0) = ledF (cntW w 0) := by unfold ldO; rw [if_neg (by omega)]
  have hml := hlr.2.2 hla
  -- the leader's row
  have hSW1 : SW (cntW w 0) (leadF (cntW w 0)) := SW.lead (fun m m0 m1 => (hSa.2.2.1 m m0 m1).2) hSa.1.2 hla
  have hS1 : WS (leadF (cntW w 0)) := hSa.sw hSW1
  have hb1 : bdW (C + 5) (leadF (cntW w 0)) := (hba.lead (by omega)).mono (by omega)
  have hled1 : ledF (leadF (cntW w 0)) = ledF (cntW w 0) := hSW1.led hSa.1.2
  have hld := cc_leaderActs hSta hIa hla hSa.2.2.2.2.2.2 (by have := hba 2; omega)
  refine wc_aload_n dX0_round_0 rfl ?_
  refine wc_getC dX0_round_1 (kF0_19 rfl) rfl rfl ?_
  refine wc_getC dX0_round_4 (kF0_141 rfl) rfl rfl ?_
  refine wc_iconst dX0_round_7 ?_
  refine wc_dup2 dX0_round_8 ?_
  refine wc_iaload dX0_round_9 rfl rfl rfl ⟨by omega, by omega⟩ _ rfl ?_
  rw [ea]
  refine wc_iconst dX0_round_10 ?_
  refine wc_iadd dX0_round_11 ?_
  refine wc_iastore dX0_round_12 rfl ⟨by decide, Or.inl (by decide)⟩ rfl ⟨by omega, by omega⟩ _ rfl ?_
  refine wc_aload_n dX0_round_13 rfl ?_
  refine wc_getC dX0_round_14 (kF0_19 rfl) rfl rfl ?_
  refine wc_call dX0_round_17 rfl (cc_leads hWa hSa.1 (by have := hba 1; omega)) (by omega) (hx_V (kV0_55 rfl) rfl rfl rfl rfl) ?_
  rintro _ _ ⟨rfl, rfl⟩
  rw [hldr]
  refine wc_istore_n dX0_round_20 rfl ?_
  refine wc_aload_n dX0_round_21 rfl ?_
  refine wc_getC dX0_round_22 (kF0_19 rfl) rfl rfl ?_
  refine wc_getC dX0_round_25 (kF0_80 rfl) rfl rfl ?_
  refine wc_iload_n dX0_round_28 rfl ?_
  refine wc_aaload dX0_round_29 rfl rfl rfl ⟨by omega, by omega⟩ rfl ?_
  refine wc_astore_n dX0_round_30 rfl ?_
  refine wc_aload_n dX0_round_31 rfl ?_
  refine wc_aload_n dX0_round_32 rfl ?_
  refine wc_aload_n dX0_round_33 rfl ?_
  refine wc_call dX0_round_34 rfl (hld) (by omega) (hx_V (kV0_196 rfl) rfl rfl rfl rfl) ?_
  rintro _ _ ⟨r, w2, rfl, hF2, hu2, hW2, ⟨hI2, hm2⟩, hrow⟩
  rename_i t2
  have hmn2 := hF2.mn (ledF (cntW w 0))
  have hM2 := hW2.mem hI2.1.2 hm2
  have hw2 := hW2.wr hI2.1.2 hm2
  have hr2 := isM_le hm2 hI2.1.2
  have hF3 := FrA.sM (t := t2) (m := ledF (cntW w 0)) (j := 2) (v := r) ⟨hr2.1, by omega⟩ hM2.1.1
  have hW3 := hW2.fld (j := 2) (p := 5) (v := r) (Or.inl ⟨rfl, rfl⟩) hI2.1.2 hm2
  rw [hrow] at hW3
  have hI3 : IR (leadF (cntW w 0)) := by rw [← hrow]; exact hI2.upd (fldI hr2 (p := 5) (by omega)) (Or.inl (by omega))
  rw [hmn2] at hM2 hw2 hF3 hW3
  have hFW3 : FrW τ (stC t2 (mnC (stC τ 105 (0 : Int).toNat (w 4 + 1)) (ledF (cntW w 0))) 2 r) := (hFWa.tr hF2).act hnv hF3 hW2 hI2.1.2
  have hSt3 : St (leadF (cntW w 0)) (stC t2 (mnC (stC τ 105 (0 : Int).toNat (w 4 + 1)) (ledF (cntW w 0))) 2 r) := hFW3.st h hH (fun i hi => by rw [hSW1.1 i (by omega)]; unfold cntW; rw [upd_ne (by omega)]) hW3
  have hnv3 : nvC (stC t2 (mnC (stC τ 105 (0 : Int).toNat (w 4 + 1)) (ledF (cntW w 0))) 2 r) = nvC τ ∧ uC (stC t2 (mnC (stC τ 105 (0 : Int).toNat (w 4 + 1)) (ledF (cntW w 0))) 2 r) = uC τ := by
    have e : t2.1 = τ.1 := hu2
    exact ⟨by show t2.1.2.1 = _; rw [e], by show t2.1.2.2 = _; rw [e]⟩
  have hHW : HW (leadF (cntW w 0)) := ⟨hS1, fun i => by have := hb1 i; omega, hI3.2.2.1⟩
  refine wc_putI dX0_round_37 (kF0_170 rfl) rfl hM2.kd rfl hw2 (Or.inl rfl) ?_
  refine wc_aload_n dX0_round_40 rfl ?_
  refine wc_call dX0_round_41 rfl (cc_gives hHW hSt3) (by omega) (hx_V (kV0_120 rfl) rfl rfl rfl rfl) ?_
  rintro _ _ ⟨rfl, hG⟩
  rename_i t5
  have hFW5 : FrW τ t5 := hFW3.tr hG.1.toW
  have hSt5 := hG.1.st hSt3
  have hGd := hG.gd
  have hnv5 : 1000 ≤ n0C t5 ∧ n0C t5 ≤ nvC t5 := by rw [hFW5.1.1]; have := hFW5.1.2; omega
  have hb5 := hG.2.2.2
  rw [hnv3.1, hnv3.2] at hb5
  refine wc_new dX0_round_44 (kN0_199 rfl) rfl ?_
  refine wc_dup dX0_round_47 ?_
  refine wc_bipush dX0_round_48 (by decide) ?_
  refine wc_aload_n dX0_round_50 rfl ?_
  refine wc_getC dX0_round_51 (kF0_201 rfl) rfl rfl ?_
  refine wc_call dX0_round_54 rfl (cc_pqInit (p := nvC t5) (by omega) (by show (if nvC t5 = nvC t5 then _ else _) = _; rw [if_pos rfl]; rfl) ⟨by omega, Or.inr hnv5.2⟩ (Nat.lt_succ_self _)) (by omega) (hx_I (kI0_205 rfl) rfl (kd_nw (by omega)) rfl rfl) ?_
  rintro _ _ ⟨rfl, rfl⟩
  refine wc_astore_n dX0_round_57 rfl ?_
  refine wc_aload_n dX0_round_58 rfl ?_
  refine wc_getC dX0_round_59 (kF0_19 rfl) rfl rfl ?_
  refine wc_getC dX0_round_62 (kF0_80 rfl) rfl rfl ?_
  refine wc_astore dX0_round_65 rfl ?_
  refine wc_aload dX0_round_67 rfl ?_
  refine wc_alenR dX0_round_69 rfl ?_
  refine wc_istore dX0_round_70 rfl ?_
  refine wc_iconst dX0_round_72 ?_
  refine wc_istore dX0_round_73 rfl ?_
  have hFs : FrS t5 (pqN t5) := pqN_frs hnv5
  have hPQ := pqN_pq (e := fun _ => 0) hnv5 hS1 hGd hSt5 hI3
  have hFWp : FrW τ (pqN t5) := hFW5.tr hFs.toW
  have hR0 : RQ (leadF (cntW w 0)) (leadF (cntW w 0)) (pqN t5) (nvC t5) (nvC t5 + 1) 0 [] := ⟨0, fun _ => 0, hPQ, by omega, fun m' => ⟨fun ⟨i, hi, _⟩ => by omega, fun ⟨i, hi, _⟩ => absurd hi (Nat.not_lt_zero i)⟩, fun i j _ hj => absurd hj (Nat.not_lt_zero j), fun i hi => absurd hi (Nat.not_lt_zero i), fun i hi => absurd hi (Nat.not_lt_zero i)⟩
  have htn5 : tnC (pqN t5) ≠ nvC t5 ∧ tnC (pqN t5) ≠ nvC t5 + 1 := by
    obtain ⟨cap, s0, hA, hcap, hcx⟩ := hFW5.tnk h.2.1
    have e : tnC (pqN t5) = tnC t5 := by unfold tnC; rw [hFs.2.2.2.2.1]
    rw [e]
    rcases hA.2.2 with ⟨q1, -⟩ | ⟨q1, q2, -⟩
    · omega
    · have := hcx (by omega); omega
  rw [← hled1]
  refine cc_round_75 (τ := τ) (p := nvC t5) (q := nvC t5 + 1) hS1 hI3 (by omega) hnv (by have := hFW5.1.2; omega) (by have := hFW5.1.2; omega) (by omega) 10 0 (leadF (cntW w 0)) [] (pqN t5) _ (by omega) (by omega) hFWp SC.rf hR0 (fun u wb L' o k1 k2 k3 k4 k5 => ?_)
  have hbd : bdW (C + 15) wb := by
    have := bgn_bd (sl := slF (leadF (cntW w 0))) (FF := frF (leadF (cntW w 0))) 10 0 (leadF (cntW w 0)) [] (C + 5) hb1 (by omega)
    rw [← k1] at this
    exact this.mono (by omega)
  have env : nvC u = nvC t5 + 2 := by unfold nvC; rw [k3.1]; rfl
  have eun : uC u = uC t5 + 14 := by unfold uC; rw [k3.1]; rfl
  have htu : tnC u = tnC (pqN t5) := by unfold tnC; rw [k3.2]
  refine cc_round_135 (C := C + 15) hS1 hI3 hnv (by have := hFW5.1.2; omega) (by have := hFW5.1.2; omega) (by omega) (by omega) k2 ⟨by omega, by omega⟩ (by rw [htu]; exact htn5) h.2.1 k4 hbd k5 (fun u2 f1 f2 f3 f4 => ?_)
  have hrd : L'.foldl (fun u x => actF (slF (leadF (cntW w 0))) (frF (leadF (cntW w 0))) u x.1) wb = roundF w := by
    unfold roundF rd2F
    rw [← k1]
  rw [hrd] at f2 f3
  exact ⟨rfl, f1, f2, ⟨f3.1, hSWa.tr (hSW1.tr f3.2.1.1), f3.2.2.mono (by omega)⟩, by omega, by omega⟩
end RN6
