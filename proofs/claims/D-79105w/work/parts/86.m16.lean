/-! THE MODEL'S METHODS, 16: a command carried out; numbers and orders read -/
set_option maxRecDepth 100000
theorem WS.upd2 {w : Nat → Int} {i : Nat} {v : Int} (h : WS w) (hi : i ≠ 0 ∧ i ≠ 2 ∧ i ≠ 3 ∧ (∀ m : Int, 0 ≤ m → m ≤ 9 → i ≠ (12 + 6 * m + 0).toNat) ∧ (i < 192 ∨ 258 ≤ i)) : WS (updW w i v) := by
  obtain ⟨h1, h2, h3, h4, h5, h6, h7⟩ := h
  obtain ⟨i0, i2, i3, ic, is⟩ := hi
  have hne : ∀ j, j = 0 ∨ j = 2 ∨ j = 3 ∨ (192 ≤ j ∧ j < 258) → updW w i v j = w j := fun j hj => upd_ne (by omega)
  have e3 := hne 3 (by omega)
  have es : sltF (updW w i v) (updW w i v 3) = sltF w (w 3) := by unfold sltF; rw [e3]; exact hne _ (by omega)
  have ea : ancF (updW w i v) (updW w i v 3) = ancF w (w 3) := by unfold ancF; rw [e3]; exact hne _ (by omega)
  refine ⟨by rw [hne 0 (by omega)]; exact h1, by rw [e3]; exact h2, fun m m0 m1 => ?_, by rw [es]; exact h4, by rw [ea]; exact h5, fun k k0 k1 => ?_, by rw [hne 2 (by omega)]; exact h7⟩
  · have : celF (updW w i v) m = celF w m := upd_ne (fun q => ic m m0 m1 q.symm)
    rw [this]
    exact h3 m m0 m1
  · rw [es] at k1
    have ec : colF (updW w i v) (updW w i v 3) k = colF w (w 3) k := by
      unfold colF
      rw [ea, e3, hne _ (by omega), hne _ (by omega)]
    have er : rowF (updW w i v) (updW w i v 3) k = rowF w (w 3) k := by
      unfold rowF
      rw [ea, e3, hne _ (by omega), hne _ (by omega)]
    rw [ec, er]
    exact h6 k k0 k1
def HI (w w' : Nat → Int) : Prop := ∀ i, 258 ≤ i → w' i = w i
theorem HI.rf {w : Nat → Int} : HI w w := fun _ _ => rfl
theorem HI.upd {w w' : Nat → Int} {i : Nat} {v : Int} (h : HI w w') (hi : i < 258) : HI w (updW w' i v) := fun j hj => by
  rw [upd_ne (by omega)]
  exact h j hj
theorem HI.tr {a b c : Nat → Int} (h : HI a b) (k : HI b c) : HI a c := fun i hi => (k i hi).trans (h i hi)
theorem SW.hi {w w' : Nat → Int} (h : SW w w') : HI w w' := fun i hi => h.1 i (by omega)
theorem HI.ly {w : Nat → Int} {m : Int} (hm : 0 ≤ m ∧ m ≤ 9) : ∀ (k : Nat) (i : Int) (u : Nat → Int), i + k ≤ 6 → 0 ≤ i → HI w u → HI w (lyF m k i u) := by
  intro k
  induction k with
  | zero => intro i u _ _ h; exact h
  | succ k ih => intro i u hi h0 h; exact ih (i + 1) _ (by omega) (by omega) (h.upd (by omega))
theorem HI.opn {w : Nat → Int} {c : Int} (h0 : 0 ≤ w 0 ∧ w 0 ≤ 9) : HI w (opnF w c) := by
  unfold opnF cntW
  exact (((HI.ly h0 6 0 _ (by omega) (by omega) (HI.rf.upd (by omega))).upd (by omega)).upd (by omega)).upd (by omega)
theorem WS.upd0 {w : Nat → Int} {v : Int} (h : WS w) (hv : 0 ≤ v ∧ v ≤ 10) : WS (updW w 0 v) := by
  obtain ⟨h1, h2, h3, h4, h5, h6, h7⟩ := h
  have hne : ∀ j, j ≠ 0 → updW w 0 v j = w j := fun j hj => upd_ne hj
  have e3 := hne 3 (by omega)
  have es : sltF (updW w 0 v) (updW w 0 v 3) = sltF w (w 3) := by unfold sltF; rw [e3]; exact hne _ (by omega)
  have ea : ancF (updW w 0 v) (updW w 0 v 3) = ancF w (w 3) := by unfold ancF; rw [e3]; exact hne _ (by omega)
  refine ⟨by unfold updW; rw [if_pos rfl]; exact hv, by rw [e3]; exact h2, fun m m0 m1 => ?_, by rw [es]; exact h4, by rw [ea]; exact h5, fun k k0 k1 => ?_, by rw [hne 2 (by omega)]; exact h7⟩
  · have : celF (updW w 0 v) m = celF w m := upd_ne (by omega)
    rw [this]
    exact h3 m m0 m1
  · rw [es] at k1
    have ec : colF (updW w 0 v) (updW w 0 v 3) k = colF w (w 3) k := by
      unfold colF
      rw [ea, e3, hne _ (by omega), hne _ (by omega)]
    have er : rowF (updW w 0 v) (updW w 0 v 3) k = rowF w (w 3) k := by
      unfold rowF
      rw [ea, e3, hne _ (by omega), hne _ (by omega)]
    rw [ec, er]
    exact h6 k k0 k1
theorem WS.opn {w : Nat → Int} {c : Int} (h : WS w) (h0 : w 0 ≤ 9) (hc : 0 ≤ c ∧ c < 120) : WS (opnF w c) := by
  have hw := h.1
  have g0 := h.upd0 (v := w 0 + 1) (by omega)
  have gk : ∀ (u : Nat → Int) (i v : Int), WS u → 1 ≤ i ∧ i ≤ 5 → WS (updW u (12 + 6 * w 0 + i).toNat v) := fun u i v hu hi => hu.upd2 ⟨by omega, by omega, by omega, fun m m0 m1 => by omega, by omega⟩
  have gc : ∀ (u : Nat → Int) (v : Int), WS u → -1 ≤ v ∧ v < 120 → WS (updW u (12 + 6 * w 0 + 0).toNat v) := fun u v hu hv => hu.upd (Or.inr (Or.inr (Or.inr ⟨w 0, by omega, rfl, hv.1, hv.2⟩)))
  unfold opnF cntW
  refine WS.upd2 (gk _ 5 _ (gc _ _ ?_ (by omega)) (by omega)) ⟨by omega, by omega, by omega, fun m m0 m1 => by omega, by omega⟩
  show WS (lyF (w 0) 6 0 (updW w 0 (w 0 + 1)))
  unfold lyF lyF lyF lyF lyF lyF lyF
  exact gk _ 5 _ (gk _ 4 _ (gk _ 3 _ (gk _ 2 _ (gk _ 1 _ (gc _ _ g0 (by omega)) (by omega)) (by omega)) (by omega)) (by omega)) (by omega)
theorem bdW.opn {w : Nat → Int} {c C : Int} (h : bdW C w) (hC : 200 ≤ C) (hc : 0 ≤ c ∧ c < 120) : bdW (C + 2) (opnF w c) := by
  unfold opnF
  have g0 : bdW (C + 1) (updW w 0 (w 0 + 1)) := h.inc
  have g1 : bdW (C + 1) (lyF (w 0) 6 0 (updW w 0 (w 0 + 1))) := by
    unfold lyF lyF lyF lyF lyF lyF lyF
    exact (((((g0.upd (by omega)).upd (by omega)).upd (by omega)).upd (by omega)).upd (by omega)).upd (by omega)
  exact (((g1.upd (by omega)).upd (by omega)).cnt).mono (by omega)
theorem bdW.los {w : Nat → Int} {m C : Int} (h : bdW C w) (hC : 200 ≤ C) : bdW (C + 1) (losF w m) := by
  unfold losF
  exact (h.upd (by omega)).cnt
theorem WS.los {w : Nat → Int} {m : Int} (h : WS w) (hm : 0 ≤ m ∧ m ≤ 9) : WS (losF w m) := by
  unfold losF cntW
  exact (h.upd (Or.inr (Or.inr (Or.inr ⟨m, hm, rfl, by omega, by omega⟩)))).upd2 ⟨by omega, by omega, by omega, fun m m0 m1 => by omega, by omega⟩
theorem WS.trn {w : Nat → Int} {c : Int} (h : WS w) (hc : 0 ≤ c ∧ c < 120) : WS (trnF w c) := h.upd2 ⟨by omega, by omega, by omega, fun m m0 m1 => by omega, by omega⟩
theorem bdW.trn {w : Nat → Int} {c C : Int} (h : bdW C w) (hC : 200 ≤ C) : bdW (C + 1) (trnF w c) := (h.mono (by omega)).upd (by have := h (72 + c).toNat; omega)
section M20
variable {τ : MT} {m c v x y z b n dd a l : Int} {d : Nat} {Q : Option Int → MT → Prop}
theorem mc_carries_67 {t : MT} {w : Nat → Int} {o5 : Option AV} (hw : t.2 0 = w) (hl : rng l) : Wm d rX3_carries 67 [some (.inr 1), some (.inl l), some (.inl a), some (.inl b), some (.inl c), o5] [.inl v] t (fun r t' => none = r ∧ setW t (updW (updW w 2 (if l = 116 then c else w 2)) 1 (if l = 108 then a else updW w 2 (if l = 116 then c else w 2) 1)) = t') := by
  subst hw
  have h113 : ∀ u2, u2 = (if l = 116 then c else t.2 0 2) → ∀ u1, u1 = (if l = 108 then a else updW (t.2 0) 2 u2 1) → Wm d rX3_carries 113 [some (.inr 1), some (.inl l), some (.inl a), some (.inl b), some (.inl c), some (.inl v)] [.inl u1, .inl 1, .inr 2] (setW t (updW (t.2 0) 2 u2)) (fun r t' => none = r ∧ setW t (updW (updW (t.2 0) 2 (if l = 116 then c else t.2 0 2)) 1 (if l = 108 then a else updW (t.2 0) 2 (if l = 116 then c else t.2 0 2) 1)) = t') := fun u2 h2 u1 h1 => by
    subst h1 h2
    refine wm_iastore dX3_carries_113 rfl ⟨by omega, by omega⟩ _ rfl ?_
    rw [stA_setW]
    refine wm_vreturn dX3_carries_114 rfl ?_
    exact ⟨rfl, rfl⟩
  have h91 : ∀ u2, u2 = (if l = 116 then c else t.2 0 2) → Wm d rX3_carries 91 [some (.inr 1), some (.inl l), some (.inl a), some (.inl b), some (.inl c), some (.inl v)] [.inl u2, .inl 2, .inr 2] t (fun r t' => none = r ∧ setW t (updW (updW (t.2 0) 2 (if l = 116 then c else t.2 0 2)) 1 (if l = 108 then a else updW (t.2 0) 2 (if l = 116 then c else t.2 0 2) 1)) = t') := fun u2 h2 => by
    refine wm_iastore dX3_carries_91 rfl ⟨by omega, by omega⟩ _ rfl ?_
    rw [stA_setW]
    refine wm_aload_n dX3_carries_92 rfl ?_
    refine wm_getA dX3_carries_93 (kF3_9 rfl) rfl ?_
    refine wm_iconst dX3_carries_96 ?_
    refine wm_iload_n dX3_carries_97 rfl ?_
    refine wm_bipush dX3_carries_98 (by decide) ?_
    refine wm_icmp dX3_carries_100 (cB_ne ⟨by omega, by omega⟩ ⟨by omega, by omega⟩) 107 rfl (fun c100 => ?_) (fun c100 => ?_)
    ·
      refine wm_aload_n dX3_carries_107 rfl ?_
      refine wm_getA dX3_carries_108 (kF3_9 rfl) rfl ?_
      refine wm_iconst dX3_carries_111 ?_
      refine wm_iaload dX3_carries_112 rfl ⟨by omega, by omega⟩ 1 rfl ?_
      exact h113 u2 h2 _ (by rw [if_neg (by omega)]; rfl)
    ·
      refine wm_iload_n dX3_carries_103 rfl ?_
      refine wm_goto dX3_carries_104 113 rfl ?_
      exact h113 u2 h2 _ (by rw [if_pos (by omega)])
  refine wm_istore dX3_carries_67 rfl ?_
  refine wm_aload_n dX3_carries_69 rfl ?_
  refine wm_getA dX3_carries_70 (kF3_9 rfl) rfl ?_
  refine wm_iconst dX3_carries_73 ?_
  refine wm_iload_n dX3_carries_74 rfl ?_
  refine wm_bipush dX3_carries_75 (by decide) ?_
  refine wm_icmp dX3_carries_77 (cB_ne ⟨by omega, by omega⟩ ⟨by omega, by omega⟩) 85 rfl (fun c77 => ?_) (fun c77 => ?_)
  ·
    refine wm_aload_n dX3_carries_85 rfl ?_
    refine wm_getA dX3_carries_86 (kF3_9 rfl) rfl ?_
    refine wm_iconst dX3_carries_89 ?_
    refine wm_iaload dX3_carries_90 rfl ⟨by omega, by omega⟩ 2 rfl ?_
    exact h91 _ (by rw [if_neg (by omega)])
  ·
    refine wm_iload dX3_carries_80 rfl ?_
    refine wm_goto dX3_carries_82 91 rfl ?_
    exact h91 _ (by rw [if_pos (by omega)])
theorem mc_carries {C : Int} (hl : rng l) (ha : rng a) (hC : 300 ≤ C ∧ C + 4100 < 1999999000) (hb : bdW C (τ.2 0)) (hS : WS (τ.2 0)) (hf : HF τ) (hlt : l = 97 ∨ l = 111 ∨ l = 116 ∨ l = 108 ∨ l = 120 ∨ l = 103) (hb9 : 0 ≤ b ∧ b ≤ 1000) (ha9 : 0 ≤ a ∧ a ≤ 1000) (hok : refF (τ.2 0) l a b = 0) : Mt 9 rX3_carries [.inr 1, .inl l, .inl a, .inl b] τ (fun v t => none = v ∧ t.2 0 = carF (τ.2 0) l a b ∧ FrM τ t ∧ HF t ∧ bdW (C + 4100) (t.2 0) ∧ WS (t.2 0) ∧ HI (τ.2 0) (t.2 0)) := by
  intro d hd
  have hS1 := hS.1
  have hlr := ledF_rng (τ.2 0) hS1.2
  have hin : l = 97 ∨ l = 111 ∨ l = 116 → ((0 ≤ a ∧ a ≤ 11) ∧ 0 ≤ b ∧ b ≤ 9) := fun h => by
    unfold refF at hok
    rw [if_neg (by omega), if_neg (by omega)] at hok
    by_cases q : (0 ≤ a ∧ a ≤ 11) ∧ 0 ≤ b ∧ b ≤ 9
    · exact q
    · rw [if_pos q] at hok; omega
  have h40 : l = 103 → 0 ≤ ledF (τ.2 0) ∧ 1 ≤ a ∧ a ≤ 40 := fun h => by
    unfold refF at hok
    rw [if_pos h] at hok
    by_cases q2 : ledF (τ.2 0) < 0
    · rw [if_pos q2] at hok; omega
    · rw [if_neg q2] at hok
      by_cases q3 : 1 ≤ a ∧ a ≤ 40
      · omega
      · rw [if_neg q3] at hok; omega
  have hfin : ∀ (t : MT) (w1 : Nat → Int), t.2 0 = w1 → w1 = car1F (τ.2 0) l a b → FrM τ t → HF t → bdW (C + 4050) w1 → WS w1 → HI (τ.2 0) w1 → ∀ v, Wm d rX3_carries 67 [some (.inr 1), some (.inl l), some (.inl a), some (.inl b), some (.inl (12 * b + a)), none] [.inl v] t (fun v t => none = v ∧ t.2 0 = carF (τ.2 0) l a b ∧ FrM τ t ∧ HF t ∧ bdW (C + 4100) (t.2 0) ∧ WS (t.2 0) ∧ HI (τ.2 0) (t.2 0)) := fun t w1 e1 e2 e3 e4 e5 e6 e7 v => by
    refine (mc_carries_67 (d := d) (c := 12 * b + a) e1 hl).mono (fun v t' h => ?_)
    obtain ⟨h1, rfl⟩ := h
    have hu2 : -(C + 4050) ≤ (if l = 116 then 12 * b + a else w1 2) ∧ (if l = 116 then 12 * b + a else w1 2) ≤ C + 4050 := by
      have := e5 2
      split
      · rename_i q
        have := hin (by omega)
        omega
      · exact this
    have g2 : WS (updW w1 2 (if l = 116 then 12 * b + a else w1 2)) := e6.upd (Or.inl ⟨rfl, by
      split
      · rename_i q
        have := hin (by omega)
        omega
      · exact e6.2.2.2.2.2.2⟩)
    have b2 := e5.upd (i := 2) hu2
    refine ⟨h1, ?_, ⟨fun x hx => ?_, e3.2⟩, e4.other rfl, ?_, ?_, (e7.upd (by omega)).upd (by omega)⟩
    · show updW (updW w1 2 _) 1 _ = _
      rw [carF, ← e2]
    · rw [← e3.1 x hx]
      cases x with
      | zero => exact absurd (Or.inl rfl) hx
      | succ x => rfl
    · refine (b2.upd (i := 1) ?_).mono (by omega)
      split
      · omega
      · exact b2 1
    · exact g2.upd (Or.inr (Or.inl rfl))
  have hfr : ∀ w, FrM τ (setW τ w) := fun w => ⟨fun x hx => by
    cases x with
    | zero => exact absurd (Or.inl rfl) hx
    | succ x => rfl, fun _ _ _ => rfl⟩
  refine wm_bipush dX3_carries_0 (by decide) ?_
  refine wm_iload_n dX3_carries_2 rfl ?_
  refine wm_imul dX3_carries_3 ?_
  refine wm_iload_n dX3_carries_4 rfl ?_
  refine wm_iadd dX3_carries_5 ?_
  refine wm_istore dX3_carries_6 rfl ?_
  refine wm_iload_n dX3_carries_8 rfl ?_
  refine wm_bipush dX3_carries_9 (by decide) ?_
  refine wm_icmp dX3_carries_11 (cB_ne ⟨by omega, by omega⟩ ⟨by omega, by omega⟩) 23 rfl (fun c11 => ?_) (fun c11 => ?_)
  ·
    refine wm_iload_n dX3_carries_23 rfl ?_
    refine wm_bipush dX3_carries_24 (by decide) ?_
    refine wm_icmp dX3_carries_26 (cB_ne ⟨by omega, by omega⟩ ⟨by omega, by omega⟩) 38 rfl (fun c26 => ?_) (fun c26 => ?_)
    ·
      refine wm_iload_n dX3_carries_38 rfl ?_
      refine wm_bipush dX3_carries_39 (by decide) ?_
      refine wm_icmp dX3_carries_41 (cB_ne ⟨by omega, by omega⟩ ⟨by omega, by omega⟩) 52 rfl (fun c41 => ?_) (fun c41 => ?_)
      ·
        refine wm_iload_n dX3_carries_52 rfl ?_
        refine wm_bipush dX3_carries_53 (by decide) ?_
        refine wm_icmp dX3_carries_55 (cB_ne ⟨by omega, by omega⟩ ⟨by omega, by omega⟩) 66 rfl (fun c55 => ?_) (fun c55 => ?_)
        ·
          refine wm_iconst dX3_carries_66 ?_
          exact hfin _ (τ.2 0) rfl (by rw [car1F, if_neg (by omega), if_neg (by omega), if_neg (by omega), if_neg (by omega)]) FrM.rf hf (hb.mono (by omega)) hS HI.rf _
        ·
          refine wm_aload_n dX3_carries_58 rfl ?_
          refine wm_iload_n dX3_carries_59 rfl ?_
          refine wm_callv dX3_carries_60 (kV3_154 rfl) rfl (mc_makes (C := C) (by omega) (by have := h40 (by omega); omega) hb hS (h40 (by omega)).1 hf) (by omega) rfl rfl ?_
          rintro _ _ ⟨rfl, r1, r2, r3, r4, r5⟩
          refine wm_goto dX3_carries_63 67 rfl ?_
          exact hfin _ _ r1 (by rw [car1F, if_neg (by omega), if_neg (by omega), if_neg (by omega), if_pos (by omega)]) r4 r5 (by rw [← r1]; exact r3.mono (by have := h40 (by omega); omega)) (by rw [← r1]; exact hS.sw r2) (by rw [← r1]; exact r2.hi) _
      ·
        refine wm_aload_n dX3_carries_44 rfl ?_
        refine wm_iload_n dX3_carries_45 rfl ?_
        refine wm_callv dX3_carries_46 (kV3_163 rfl) rfl (mc_goesLost (C := C) (by have q := hok; unfold refF at q; rw [if_neg (by omega), if_pos (by omega)] at q; by_cases q2 : isM (τ.2 0) a; have := q2.1; omega; rw [if_neg q2] at q; omega) hS1 (by omega) hb) (by omega) rfl rfl ?_
        rintro _ _ ⟨rfl, rfl⟩
        refine wm_goto dX3_carries_49 67 rfl ?_
        exact hfin _ (losF (τ.2 0) a) rfl (by rw [car1F, if_neg (by omega), if_neg (by omega), if_pos (by omega)]) (hfr _) hf ((hb.los (by omega)).mono (by omega)) (hS.los (by have q := hok; unfold refF at q; rw [if_neg (by omega), if_pos (by omega)] at q; by_cases q2 : isM (τ.2 0) a; have := q2.1; omega; rw [if_neg q2] at q; omega)) ((HI.rf.upd (by have q := hok; unfold refF at q; rw [if_neg (by omega), if_pos (by omega)] at q; by_cases q2 : isM (τ.2 0) a; have := q2.1; omega; rw [if_neg q2] at q; omega)).upd (by omega)) _
    ·
      refine wm_aload_n dX3_carries_29 rfl ?_
      refine wm_iload dX3_carries_30 rfl ?_
      refine wm_callv dX3_carries_32 (kV3_169 rfl) rfl (mc_turnsBlocked (by have := hin (by omega); omega)) (by omega) rfl rfl ?_
      rintro _ _ ⟨rfl, rfl⟩
      refine wm_goto dX3_carries_35 67 rfl ?_
      exact hfin _ (trnF (τ.2 0) (12 * b + a)) rfl (by rw [car1F, if_neg (by omega), if_pos (by omega)]) (hfr _) hf ((hb.trn (by omega)).mono (by omega)) (hS.trn (by have := hin (by omega); omega)) (HI.rf.upd (by have := hin (by omega); omega)) _
  ·
    refine wm_aload_n dX3_carries_14 rfl ?_
    refine wm_iload dX3_carries_15 rfl ?_
    refine wm_callv dX3_carries_17 (kV3_160 rfl) rfl (mc_opens (by have q := hok; unfold refF at q; rw [if_neg (by omega), if_neg (by omega), if_neg (fun h => h (hin (by omega))), if_neg (by omega)] at q; by_cases q2 : τ.2 0 0 = 10; exact absurd q (by split; decide; split; decide; rw [if_pos ⟨by omega, q2⟩]; decide); omega)) (by omega) rfl rfl ?_
    rintro _ _ ⟨rfl, rfl⟩
    refine wm_goto dX3_carries_20 67 rfl ?_
    have hq := hin (by omega)
    exact hfin _ (opnF (τ.2 0) (12 * b + a)) rfl (by rw [car1F, if_pos (by omega)]) (hfr _) hf ((hb.opn (by omega) (by omega)).mono (by omega)) (hS.opn (by have q := hok; unfold refF at q; rw [if_neg (by omega), if_neg (by omega), if_neg (fun h => h hq), if_neg (by omega)] at q; by_cases q2 : τ.2 0 0 = 10; exact absurd q (by split; decide; split; decide; rw [if_pos ⟨by omega, q2⟩]; decide); omega) (by omega)) (HI.opn (by have q := hok; unfold refF at q; rw [if_neg (by omega), if_neg (by omega), if_neg (fun h => h hq), if_neg (by omega)] at q; by_cases q2 : τ.2 0 0 = 10; exact absurd q (by split; decide; split; decide; rw [if_pos ⟨by omega, q2⟩]; decide); omega)) _
end M20
