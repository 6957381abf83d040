/-! PriorityQueue, 3: made, added to, polled -/
set_option maxRecDepth 100000
abbrev pqK : CK := ckO 11 [some none, none, some none, none]
def ElN (n : Nat) (e : Nat → Int) (m : Int) : Prop := ∃ i, i < n ∧ e i = m
def InjN (n : Nat) (e : Nat → Int) : Prop := ∀ i j, i < n → j < n → e i = e j → i = j
/-- the queue p with its array q holds the members e -/
def PQs (w0 w : Nat → Int) (t : CT) (p q n : Nat) (e : Nat → Int) : Prop := (110 ≤ p ∧ t.2.1 p = some pqK ∧ wrC t p ∧ p ≠ q) ∧ (sg t p 0 = (q : Int) ∧ sg t p 1 = (n : Int) ∧ sg t p 2 = 19) ∧ QX w0 w t q ∧ n ≤ 9 ∧ (∀ i, i < n → isM w (e i) ∧ sg t q i = (mnC t (e i) : Int)) ∧ (∀ i, n ≤ i → i < 10 → sg t q i = 0) ∧ HpQ (keyW w0 w) e n ∧ InjN n e
/-- only the queue changes -/
def FrPQ (p q : Nat) (t u : CT) : Prop := u.1 = t.1 ∧ u.2.1 = t.2.1 ∧ ∀ v, v ≠ p → v ≠ q → sg u v = sg t v
section PQ3
variable {w w0 : Nat → Int} {t t0 u : CT} {a b m : Int} {d p q n k : Nat} {e : Nat → Int}
theorem FrPQ.rf : FrPQ p q t t := ⟨rfl, rfl, fun _ _ _ => rfl⟩
theorem FrPQ.tr {x : CT} (h : FrPQ p q t u) (g : FrPQ p q u x) : FrPQ p q t x := ⟨g.1.trans h.1, g.2.1.trans h.2.1, fun v h1 h2 => (g.2.2 v h1 h2).trans (h.2.2 v h1 h2)⟩
theorem FrQ.pq (h : FrQ q t u) : FrPQ p q t u := ⟨h.1, h.2.1, fun v _ h2 => h.2.2 v h2⟩
theorem FrPQ.sp {i : Nat} {v : Int} : FrPQ p q t (stC t p i v) := ⟨rfl, rfl, fun y hy _ => sg_st' hy⟩
theorem FrPQ.mn (h : FrPQ p q t u) (hp : 110 ≤ p) (hq : 110 ≤ q) (m : Int) : mnC u m = mnC t m := by unfold mnC; rw [h.2.2 103 (by omega) (by omega)]
/-- the queue's own object changes -/
theorem QX.sp {i : Nat} {v : Int} (h : QX w0 w t q) (hp : 110 ≤ p ∧ t.2.1 p = some pqK) : QX w0 w (stC t p i v) q := by
  obtain ⟨hS, hG, hW, hI, hq1, hq2, hq3⟩ := h
  have hne : ∀ m y, MemC t w m y → y ≠ p := fun m y hm r => by
    have := hm.1.2.2
    rw [r, hp.2] at this
    cases this
  have hlo : ∀ x, x < 110 → sg (stC t p i v) x = sg t x := fun x hx => sg_st' (by omega)
  refine ⟨hS, ⟨fun m m0 m1 => by rw [hlo 15 (by omega)]; exact hG.1 m m0 m1, hG.2.of hS (fun v hv => hlo v (by omega)) (by rw [hlo 10 (by omega)]) (by rw [hlo 10 (by omega)])⟩, ?_, hI, hq1, hq2, hq3⟩
  obtain ⟨⟨h1, h2, h3, h4, h5, h6⟩, h7⟩ := hW
  refine ⟨⟨fun c c0 c1 => by rw [hlo 101 (by omega), hlo 102 (by omega)]; exact h1 c c0 c1, fun m m0 m1 => ?_, fun k k0 k1 => by rw [hlo 105 (by omega)]; exact h3 k k0 k1, by rw [hlo 100 (by omega)]; exact ⟨h4, h5, h6⟩⟩, fun m hm m0 m1 => ?_⟩
  · rw [hlo 103 (by omega)]
    refine ⟨fun hm => ?_, (h2 m m0 m1).2⟩
    have hM := (h2 m m0 m1).1 hm
    have hn := hne _ _ hM
    obtain ⟨a1, b⟩ := hM
    refine ⟨a1, ?_⟩
    rw [sg_st' hn]
    exact b
  · have := h7 m hm m0 m1
    unfold mnC
    rw [hlo 103 (by omega)]
    exact this
theorem cc_pqInit (hp : 110 ≤ p) (hk : t.2.1 p = some pqK) (hw : wrC t p) (hn : p < nvC t) : Cf kap 2 rJ11_init [.inr p, .inl 10, .inr 19] t none (stC (stC (newC t (ckR 0 10) 10 (fun _ => 0)) p 0 (nvC t)) p 2 19) := by
  have kp : kd kap t p = some pqK := kd_dyn hp hk
  have kp2 : kd kap (newC t (ckR 0 10) 10 (fun _ => 0)) p = some pqK := by rw [kd_new (by omega)]; exact kp
  have h0 : Cf kap 0 rJ0_init [.inr p] t none t := by
    intro d hd
    refine wc_aload_n dJ0_init_0 rfl ?_
    refine wc_obj dJ0_init_1 rfl (by rw [kp]; rfl) rfl ?_
    refine wc_vreturn dJ0_init_4 rfl ?_
    exact ⟨rfl, rfl⟩
  have h10 : Cf kap 1 rJ10_init [.inr p] t none t := by
    intro d hd
    refine wc_aload_n dJ10_init_0 rfl ?_
    refine wc_call dJ10_init_1 rfl (h0) (by omega) (hx_I (kI30_1 rfl) rfl kp rfl rfl) ?_
    rintro _ _ ⟨rfl, rfl⟩
    refine wc_vreturn dJ10_init_4 rfl ?_
    exact ⟨rfl, rfl⟩
  intro d hd
  refine wc_aload_n dJ11_init_0 rfl ?_
  refine wc_call dJ11_init_1 rfl (h10) (by omega) (hx_I (kI31_7 rfl) rfl kp rfl rfl) ?_
  rintro _ _ ⟨rfl, rfl⟩
  refine wc_iload_n dJ11_init_4 rfl ?_
  refine wc_iconst dJ11_init_5 ?_
  refine wc_icmp dJ11_init_6 (cB_ge (by omega) (by omega)) 17 rfl (fun c6 => ?_) (fun c6 => ?_)
  ·
    refine wc_aload_n dJ11_init_17 rfl ?_
    refine wc_iload_n dJ11_init_18 rfl ?_
    refine wc_newR dJ11_init_19 (kA31_15 rfl) ⟨by omega, by omega⟩ _ rfl ?_
    refine wc_putR dJ11_init_22 (kF31_17 rfl) rfl kp2 rfl hw rfl ?_
    refine wc_aload_n dJ11_init_25 rfl ?_
    refine wc_aload_n dJ11_init_26 rfl ?_
    refine wc_putR dJ11_init_27 (kF31_21 rfl) rfl kp2 rfl hw rfl ?_
    refine wc_vreturn dJ11_init_30 rfl ?_
    exact ⟨rfl, rfl⟩
  ·
    omega
theorem cc_offer (h : PQs w0 w t p q n e) (hn : n ≤ 8) (hm : isM w m) (hnew : ¬ ElN n e m) : Ct kap 6 rJ11_add [.inr p, .inr (mnC t m)] t (fun v u => some (.inl 1) = v ∧ FrPQ p q t u ∧ ∃ e', PQs w0 w u p q (n + 1) e' ∧ ∀ m', ElN (n + 1) e' m' ↔ ElN n e m' ∨ m' = m) := by
  obtain ⟨⟨p1, p2, p3, p4⟩, ⟨s0, s1, s2⟩, hX, hn9, hel, hz, hh, hj⟩ := h
  have kp : kd kap t p = some pqK := kd_dyn p1 p2
  have hq := hX.2.2.2.2.1
  have kq : kd kap t q = some (ckR 0 10) := kd_dyn hq hX.2.2.2.2.2.1
  have hM := hX.2.2.1.mem hX.2.2.2.1.1.2 hm
  have hX1 := hX.sp (i := 3) (v := sg t p 3 + 1) ⟨p1, p2⟩
  have hF1 : FrPQ p q t (stC t p 3 (sg t p 3 + 1)) := FrPQ.sp
  have hC : QC w (stC t p 3 (sg t p 3 + 1)) q (fun i => if i = n then m else e i) (n + 1) n := by
    refine ⟨fun i hi => ?_, fun i hi hin => ?_⟩
    · dsimp only
      by_cases r : i = n
      · rw [if_pos r]; exact hm
      · rw [if_neg r]; exact (hel i (by omega)).1
    · dsimp only
      rw [if_neg hin, sg_st' (Ne.symm p4), hF1.mn p1 hq]
      exact (hel i (by omega)).2
  have hU : HU (keyW w0 w) (fun i => if i = n then m else e i) (n + 1) n := by
    refine ⟨fun i i0 i1 hin => ?_, fun h0 c c0 c1 hc => ?_⟩
    · dsimp only
      rw [if_neg hin, if_neg (by unfold parN; omega)]
      exact hh i i0 (by omega)
    · unfold parN at hc; omega
  have hsu := cc_siftUpC (k := n) (by omega) (by omega) hX1 hC hU
  rw [if_pos rfl, hF1.mn p1 hq] at hsu
  have hsift : Ct kap 4 rJ11_siftUp [.inr p, .inl (n : Int), .inr (mnC t m)] (stC t p 3 (sg t p 3 + 1)) (SfP w0 w q (n + 1) (fun i => if i = n then m else e i) (stC t p 3 (sg t p 3 + 1))) := by
    intro d hd
    refine wc_aload_n dJ11_siftUp_0 rfl ?_
    refine wc_getR (y := 19) dJ11_siftUp_1 (kF31_21 rfl) kp rfl (by rw [sg_st, if_neg (by decide), s2]; rfl) ?_
    refine wc_ifnull dJ11_siftUp_4 (Or.inr rfl) 23 rfl (fun c4 => ?_) (fun c4 => ?_)
    ·
      exact absurd c4 (by decide)
    ·
      refine wc_iload_n dJ11_siftUp_7 rfl ?_
      refine wc_aload_n dJ11_siftUp_8 rfl ?_
      refine wc_aload_n dJ11_siftUp_9 rfl ?_
      refine wc_getR (y := q) dJ11_siftUp_10 (kF31_17 rfl) kp rfl (by rw [sg_st, if_neg (by decide), s0]; exact Int.toNat_natCast q) ?_
      refine wc_aload_n dJ11_siftUp_13 rfl ?_
      refine wc_getR (y := 19) dJ11_siftUp_14 (kF31_21 rfl) kp rfl (by rw [sg_st, if_neg (by decide), s2]; rfl) ?_
      refine wc_call dJ11_siftUp_17 rfl (hsu) (by omega) (hx_S (kS31_136 rfl) (kSn31_136 rfl) rfl rfl) ?_
      rintro _ _ ⟨rfl, hr⟩
      refine wc_goto dJ11_siftUp_20 32 rfl ?_
      refine wc_vreturn dJ11_siftUp_32 rfl ?_
      exact ⟨rfl, hr⟩
  have hof : Ct kap 5 rJ11_offer [.inr p, .inr (mnC t m)] t (fun v u => some (.inl 1) = v ∧ FrPQ p q t u ∧ ∃ e', PQs w0 w u p q (n + 1) e' ∧ ∀ m', ElN (n + 1) e' m' ↔ ElN n e m' ∨ m' = m) := by
    intro d hd
    refine wc_aload_n dJ11_offer_0 rfl ?_
    refine wc_ifnonnull dJ11_offer_1 (Or.inr (by rw [hM.kd]; rfl)) 12 rfl (fun c1 => ?_) (fun c1 => ?_)
    ·
      refine wc_aload_n dJ11_offer_12 rfl ?_
      refine wc_dup dJ11_offer_13 ?_
      refine wc_getI dJ11_offer_14 (kF31_93 rfl) kp rfl ?_
      refine wc_iconst dJ11_offer_17 ?_
      refine wc_iadd dJ11_offer_18 ?_
      refine wc_putI dJ11_offer_19 (kF31_93 rfl) rfl kp rfl p3 (Or.inl rfl) ?_
      refine wc_aload_n dJ11_offer_22 rfl ?_
      refine wc_getI dJ11_offer_23 (kF31_58 rfl) kp rfl ?_
      rw [sg_st, if_neg (by decide), s1]
      refine wc_istore_n dJ11_offer_26 rfl ?_
      refine wc_iload_n dJ11_offer_27 rfl ?_
      refine wc_aload_n dJ11_offer_28 rfl ?_
      refine wc_getR (y := q) dJ11_offer_29 (kF31_17 rfl) kp rfl (by rw [sg_st, if_neg (by decide), s0]; exact Int.toNat_natCast q) ?_
      refine wc_alenR dJ11_offer_32 kq ?_
      refine wc_icmp dJ11_offer_33 (cB_lt (show rng _ by omega) (show rng _ by omega)) 43 rfl (fun c33 => ?_) (fun c33 => ?_)
      ·
        refine wc_aload_n dJ11_offer_43 rfl ?_
        refine wc_iload_n dJ11_offer_44 rfl ?_
        refine wc_aload_n dJ11_offer_45 rfl ?_
        refine wc_call dJ11_offer_46 rfl (hsift) (by omega) (hx_V (kV31_100 rfl) rfl kp rfl rfl) ?_
        rintro _ _ ⟨rfl, e', hG, hel', hsm, hhp, hz'⟩
        refine wc_aload_n dJ11_offer_49 rfl ?_
        refine wc_iload_n dJ11_offer_50 rfl ?_
        refine wc_iconst dJ11_offer_51 ?_
        refine wc_iadd dJ11_offer_52 ?_
        refine wc_putI dJ11_offer_53 (kF31_58 rfl) rfl (kd_dyn p1 (by rw [hG.2.1]; exact p2)) rfl (wrC_wk p3 (by unfold n0C; rw [hG.1]; rfl)) (Or.inl rfl) ?_
        refine wc_iconst dJ11_offer_56 ?_
        refine wc_breturn dJ11_offer_57 rfl (by omega) ?_
        have hFG : FrPQ p q t _ := hF1.tr hG.pq
        have hFA := hFG.tr (FrPQ.sp (i := 1) (v := (n : Int) + 1))
        have hXn := (hX1.fr hG).sp (i := 1) (v := (n : Int) + 1) ⟨p1, by rw [hG.2.1]; exact p2⟩
        refine ⟨rfl, hFA, e', ⟨⟨p1, by rw [hFA.2.1]; exact p2, wrC_wk p3 (by unfold n0C; rw [hFA.1]), p4⟩, ⟨?_, ?_, ?_⟩, hXn, by omega, fun i hi => ⟨(hel' i hi).1, ?_⟩, fun i i0 i1 => ?_, hhp, ?_⟩, fun m' => ?_⟩
        · rw [sg_st, if_neg (by decide), hG.2.2 p p4, sg_st, if_neg (by decide)]; exact s0
        · rw [sg_st, if_pos rfl]; omega
        · rw [sg_st, if_neg (by decide), hG.2.2 p p4, sg_st, if_neg (by decide)]; exact s2
        · rw [sg_st' (Ne.symm p4), (hel' i hi).2, hF1.mn p1 hq, hFA.mn p1 hq]
        · rw [sg_st' (Ne.symm p4), hz' i i0, sg_st' (Ne.symm p4)]
          exact hz i (by omega) i1
        · refine hsm.2.2 (fun i j hi hjj he => ?_)
          dsimp only at he
          by_cases ri : i = n
          · by_cases rj : j = n
            · omega
            · rw [if_pos ri, if_neg rj] at he
              exact absurd ⟨j, by omega, he.symm⟩ hnew
          · by_cases rj : j = n
            · rw [if_neg ri, if_pos rj] at he
              exact absurd ⟨i, by omega, he⟩ hnew
            · rw [if_neg ri, if_neg rj] at he
              exact hj i j (by omega) (by omega) he
        · constructor
          · rintro ⟨i, hi, rfl⟩
            obtain ⟨j, hj, r⟩ := hsm.1 i hi
            dsimp only at r
            by_cases rj : j = n
            · rw [if_pos rj] at r; exact Or.inr r
            · rw [if_neg rj] at r; exact Or.inl ⟨j, by omega, r.symm⟩
          · rintro (⟨i, hi, rfl⟩ | rfl)
            · obtain ⟨j, hj, r⟩ := hsm.2.1 i (by omega)
              dsimp only at r
              rw [if_neg (by omega)] at r
              exact ⟨j, hj, r.symm⟩
            · obtain ⟨j, hj, r⟩ := hsm.2.1 n (by omega)
              dsimp only at r
              rw [if_pos rfl] at r
              exact ⟨j, hj, r.symm⟩
      ·
        omega
    ·
      exact absurd c1 (by have := hM.1.1; omega)
  intro d hd
  refine wc_aload_n dJ11_add_0 rfl ?_
  refine wc_aload_n dJ11_add_1 rfl ?_
  refine wc_call dJ11_add_2 rfl (hof) (by omega) (hx_V (kV31_89 rfl) rfl kp rfl rfl) ?_
  rintro _ _ ⟨rfl, hr⟩
  refine wc_breturn dJ11_add_5 rfl (by omega) ?_
  exact ⟨rfl, hr⟩
theorem cc_pqEmpty (h : PQs w0 w t p q n e) : Cb kap 1 rJ0_isEmpty [.inr p] t (n = 0) := by
  obtain ⟨⟨p1, p2, p3, p4⟩, ⟨s0, s1, s2⟩, hX, hn9, hel, hz, hh, hj⟩ := h
  have kp : kd kap t p = some pqK := kd_dyn p1 p2
  have hs : Cf kap 0 rJ11_size [.inr p] t (some (.inl (n : Int))) t := by
    intro d hd
    refine wc_aload_n dJ11_size_0 rfl ?_
    refine wc_getI dJ11_size_1 (kF31_58 rfl) kp rfl ?_
    rw [s1]
    refine wc_ireturn dJ11_size_4 rfl ?_
    exact ⟨rfl, rfl⟩
  intro d hd
  refine wc_aload_n dJ0_isEmpty_0 rfl ?_
  refine wc_call dJ0_isEmpty_1 rfl (hs) (by omega) (hx_V (kV20_7 rfl) rfl kp rfl rfl) ?_
  rintro _ _ ⟨rfl, rfl⟩
  refine wc_if dJ0_isEmpty_4 (cB_ne (show rng _ by omega) ⟨by omega, by omega⟩) 11 rfl (fun c4 => ?_) (fun c4 => ?_)
  ·
    refine wc_iconst dJ0_isEmpty_11 ?_
    refine wc_breturn dJ0_isEmpty_12 rfl (by omega) ?_
    first | exact ⟨rfl, Or.inl ⟨by omega, rfl⟩⟩ | exact ⟨rfl, Or.inr ⟨by omega, rfl⟩⟩
  ·
    refine wc_iconst dJ0_isEmpty_7 ?_
    refine wc_goto dJ0_isEmpty_8 12 rfl ?_
    refine wc_breturn dJ0_isEmpty_12 rfl (by omega) ?_
    first | exact ⟨rfl, Or.inl ⟨by omega, rfl⟩⟩ | exact ⟨rfl, Or.inr ⟨by omega, rfl⟩⟩
theorem cc_pqRemove (h : PQs w0 w t p q (n + 1) e) : Ct kap 5 rJ10_remove [.inr p] t (fun v u => some (.inr (mnC t (e 0))) = v ∧ FrPQ p q t u ∧ (∀ i, i < n + 1 → keyW w0 w (e 0) ≤ keyW w0 w (e i)) ∧ ∃ e', PQs w0 w u p q n e' ∧ ∀ m', ElN n e' m' ↔ ElN (n + 1) e m' ∧ m' ≠ e 0) := by
  obtain ⟨⟨p1, p2, p3, p4⟩, ⟨s0, s1, s2⟩, hX, hn9, hel, hz, hh, hj⟩ := h
  have kp : kd kap t p = some pqK := kd_dyn p1 p2
  have hq := hX.2.2.2.2.1
  have kq : kd kap t q = some (ckR 0 10) := kd_dyn hq hX.2.2.2.2.2.1
  have hM0 := hX.2.2.1.mem hX.2.2.2.1.1.2 (hel 0 (by omega)).1
  have hmin : ∀ i, i < n + 1 → keyW w0 w (e 0) ≤ keyW w0 w (e i) := hh.root
  have hy0 : (sg t q 0).toNat = mnC t (e 0) := by rw [(hel 0 (by omega)).2]; exact Int.toNat_natCast _
  have hpoll : Ct kap 4 rJ11_poll [.inr p] t (fun v u => some (.inr (mnC t (e 0))) = v ∧ FrPQ p q t u ∧ (∀ i, i < n + 1 → keyW w0 w (e 0) ≤ keyW w0 w (e i)) ∧ ∃ e', PQs w0 w u p q n e' ∧ ∀ m', ElN n e' m' ↔ ElN (n + 1) e m' ∧ m' ≠ e 0) := by
    have hX3 : QX w0 w (stC (stC (stC t p 3 (sg t p 3 + 1)) p 1 (n : Int)) q n 0) q := (((hX.sp (i := 3) (v := sg t p 3 + 1) ⟨p1, p2⟩).sp (i := 1) (v := (n : Int)) ⟨p1, p2⟩).fr FrQ.st)
    have hF3 : FrPQ p q t (stC (stC (stC t p 3 (sg t p 3 + 1)) p 1 (n : Int)) q n 0) := (FrPQ.sp.tr FrPQ.sp).tr FrQ.st.pq
    have hq3 : ∀ i, sg (stC (stC (stC t p 3 (sg t p 3 + 1)) p 1 (n : Int)) q n 0) q i = if i = n then 0 else sg t q i := fun i => by
      rw [sg_st, sg_st' (Ne.symm p4), sg_st' (Ne.symm p4)]
    have hp3 : ∀ i, sg (stC (stC (stC t p 3 (sg t p 3 + 1)) p 1 (n : Int)) q n 0) p i = if i = 1 then (n : Int) else if i = 3 then sg t p 3 + 1 else sg t p i := fun i => by
      rw [sg_st' p4, sg_st, sg_st]
    have hset : ∀ e' : Nat → Int, (∀ m', ElN n e' m' ↔ ∃ i, i < n + 1 ∧ i ≠ 0 ∧ e i = m') → ∀ m', ElN n e' m' ↔ ElN (n + 1) e m' ∧ m' ≠ e 0 := fun e' hE m' => by
      rw [hE m']
      constructor
      · rintro ⟨i, hi, hi0, rfl⟩
        exact ⟨⟨i, hi, rfl⟩, fun r => hi0 (hj i 0 hi (by omega) r)⟩
      · rintro ⟨⟨i, hi, rfl⟩, hne⟩
        exact ⟨i, hi, fun r => hne (by rw [r]), rfl⟩
    intro d hd
    by_cases hn0 : n = 0
    · subst hn0
      refine wc_aload_n dJ11_poll_0 rfl ?_
      refine wc_getR (y := q) dJ11_poll_1 (kF31_17 rfl) kp rfl (by rw [s0]; exact Int.toNat_natCast q) ?_
      refine wc_dup dJ11_poll_4 ?_
      refine wc_astore_n dJ11_poll_5 rfl ?_
      refine wc_iconst dJ11_poll_6 ?_
      refine wc_aaload (y := mnC t (e 0)) dJ11_poll_7 kq rfl rfl ⟨by omega, by omega⟩ hy0 ?_
      refine wc_dup dJ11_poll_8 ?_
      refine wc_astore_n dJ11_poll_9 rfl ?_
      refine wc_ifnull dJ11_poll_10 (Or.inr (by rw [hM0.kd]; rfl)) 79 rfl (fun c10 => ?_) (fun c10 => ?_)
      ·
        exact absurd c10 (by have := hM0.1.1; omega)
      ·
        refine wc_aload_n dJ11_poll_13 rfl ?_
        refine wc_dup dJ11_poll_14 ?_
        refine wc_getI dJ11_poll_15 (kF31_93 rfl) kp rfl ?_
        refine wc_iconst dJ11_poll_18 ?_
        refine wc_iadd dJ11_poll_19 ?_
        refine wc_putI dJ11_poll_20 (kF31_93 rfl) rfl kp rfl p3 (Or.inl rfl) ?_
        refine wc_aload_n dJ11_poll_23 rfl ?_
        refine wc_aload_n dJ11_poll_24 rfl ?_
        refine wc_dup dJ11_poll_25 ?_
        refine wc_getI dJ11_poll_26 (kF31_58 rfl) kp rfl ?_
        rw [sg_st, if_neg (by decide), s1]
        refine wc_iconst dJ11_poll_29 ?_
        refine wc_isub dJ11_poll_30 ?_
        rw [show (((0 + 1 : Nat) : Int) - 1) = ((0 : Nat) : Int) from rfl]
        refine wc_dup_x1 dJ11_poll_31 ?_
        refine wc_putI dJ11_poll_32 (kF31_58 rfl) rfl kp rfl p3 (Or.inl rfl) ?_
        refine wc_dup dJ11_poll_35 ?_
        refine wc_istore_n dJ11_poll_36 rfl ?_
        refine wc_aaload (y := mnC t (e 0)) dJ11_poll_37 kq rfl rfl ⟨by omega, by omega⟩ (by rw [sg_st' (Ne.symm p4), sg_st' (Ne.symm p4)]; exact hy0) ?_
        refine wc_astore dJ11_poll_38 rfl ?_
        refine wc_aload_n dJ11_poll_40 rfl ?_
        refine wc_iload_n dJ11_poll_41 rfl ?_
        refine wc_null dJ11_poll_42 ?_
        refine wc_aastore dJ11_poll_43 kq rfl hX.2.2.2.2.2.2 rfl ⟨by omega, by omega⟩ (Or.inl rfl) _ rfl ?_
        rw [Int.toNat_natCast]
        refine wc_iload_n dJ11_poll_44 rfl ?_
        refine wc_if dJ11_poll_45 (cB_le (by decide) ⟨by omega, by omega⟩) 79 rfl (fun c45 => ?_) (fun c45 => ?_)
        ·
          refine wc_aload_n dJ11_poll_79 rfl ?_
          refine wc_areturn dJ11_poll_80 rfl ?_
          refine ⟨rfl, hF3, hmin, e, ⟨⟨p1, p2, p3, p4⟩, ⟨?_, ?_, ?_⟩, hX3, by omega, fun i hi => by omega, fun i i0 i1 => ?_, fun i i0 i1 => by omega, fun i j hi => by omega⟩, hset e (fun m' => ⟨fun ⟨i, hi, _⟩ => by omega, fun ⟨i, hi, hi0, _⟩ => by omega⟩)⟩
          · exact (hp3 0).trans (by rw [if_neg (by decide), if_neg (by decide)]; exact s0)
          · exact (hp3 1).trans (by rw [if_pos rfl])
          · exact (hp3 2).trans (by rw [if_neg (by decide), if_neg (by decide)]; exact s2)
          · refine (hq3 i).trans ?_
            by_cases r : i = 0
            · rw [if_pos r]
            · rw [if_neg r]; exact hz i (by omega) i1
        ·
          omega
    · have hyn : (sg t q n).toNat = mnC t (e n) := by rw [(hel n (by omega)).2]; exact Int.toNat_natCast _
      have hMn := hX.2.2.1.mem hX.2.2.2.1.1.2 (hel n (by omega)).1
      have hC : QC w (stC (stC (stC t p 3 (sg t p 3 + 1)) p 1 (n : Int)) q n 0) q (fun i => if i = 0 then e n else e i) n 0 := by
        refine ⟨fun i hi => ?_, fun i hi hin => ?_⟩
        · dsimp only
          split
          · exact (hel n (by omega)).1
          · exact (hel i (by omega)).1
        · dsimp only
          rw [if_neg hin, hq3, if_neg (by omega), hF3.mn p1 hq]
          exact (hel i (by omega)).2
      have hU : HD (keyW w0 w) (fun i => if i = 0 then e n else e i) n 0 := by
        refine ⟨fun i i0 i1 hi => ?_, fun h0 => by omega⟩
        dsimp only
        rw [if_neg hi, if_neg (by omega)]
        exact hh i i0 (by omega)
      have hsd := cc_siftDown (n := n) (by omega) (by omega) hX3 hC hU
      rw [if_pos rfl, hF3.mn p1 hq] at hsd
      have en : (((n + 1 : Nat) : Int) - 1) = (n : Int) := by omega
      refine wc_aload_n dJ11_poll_0 rfl ?_
      refine wc_getR (y := q) dJ11_poll_1 (kF31_17 rfl) kp rfl (by rw [s0]; exact Int.toNat_natCast q) ?_
      refine wc_dup dJ11_poll_4 ?_
      refine wc_astore_n dJ11_poll_5 rfl ?_
      refine wc_iconst dJ11_poll_6 ?_
      refine wc_aaload (y := mnC t (e 0)) dJ11_poll_7 kq rfl rfl ⟨by omega, by omega⟩ hy0 ?_
      refine wc_dup dJ11_poll_8 ?_
      refine wc_astore_n dJ11_poll_9 rfl ?_
      refine wc_ifnull dJ11_poll_10 (Or.inr (by rw [hM0.kd]; rfl)) 79 rfl (fun c10 => ?_) (fun c10 => ?_)
      ·
        exact absurd c10 (by have := hM0.1.1; omega)
      ·
        refine wc_aload_n dJ11_poll_13 rfl ?_
        refine wc_dup dJ11_poll_14 ?_
        refine wc_getI dJ11_poll_15 (kF31_93 rfl) kp rfl ?_
        refine wc_iconst dJ11_poll_18 ?_
        refine wc_iadd dJ11_poll_19 ?_
        refine wc_putI dJ11_poll_20 (kF31_93 rfl) rfl kp rfl p3 (Or.inl rfl) ?_
        refine wc_aload_n dJ11_poll_23 rfl ?_
        refine wc_aload_n dJ11_poll_24 rfl ?_
        refine wc_dup dJ11_poll_25 ?_
        refine wc_getI dJ11_poll_26 (kF31_58 rfl) kp rfl ?_
        rw [sg_st, if_neg (by decide), s1]
        refine wc_iconst dJ11_poll_29 ?_
        refine wc_isub dJ11_poll_30 ?_
        rw [en]
        refine wc_dup_x1 dJ11_poll_31 ?_
        refine wc_putI dJ11_poll_32 (kF31_58 rfl) rfl kp rfl p3 (Or.inl rfl) ?_
        refine wc_dup dJ11_poll_35 ?_
        refine wc_istore_n dJ11_poll_36 rfl ?_
        refine wc_aaload (y := mnC t (e n)) dJ11_poll_37 kq rfl rfl ⟨by omega, by omega⟩ (by rw [sg_st' (Ne.symm p4), sg_st' (Ne.symm p4), Int.toNat_natCast]; exact hyn) ?_
        refine wc_astore dJ11_poll_38 rfl ?_
        refine wc_aload_n dJ11_poll_40 rfl ?_
        refine wc_iload_n dJ11_poll_41 rfl ?_
        refine wc_null dJ11_poll_42 ?_
        refine wc_aastore dJ11_poll_43 kq rfl hX.2.2.2.2.2.2 rfl ⟨by omega, by omega⟩ (Or.inl rfl) _ rfl ?_
        rw [Int.toNat_natCast]
        refine wc_iload_n dJ11_poll_44 rfl ?_
        refine wc_if dJ11_poll_45 (cB_le (show rng _ by omega) ⟨by omega, by omega⟩) 79 rfl (fun c45 => ?_) (fun c45 => ?_)
        ·
          omega
        ·
          refine wc_aload_n dJ11_poll_48 rfl ?_
          refine wc_getR (y := 19) dJ11_poll_49 (kF31_21 rfl) kp rfl (by rw [sg_st' p4, sg_st, if_neg (by decide), sg_st, if_neg (by decide), s2]; rfl) ?_
          refine wc_dup dJ11_poll_52 ?_
          refine wc_astore dJ11_poll_53 rfl ?_
          refine wc_ifnonnull dJ11_poll_55 (Or.inr rfl) 69 rfl (fun c55 => ?_) (fun c55 => ?_)
          ·
            refine wc_iconst dJ11_poll_69 ?_
            refine wc_aload dJ11_poll_70 rfl ?_
            refine wc_aload_n dJ11_poll_72 rfl ?_
            refine wc_iload_n dJ11_poll_73 rfl ?_
            refine wc_aload dJ11_poll_74 rfl ?_
            refine wc_call dJ11_poll_76 rfl (hsd) (by omega) (hx_S (kS31_129 rfl) (kSn31_129 rfl) rfl rfl) ?_
            rintro _ _ ⟨rfl, e', hG, hel', hsm, hhp, hz'⟩
            refine wc_aload_n dJ11_poll_79 rfl ?_
            refine wc_areturn dJ11_poll_80 rfl ?_
            have hFA := hF3.tr (hG.pq (p := p))
            refine ⟨rfl, hFA, hmin, e', ⟨⟨p1, by rw [hFA.2.1]; exact p2, wrC_wk p3 (by unfold n0C; rw [hFA.1]), p4⟩, ⟨?_, ?_, ?_⟩, hX3.fr hG, by omega, fun i hi => ⟨(hel' i hi).1, ?_⟩, fun i i0 i1 => ?_, hhp, ?_⟩, hset e' (fun m' => ?_)⟩
            · rw [hG.2.2 p p4, hp3, if_neg (by decide), if_neg (by decide)]; exact s0
            · rw [hG.2.2 p p4, hp3, if_pos rfl]
            · rw [hG.2.2 p p4, hp3, if_neg (by decide), if_neg (by decide)]; exact s2
            · rw [(hel' i hi).2, hF3.mn p1 hq, hFA.mn p1 hq]
            · rw [hz' i i0, hq3]
              by_cases r : i = n
              · rw [if_pos r]
              · rw [if_neg r]; exact hz i (by omega) i1
            · refine hsm.2.2 (fun i j hi hj' he => ?_)
              dsimp only at he
              by_cases ri : i = 0
              · by_cases rj : j = 0
                · omega
                · rw [if_pos ri, if_neg rj] at he
                  have := hj n j (by omega) (by omega) he
                  omega
              · by_cases rj : j = 0
                · rw [if_neg ri, if_pos rj] at he
                  have := hj i n (by omega) (by omega) he
                  omega
                · rw [if_neg ri, if_neg rj] at he
                  exact hj i j (by omega) (by omega) he
            · constructor
              · rintro ⟨i, hi, rfl⟩
                obtain ⟨j, hj', r⟩ := hsm.1 i hi
                dsimp only at r
                by_cases rj : j = 0
                · rw [if_pos rj] at r; exact ⟨n, by omega, hn0, r.symm⟩
                · rw [if_neg rj] at r; exact ⟨j, by omega, rj, r.symm⟩
              · rintro ⟨i, hi, hi0, rfl⟩
                by_cases rn : i = n
                · obtain ⟨j, hj', r⟩ := hsm.2.1 0 (by omega)
                  dsimp only at r
                  rw [if_pos rfl] at r
                  exact ⟨j, hj', by rw [rn]; exact r.symm⟩
                · obtain ⟨j, hj', r⟩ := hsm.2.1 i (by omega)
                  dsimp only at r
                  rw [if_neg hi0] at r
                  exact ⟨j, hj', r.symm⟩
          ·
            exact absurd c55 (by decide)
  intro d hd
  refine wc_aload_n dJ10_remove_0 rfl ?_
  refine wc_call dJ10_remove_1 rfl (hpoll) (by omega) (hx_V (kV30_20 rfl) rfl kp rfl rfl) ?_
  rintro _ _ ⟨rfl, hr⟩
  refine wc_astore_n dJ10_remove_4 rfl ?_
  refine wc_aload_n dJ10_remove_5 rfl ?_
  have hk0 : kd kap _ (mnC t (e 0)) = _ := (kd_dyn hM0.1.1 (by rw [hr.1.2.1]; exact hM0.1.2.2))
  refine wc_ifnull dJ10_remove_6 (Or.inr (by rw [hk0]; rfl)) 11 rfl (fun c6 => ?_) (fun c6 => ?_)
  ·
    exact absurd c6 (by have := hM0.1.1; omega)
  ·
    refine wc_aload_n dJ10_remove_9 rfl ?_
    refine wc_areturn dJ10_remove_10 rfl ?_
    exact ⟨rfl, hr⟩
end PQ3
