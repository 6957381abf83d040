/-! THE CLASS'S METHODS, 26: a world becomes another -/
set_option maxRecDepth 100000
/-- a world that is copied: object o, arrays b0..b4 -/
def WS5 (T : Nat → Option CK) (t : CT) (o b0 b1 b2 b3 b4 : Nat) (w : Nat → Int) : Prop := (GtF T t o 1 0 b0 ∧ GtF T t o 1 1 b1 ∧ GtF T t o 1 2 b2 ∧ GtF T t o 1 3 b3 ∧ GtF T t o 1 4 b4) ∧ (GtI T t o 1 5 ∧ GtI T t o 1 6 ∧ GtI T t o 1 7) ∧ (kd T t b0 = some (ckI 1 120) ∧ kd T t b1 = some (ckI 0 120) ∧ kd T t b2 = some (ckR 1 10) ∧ kd T t b3 = some (ckR 2 3) ∧ kd T t b4 = some (ckI 0 8)) ∧ (WC t o b0 b1 b2 b4 w ∧ ShA t b3 w) ∧ BitO w ∧ w 0 ≤ 10
/-- where the copy goes: object x, arrays from a on -/
def WT5 (T : Nat → Option CK) (t : CT) (x a : Nat) : Prop := (kd T t x = some woR ∧ wrC t x ∧ x < a) ∧ (∀ j, j < 5 → sg t x j = ((a + j : Nat) : Int)) ∧ (kd T t a = some (ckI 1 120) ∧ kd T t (a + 1) = some (ckI 0 120) ∧ kd T t (a + 2) = some (ckR 1 10) ∧ kd T t (a + 3) = some (ckR 2 3) ∧ kd T t (a + 4) = some (ckI 0 8)) ∧ (110 ≤ a ∧ n0C t ≤ a ∧ 1000 ≤ a)
section WL3
variable {T : Nat → Option CK} {w : Nat → Int} {τ t u t4 : CT} {m c v : Int} {d x y o n i j k a b b0 b1 b2 b3 b4 s p : Nat} {kk : CK} {Q : Option AV → CT → Prop}
theorem cp_y {j : Nat} : sg (cpC t x y s p n) y j = if p ≤ j ∧ j < p + n then sg t x (s + (j - p)) else sg t y j := by
  unfold cpC sg
  dsimp only
  by_cases h : p ≤ j ∧ j < p + n
  · rw [if_pos ⟨rfl, h⟩, if_pos h]
  · rw [if_neg (fun q => h q.2), if_neg h]
theorem cp_o {v : Nat} (h : v ≠ y) : sg (cpC t x y s p n) v = sg t v := by
  unfold cpC sg
  funext j
  dsimp only
  rw [if_neg (fun q => h q.1)]
theorem GtF.fr (h : GtF T t x 1 j y) (hk : kd T u x = kd T t x) (hs : sg u x = sg t x) : GtF T u x 1 j y := by
  obtain ⟨fs, h1, h2⟩ := h
  exact ⟨fs, hk.trans h1, by rw [hs]; exact h2⟩
theorem GtI.fr (h : GtI T t x 1 j) (hk : kd T u x = kd T t x) : GtI T u x 1 j := by
  obtain ⟨fs, h1, h2⟩ := h
  exact ⟨fs, hk.trans h1, h2⟩
/-- the members copied so far -/
def MB (w : Nat → Int) (t4 t : CT) (a2 : Nat) (i : Int) : Prop := (n0C t = n0C t4 ∧ (nvC t4 ≤ nvC t ∧ nvC t ≤ nvC t4 + i.toNat) ∧ uC t ≤ uC t4 + 7 * i.toNat) ∧ (∀ y, y < nvC t4 → t.2.1 y = t4.2.1 y) ∧ (∀ y, y < nvC t4 → y ≠ a2 → sg t y = sg t4 y) ∧ ∀ m, 0 ≤ m → m < i → (isM w m → MemC t w m (sg t a2 m.toNat).toNat ∧ nvC t4 ≤ (sg t a2 m.toNat).toNat) ∧ (¬ isM w m → sg t a2 m.toNat = 0)
theorem cc_becomes_64 (h0 : w 0 ≤ 10) (hs2 : GtF T t4 o 1 2 b2) (ho : o < nvC t4) (hb2 : kd T t4 b2 = some (ckR 1 10)) (hbl : b2 < nvC t4) (hsrc : ∀ m : Int, 0 ≤ m → m < 10 → (isM w m → MemC t4 w m (sg t4 b2 m.toNat).toNat) ∧ (¬ isM w m → sg t4 b2 m.toNat = 0)) (hx : GtF T t4 x 1 2 a) (hxl : x < nvC t4) (ha : kd T t4 a = some (ckR 1 10)) (hwa : wrC t4 a) (hal : a < nvC t4) (hne : a ≠ b2 ∧ a ≠ o ∧ a ≠ x) (hnv : 1000 ≤ n0C t4 ∧ n0C t4 ≤ nvC t4) (hd : 2 ≤ d) :
    ∀ (k : Nat) (i : Int) (t : CT), i + k = 10 → 0 ≤ i → MB w t4 t a i → (∀ u, MB w t4 u a 10 → Wc T d rX1_becomes 108 [some (.inr x), some (.inr o), some (.inl 10)] [] u (nQ Q)) → Wc T d rX1_becomes 64 [some (.inr x), some (.inr o), some (.inl i)] [] t (nQ Q) := by
  intro k
  induction k with
  | zero =>
    intro i t hi i0 hM K
    have e : i = 10 := by omega
    subst e
    refine wc_iload_n dX1_becomes_64 rfl ?_
    refine wc_bipush dX1_becomes_65 (by decide) ?_
    refine wc_icmp dX1_becomes_67 (cB_ge ⟨by omega, by omega⟩ ⟨by omega, by omega⟩) 108 rfl (fun c67 => ?_) (fun c67 => ?_)
    ·
      exact K t hM
    ·
      omega
  | succ k ih =>
    intro i t hi i0 hM K
    obtain ⟨⟨g0, ⟨g1, g2⟩, g3⟩, g4, g5, g6⟩ := id hM
    have kd4 : ∀ y, y < nvC t4 → kd T t y = kd T t4 y := fun y hy => kd_lt hy (g4 y hy)
    have kx := hx.fr (kd4 x hxl) (g5 x hxl (Ne.symm hne.2.2))
    have ko := hs2.fr (kd4 o ho) (g5 o ho (Ne.symm hne.2.1))
    have kb2 : kd T t b2 = some (ckR 1 10) := (kd4 b2 hbl).trans hb2
    have ka : kd T t a = some (ckR 1 10) := (kd4 a hal).trans ha
    have wa : wrC t a := wrC_wk hwa g0
    have eb : sg t b2 = sg t4 b2 := g5 b2 hbl (Ne.symm hne.1)
    have hsi := hsrc i i0 (by omega)
    by_cases hmm : isM w i
    · have hMo := hsi.1 hmm
      have hyo := hMo.1.2.1
      have eo : sg t (sg t4 b2 i.toNat).toNat = sg t4 (sg t4 b2 i.toNat).toNat := g5 _ hyo (fun r => by
        have h1 := hMo.kd (T := T)
        rw [r, ha] at h1
        cases h1)
      have kyo : kd T t (sg t4 b2 i.toNat).toNat = some memK := (kd4 _ hyo).trans hMo.kd
      have kyo2 : kd T (newC t memK 7 (fun _ => 0)) (sg t4 b2 i.toNat).toNat = some memK := by rw [kd_new (by omega)]; exact kyo
      have kxn := kx.fr (u := newC t memK 7 (fun _ => 0)) (kd_new (by omega)) (sg_new (by omega))
      have kon := ko.fr (u := newC t memK 7 (fun _ => 0)) (kd_new (by omega)) (sg_new (by omega))
      have kb2n : kd T (newC t memK 7 (fun _ => 0)) b2 = some (ckR 1 10) := by rw [kd_new (by omega)]; exact kb2
      have kan : kd T (newC t memK 7 (fun _ => 0)) a = some (ckR 1 10) := by rw [kd_new (by omega)]; exact ka
      have kyn : kd T (newC t memK 7 (fun _ => 0)) (nvC t) = some memK := kd_nw (by omega)
      have wyn : wrC (newC t memK 7 (fun _ => 0)) (nvC t) := ⟨by omega, Or.inr (by show n0C t ≤ nvC t; omega)⟩
      have hnn : (sg t4 b2 i.toNat).toNat ≠ 0 := by have := hMo.1.1; omega
      refine wc_iload_n dX1_becomes_64 rfl ?_
      refine wc_bipush dX1_becomes_65 (by decide) ?_
      refine wc_icmp dX1_becomes_67 (cB_ge ⟨by omega, by omega⟩ ⟨by omega, by omega⟩) 108 rfl (fun c67 => ?_) (fun c67 => ?_)
      ·
        omega
      ·
        refine wc_aload_n dX1_becomes_70 rfl ?_
        refine wc_getG (y := a) dX1_becomes_71 (kF1_21 rfl) kx ?_
        refine wc_iload_n dX1_becomes_74 rfl ?_
        refine wc_aload_n dX1_becomes_75 rfl ?_
        refine wc_getG (y := b2) dX1_becomes_76 (kF1_21 rfl) ko ?_
        refine wc_iload_n dX1_becomes_79 rfl ?_
        refine wc_aaload (y := (sg t4 b2 i.toNat).toNat) dX1_becomes_80 kb2 rfl rfl ⟨by omega, by omega⟩ (by rw [eb]) ?_
        refine wc_ifnonnull dX1_becomes_81 (Or.inr (by rw [kyo]; rfl)) 88 rfl (fun c81 => ?_) (fun c81 => ?_)
        ·
          refine wc_new dX1_becomes_88 (kN1_19 rfl) rfl ?_
          refine wc_dup dX1_becomes_91 ?_
          refine wc_aload_n dX1_becomes_92 rfl ?_
          refine wc_getG (y := b2) dX1_becomes_93 (kF1_21 rfl) kon ?_
          refine wc_iload_n dX1_becomes_96 rfl ?_
          refine wc_aaload (y := (sg t4 b2 i.toNat).toNat) dX1_becomes_97 kb2n rfl rfl ⟨by omega, by omega⟩ (by rw [sg_new (by omega), eb]) ?_
          refine wc_call dX1_becomes_98 rfl (cc_memInit kyn wyn kyo2 (by omega)) (by omega) (hx_I (kI1_52 rfl) rfl kyn rfl rfl) ?_
          rintro _ _ ⟨rfl, hFq, hcp⟩
          refine wc_aastore dX1_becomes_101 (by unfold kd; rw [hFq.2.1]; exact kan) rfl (wrC_wk wa (by unfold n0C; rw [hFq.1]; rfl)) rfl ⟨by omega, by omega⟩ (Or.inr ⟨4, _, by unfold kd; rw [hFq.2.1]; exact kyn, rfl⟩) _ rfl ?_
          refine wc_iinc dX1_becomes_102 rfl ?_
          refine wc_goto dX1_becomes_105 64 rfl ?_
          rename_i t1
          have hsn : ∀ y, y ≠ nvC t → sg t1 y = sg t y := fun y hy => by rw [hFq.2.2 y hy, sg_new hy]
          have hsy : ∀ j, j < 7 → sg t1 (nvC t) j = sg t4 (sg t4 b2 i.toNat).toNat j := fun j hj => by
            rw [hcp j hj, sg_new (by omega), eo]
          have hD1 : ∀ y, t1.2.1 y = if y = nvC t then some memK else t.2.1 y := fun y => by rw [hFq.2.1]; rfl
          have ha2 : ∀ j, sg (stC t1 a i.toNat ((nvC t : Nat) : Int)) a j = if j = i.toNat then ((nvC t : Nat) : Int) else sg t a j := fun j => by rw [sg_st, hsn a (by omega)]
          have hnv1 : nvC (stC t1 a i.toNat ((nvC t : Nat) : Int)) = nvC t + 1 := by show t1.1.2.1 = _; rw [hFq.1]; rfl
          have hu1 : uC (stC t1 a i.toNat ((nvC t : Nat) : Int)) = uC t + 7 := by show t1.1.2.2 = _; rw [hFq.1]; rfl
          have hn1 : n0C (stC t1 a i.toNat ((nvC t : Nat) : Int)) = n0C t := by show t1.1.1 = _; rw [hFq.1]; rfl
          refine ih (i + 1) _ (by omega) (by omega) ⟨⟨by rw [hn1, g0], by rw [hnv1]; omega, by rw [hu1]; omega⟩, fun y hy => ?_, fun y hy hya => ?_, fun m m0 m1 => ?_⟩ K
          · show t1.2.1 y = _
            rw [hD1, if_neg (by omega), g4 y hy]
          · rw [sg_st' hya, hsn y (by omega), g5 y hy hya]
          · rw [ha2]
            by_cases e : m = i
            · rw [if_pos (by rw [e]), Int.toNat_natCast, e]
              refine ⟨fun _ => ⟨⟨⟨by omega, by rw [hnv1]; omega, ?_⟩, ?_⟩, by omega⟩, fun q => absurd hmm q⟩
              · show t1.2.1 (nvC t) = _
                rw [hD1, if_pos rfl]
              · have hq := hMo.2
                rw [sg_st' (by omega), hsy 0 (by omega), hsy 1 (by omega), hsy 2 (by omega), hsy 3 (by omega), hsy 4 (by omega), hsy 5 (by omega), hsy 6 (by omega)]
                exact hq
            · rw [if_neg (by omega)]
              have h6 := g6 m m0 (by omega)
              refine ⟨fun q => ?_, h6.2⟩
              obtain ⟨⟨⟨c1, c2, c3⟩, c4⟩, c5⟩ := h6.1 q
              have hya : (sg t a m.toNat).toNat ≠ a := fun r => by
                have h1 := kd_dyn (T := T) c1 c3
                rw [r, ka] at h1
                cases h1
              refine ⟨⟨⟨c1, by rw [hnv1]; omega, ?_⟩, ?_⟩, c5⟩
              · show t1.2.1 _ = _
                rw [hD1, if_neg (by omega), c3]
              · rw [sg_st' hya, hsn _ (by omega)]
                exact c4
        ·
          exact absurd c81 hnn
    · have hz := hsi.2 hmm
      have hz2 : (sg t b2 i.toNat).toNat = 0 := by rw [eb, hz]; rfl
      refine wc_iload_n dX1_becomes_64 rfl ?_
      refine wc_bipush dX1_becomes_65 (by decide) ?_
      refine wc_icmp dX1_becomes_67 (cB_ge ⟨by omega, by omega⟩ ⟨by omega, by omega⟩) 108 rfl (fun c67 => ?_) (fun c67 => ?_)
      ·
        omega
      ·
        refine wc_aload_n dX1_becomes_70 rfl ?_
        refine wc_getG (y := a) dX1_becomes_71 (kF1_21 rfl) kx ?_
        refine wc_iload_n dX1_becomes_74 rfl ?_
        refine wc_aload_n dX1_becomes_75 rfl ?_
        refine wc_getG (y := b2) dX1_becomes_76 (kF1_21 rfl) ko ?_
        refine wc_iload_n dX1_becomes_79 rfl ?_
        refine wc_aaload (y := 0) dX1_becomes_80 kb2 rfl rfl ⟨by omega, by omega⟩ hz2 ?_
        refine wc_ifnonnull dX1_becomes_81 (Or.inl rfl) 88 rfl (fun c81 => ?_) (fun c81 => ?_)
        ·
          exact absurd rfl c81
        ·
          refine wc_null dX1_becomes_84 ?_
          refine wc_goto dX1_becomes_85 101 rfl ?_
          refine wc_aastore dX1_becomes_101 ka rfl wa rfl ⟨by omega, by omega⟩ (Or.inl rfl) _ rfl ?_
          refine wc_iinc dX1_becomes_102 rfl ?_
          refine wc_goto dX1_becomes_105 64 rfl ?_
          refine ih (i + 1) _ (by omega) (by omega) ⟨⟨g0, ⟨g1, by show nvC t ≤ _; omega⟩, by show uC t ≤ _; omega⟩, g4, fun y hy hya => by rw [sg_st' hya, g5 y hy hya], fun m m0 m1 => ?_⟩ K
          rw [sg_st]
          by_cases e : m = i
          · rw [if_pos (by rw [e])]
            exact ⟨fun q => absurd (by rw [← e]; exact q) hmm, fun _ => rfl⟩
          · rw [if_neg (by omega)]
            have h6 := g6 m m0 (by omega)
            refine ⟨fun q => ?_, h6.2⟩
            obtain ⟨⟨⟨c1, c2, c3⟩, c4⟩, c5⟩ := h6.1 q
            have hya : (sg t a m.toNat).toNat ≠ a := fun r => by
              have h1 := kd_dyn (T := T) c1 c3
              rw [r, ka] at h1
              cases h1
            exact ⟨⟨⟨c1, c2, c3⟩, by rw [sg_st' hya]; exact c4⟩, c5⟩
end WL3
