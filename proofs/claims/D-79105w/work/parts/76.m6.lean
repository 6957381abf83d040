/-! THE MODEL'S ROUND -/
set_option maxRecDepth 100000
/-- who acts: member and distance, the farthest first -/
abbrev TL : Type := List (Int × Int)
def tg (l : TL) (i : Nat) : Int × Int := l.getD i (0, 0)
def posF (l : TL) (dd : Int) : Nat → Nat
  | 0 => 0
  | p + 1 => if (tg l p).2 < dd then posF l dd p else p + 1
def insF (l : TL) (x : Int × Int) : TL := l.take (posF l x.2 l.length) ++ x :: l.drop (posF l x.2 l.length)
theorem posF_le (l : TL) (dd : Int) : ∀ p, posF l dd p ≤ p := by
  intro p
  induction p with
  | zero => exact Nat.le_refl _
  | succ p ih =>
    unfold posF
    split
    · omega
    · exact Nat.le_refl _
theorem insF_len (l : TL) (x : Int × Int) : (insF l x).length = l.length + 1 := by
  have := posF_le l x.2 l.length
  simp [insF]
  omega
theorem tg_at (l : TL) (x : Int × Int) {p : Nat} (hp : p ≤ l.length) (i : Nat) : tg (l.take p ++ x :: l.drop p) i = if i < p then tg l i else if i = p then x else tg l (i - 1) := by
  have hlen : (l.take p).length = p := by rw [List.length_take]; omega
  unfold tg
  rw [List.getD_eq_getElem?_getD, List.getD_eq_getElem?_getD, List.getD_eq_getElem?_getD]
  by_cases h1 : i < p
  · rw [if_pos h1, List.getElem?_append_left (by omega), List.getElem?_take_of_lt h1]
  · rw [if_neg h1, List.getElem?_append_right (by omega), hlen]
    by_cases h2 : i = p
    · rw [if_pos h2, show i - p = 0 by omega]
      rfl
    · rw [if_neg h2]
      obtain ⟨k, hk⟩ : ∃ k, i - p = k + 1 := ⟨i - p - 1, by omega⟩
      rw [hk, List.getElem?_cons_succ, List.getElem?_drop, show p + k = i - 1 by omega]
theorem tg_ins (l : TL) (x : Int × Int) (i : Nat) : tg (insF l x) i = if i < posF l x.2 l.length then tg l i else if i = posF l x.2 l.length then x else tg l (i - 1) := tg_at l x (posF_le l x.2 l.length) i
def bgF (sl : Int → Int) (w : Nat → Int) (m : Int) : Nat → Int := if isM w m then (if m = ledF w then updW w (12 + 6 * m + 4).toNat (w (12 + 6 * m + 4).toNat + 1) else updW (updW w (12 + 6 * m + 4).toNat (w (12 + 6 * m + 4).toNat + 1)) (12 + 6 * m + 5).toNat (if sl m < 0 then 2 else 1)) else w
def inB (sl : Int → Int) (FF : Int → Int → Int) (w : Nat → Int) (m : Int) : Bool := decide (isM w m ∧ m ≠ ledF w ∧ 0 ≤ sl m ∧ ¬ FF (sl m) (celF w m) = 0)
def bgnF (sl : Int → Int) (FF : Int → Int → Int) : Nat → Int → (Nat → Int) × TL → (Nat → Int) × TL
  | 0, _, s => s
  | k + 1, m, s => bgnF sl FF k (m + 1) (bgF sl s.1 m, if inB sl FF s.1 m = true then insF s.2 (m, FF (sl m) (celF s.1 m)) else s.2)
def rd2F (sl : Int → Int) (FF : Int → Int → Int) (w1 : Nat → Int) : Nat → Int := (bgnF sl FF 10 0 (w1, [])).2.foldl (fun u x => actF sl FF u x.1) (bgnF sl FF 10 0 (w1, [])).1
def roundF (w : Nat → Int) : Nat → Int := rd2F (slF (leadF (cntW w 0))) (frF (leadF (cntW w 0))) (leadF (cntW w 0))
def AR (l : TL) (t : MT) : Prop := ∀ i, i < l.length → t.2 11 i = (tg l i).1 ∧ t.2 12 i = (tg l i).2
def FB (t0 t : MT) : Prop := t.1 = t0.1 ∧ ∀ a, a ≠ 0 → a ≠ 11 → a ≠ 12 → t.2 a = t0.2 a
theorem FB.sA {t0 t : MT} {a i : Nat} {v : Int} (h : FB t0 t) (ha : a = 11 ∨ a = 12) : FB t0 (stA t a i v) := ⟨h.1, fun b h0 h1 h2 => by
  rw [← h.2 b h0 h1 h2]
  funext j
  unfold stA
  dsimp only
  rw [if_neg (by omega)]⟩
theorem FB.sW {t0 t : MT} {w : Nat → Int} (h : FB t0 t) : FB t0 (setW t w) := ⟨h.1, fun b h0 h1 h2 => by
  rw [← h.2 b h0 h1 h2]
  cases b with
  | zero => exact absurd rfl h0
  | succ b => rfl⟩
section M10
variable {τ : MT} {m c v x y z b n dd : Int} {d : Nat} {Q : Option Int → MT → Prop}
/-- the shift loop of the insertion -/
theorem mc_round_124 {l : TL} (hl : l.length ≤ 9) {o2 : Option AV} {w : Nat → Int} (hlf : ∀ i, rng (tg l i).2) (hdd : rng dd) : ∀ (p : Nat) (t : MT), p ≤ l.length → t.2 0 = w → (∀ i, i < p → t.2 11 i = (tg l i).1 ∧ t.2 12 i = (tg l i).2) → (∀ i, p < i → i ≤ l.length → t.2 11 i = (tg l (i - 1)).1 ∧ t.2 12 i = (tg l (i - 1)).2) →
    (∀ t', t'.1 = t.1 → (∀ a, a ≠ 11 → a ≠ 12 → t'.2 a = t.2 a) → (∀ i, i < posF l dd p → t'.2 11 i = (tg l i).1 ∧ t'.2 12 i = (tg l i).2) → (∀ i, posF l dd p < i → i ≤ l.length → t'.2 11 i = (tg l (i - 1)).1 ∧ t'.2 12 i = (tg l (i - 1)).2) → Wm d rX3_round 180 [some (.inr 1), some (.inl l.length), o2, some (.inl dd), some (.inl (posF l dd p))] [] t' Q) →
    Wm d rX3_round 124 [some (.inr 1), some (.inl l.length), o2, some (.inl dd), some (.inl p)] [] t Q := by
  intro p
  induction p with
  | zero =>
    intro t hp hw h1 h2 K
    refine wm_iload dX3_round_124 rfl ?_
    refine wm_if dX3_round_126 (cB_le ⟨by omega, by omega⟩ ⟨by omega, by omega⟩) 180 rfl (fun c126 => ?_) (fun c126 => ?_)
    ·
      exact K t rfl (fun _ _ _ => rfl) h1 h2
    ·
      omega
  | succ p ih =>
    intro t hp hw h1 h2 K
    have e1 : (((p + 1 : Nat) : Int) - 1).toNat = p := by omega
    have e2 : ((p + 1 : Nat) : Int).toNat = p + 1 := by omega
    have hq := h1 p (by omega)
    refine wm_iload dX3_round_124 rfl ?_
    refine wm_if dX3_round_126 (cB_le ⟨by omega, by omega⟩ ⟨by omega, by omega⟩) 180 rfl (fun c126 => ?_) (fun c126 => ?_)
    ·
      omega
    ·
      refine wm_aload_n dX3_round_129 rfl ?_
      refine wm_getA dX3_round_130 (kF3_34 rfl) rfl ?_
      refine wm_iload dX3_round_133 rfl ?_
      refine wm_iconst dX3_round_135 ?_
      refine wm_isub dX3_round_136 ?_
      refine wm_iaload dX3_round_137 rfl ⟨by omega, by omega⟩ _ rfl ?_
      refine wm_iload_n dX3_round_138 rfl ?_
      refine wm_icmp dX3_round_139 (cB_ge (by rw [e1, hq.2]; exact hlf p) hdd) 180 rfl (fun c139 => ?_) (fun c139 => ?_)
      ·
        rw [e1, hq.2] at c139
        have hps : posF l dd (p + 1) = p + 1 := by rw [posF, if_neg (by omega)]
        rw [hps] at K
        exact K t rfl (fun _ _ _ => rfl) h1 h2
      ·
        refine wm_aload_n dX3_round_142 rfl ?_
        refine wm_getA dX3_round_143 (kF3_31 rfl) rfl ?_
        refine wm_iload dX3_round_146 rfl ?_
        refine wm_aload_n dX3_round_148 rfl ?_
        refine wm_getA dX3_round_149 (kF3_31 rfl) rfl ?_
        refine wm_iload dX3_round_152 rfl ?_
        refine wm_iconst dX3_round_154 ?_
        refine wm_isub dX3_round_155 ?_
        refine wm_iaload dX3_round_156 rfl ⟨by omega, by omega⟩ _ rfl ?_
        refine wm_iastore dX3_round_157 rfl ⟨by omega, by omega⟩ _ rfl ?_
        refine wm_aload_n dX3_round_158 rfl ?_
        refine wm_getA dX3_round_159 (kF3_34 rfl) rfl ?_
        refine wm_iload dX3_round_162 rfl ?_
        refine wm_aload_n dX3_round_164 rfl ?_
        refine wm_getA dX3_round_165 (kF3_34 rfl) rfl ?_
        refine wm_iload dX3_round_168 rfl ?_
        refine wm_iconst dX3_round_170 ?_
        refine wm_isub dX3_round_171 ?_
        refine wm_iaload dX3_round_172 rfl ⟨by omega, by omega⟩ _ rfl ?_
        refine wm_iastore dX3_round_173 rfl ⟨by omega, by omega⟩ _ rfl ?_
        refine wm_iinc dX3_round_174 rfl ?_
        refine wm_goto dX3_round_177 124 rfl ?_
        rw [e1, hq.2] at c139
        have hps : posF l dd (p + 1) = posF l dd p := by rw [posF, if_pos (by omega)]
        rw [hps] at K
        rw [e1, e2, show ((p + 1 : Nat) : Int) + -1 = (p : Int) by omega]
        refine ih _ (by omega) hw (fun i hi => ?_) (fun i hi1 hi2 => ?_) (fun t' f1 f2 f3 f4 => K t' f1 (fun a a1 a2 => ?_) f3 f4)
        · have := h1 i (by omega)
          have e3 : ¬ i = p + 1 := by omega
          simp [stA, e3, this]
        · by_cases e3 : i = p + 1
          · subst e3
            simp [stA, hq]
          · have := h2 i (by omega) hi2
            simp [stA, e3, this]
        · rw [f2 a a1 a2]
          funext i
          simp [stA, a1, a2]
theorem upd_ne {w : Nat → Int} {i j : Nat} {v : Int} (h : j ≠ i) : updW w i v j = w j := if_neg h
/-- the loop over the members: who acts -/
theorem mc_round_18 {t0 : MT} {C : Int} (hC : 200 ≤ C ∧ C < 2000000000) (hf : HF t0) (hs : ∀ o, 0 ≤ o → o ≤ 9 → gsl t0 o ≤ 9 ∧ -1 ≤ gsl t0 o) (hd : 3 ≤ d) : ∀ (k : Nat) (m : Int) (w : Nat → Int) (l : TL) (t : MT) (o3 o4 : Option AV), m + k = 10 → 0 ≤ m → bdW (C - 2 * k) w → (0 ≤ w 0 ∧ w 0 ≤ 10) → (∀ m, 0 ≤ m → m ≤ 9 → celF w m < 120) → t.2 0 = w → FB t0 t → AR l t → (l.length : Int) ≤ m → (∀ i, -1 ≤ (tg l i).2 ∧ (tg l i).2 ≤ 1000) → (∀ i, i < l.length → 0 ≤ (tg l i).1 ∧ (tg l i).1 < m ∧ isM w (tg l i).1 ∧ 0 ≤ gsl t0 (tg l i).1) →
    (∀ t' w' l' o3 o4, (w', l') = bgnF (gsl t0) (gfr t0) k m (w, l) → SC w w' → bdW C w' → t'.2 0 = w' → FB t0 t' → AR l' t' → l'.length ≤ 10 → (∀ i, i < l'.length → 0 ≤ (tg l' i).1 ∧ (tg l' i).1 < 10 ∧ isM w' (tg l' i).1 ∧ 0 ≤ gsl t0 (tg l' i).1) → Wm d rX3_round 205 [some (.inr 1), some (.inl l'.length), some (.inl 10), o3, o4] [] t' Q) →
    Wm d rX3_round 18 [some (.inr 1), some (.inl l.length), some (.inl m), o3, o4] [] t Q := by
  intro k
  induction k with
  | zero =>
    intro m w l t o3 o4 hm h0 hb hw0 hc hw hF hA hlm hlr hli K
    have e : m = 10 := by omega
    subst e
    refine wm_iload_n dX3_round_18 rfl ?_
    refine wm_bipush dX3_round_19 (by decide) ?_
    refine wm_icmp dX3_round_21 (cB_ge ⟨by omega, by omega⟩ ⟨by omega, by omega⟩) 205 rfl (fun c21 => ?_) (fun c21 => ?_)
    ·
      exact K t w l _ _ rfl SC.rf (hb.mono (by omega)) hw hF hA (by omega) (fun i hi => hli i hi)
    ·
      omega
  | succ k ih =>
    intro m w l t o3 o4 hm h0 hb hw0 hc hw hF hA hlm hlr hli K
    have hr := hb.rng (by omega)
    have hcm := hc m h0 (by omega)
    have h7 : t.2 7 m.toNat = gsl t0 m := by rw [hF.2 7 (by decide) (by decide) (by decide)]; rfl
    have hsm := hs m h0 (by omega)
    have b1 : bdW (C - 2 * k - 1) (updW w (12 + 6 * m + 4).toNat (w (12 + 6 * m + 4).toNat + 1)) := hb.inc.mono (by omega)
    have s1 : SC w (updW w (12 + 6 * m + 4).toNat (w (12 + 6 * m + 4).toNat + 1)) := SC.upd (by omega) (fun m' h1 h2 => by omega)
    have s2 : ∀ v, SC w (updW (updW w (12 + 6 * m + 4).toNat (w (12 + 6 * m + 4).toNat + 1)) (12 + 6 * m + 5).toNat v) := fun v => s1.tr (SC.upd (by omega) (fun m' h1 h2 => by omega))
    have hled : ledF (updW w (12 + 6 * m + 4).toNat (w (12 + 6 * m + 4).toNat + 1)) = ledF w := (SW.of s1 hc).led hw0.2
    have hnext : ∀ (t' : MT) (w' : Nat → Int) (l' : TL) (o3 o4 : Option AV), w' = bgF (gsl t0) w m → l' = (if inB (gsl t0) (gfr t0) w m = true then insF l (m, gfr t0 (gsl t0 m) (celF w m)) else l) → SC w w' → bdW (C - 2 * k) w' → t'.2 0 = w' → FB t0 t' → AR l' t' → (l'.length : Int) ≤ m + 1 → (∀ i, -1 ≤ (tg l' i).2 ∧ (tg l' i).2 ≤ 1000) → (∀ i, i < l'.length → 0 ≤ (tg l' i).1 ∧ (tg l' i).1 < m + 1 ∧ isM w' (tg l' i).1 ∧ 0 ≤ gsl t0 (tg l' i).1) → Wm d rX3_round 199 [some (.inr 1), some (.inl l'.length), some (.inl m), o3, o4] [] t' Q := fun t' w' l' o3 o4 a1 a2 a3 a4 a5 a6 a7 a8 a9 a10 => by
      refine wm_iinc dX3_round_199 rfl ?_
      refine wm_goto dX3_round_202 18 rfl ?_
      refine ih (m + 1) w' l' t' o3 o4 (by omega) (by omega) a4 (by rw [a3.1 0 (by omega)]; exact hw0) (fun m' h1 h2 => by rw [a3.2 m' h1 h2]; exact hc m' h1 h2) a5 a6 a7 a8 a9 a10 (fun t2 w2 l2 o3 o4 c1 c2 c3 c4 c5 c6 c7 c8 => ?_)
      exact K t2 w2 l2 o3 o4 (by rw [c1, bgnF, a1, a2]) (a3.tr c2) c3 c4 c5 c6 c7 c8
    have hmem : ∀ w', SC w w' → ∀ i, i < l.length → 0 ≤ (tg l i).1 ∧ (tg l i).1 < m + 1 ∧ isM w' (tg l i).1 ∧ 0 ≤ gsl t0 (tg l i).1 := fun w' hs i hi => by
      have := hli i hi
      exact ⟨this.1, by omega, ((SW.of hs hc).isM hw0.2 _).mpr this.2.2.1, this.2.2.2⟩
    have hcd : celF w m = w (12 + 6 * m + 0).toNat := rfl
    have hcell : (updW (updW w (12 + 6 * m + 4).toNat (w (12 + 6 * m + 4).toNat + 1)) (12 + 6 * m + 5).toNat 1) (12 + 6 * m + 0).toNat = celF w m := (s2 1).2 m h0 (by omega)
    have hfr := hf (120 * gsl t0 m + celF w m).toNat
    have hgd : gfr t0 (gsl t0 m) (celF w m) = t0.2 3 (120 * gsl t0 m + celF w m).toNat := rfl
    refine wm_iload_n dX3_round_18 rfl ?_
    refine wm_bipush dX3_round_19 (by decide) ?_
    refine wm_icmp dX3_round_21 (cB_ge ⟨by omega, by omega⟩ ⟨by omega, by omega⟩) 205 rfl (fun c21 => ?_) (fun c21 => ?_)
    ·
      omega
    ·
      refine wm_aload_n dX3_round_24 rfl ?_
      refine wm_iload_n dX3_round_25 rfl ?_
      refine wm_callv dX3_round_26 (kV3_65 rfl) rfl (mc_isMember (by omega) (by rw [hw]; exact hw0) (by rw [hw]; exact hr)) (by omega) rfl rfl ?_
      rintro _ _ ⟨rfl, ⟨h26, rfl⟩ | ⟨h26, rfl⟩⟩
      rw [hw] at h26
      ·
        refine wm_ifT dX3_round_29 (by decide) 35 rfl ?_
        refine wm_aload_n dX3_round_35 rfl ?_
        refine wm_iload_n dX3_round_36 rfl ?_
        refine wm_iconst dX3_round_37 ?_
        refine wm_aload_n dX3_round_38 rfl ?_
        refine wm_iload_n dX3_round_39 rfl ?_
        refine wm_iconst dX3_round_40 ?_
        refine wm_callv dX3_round_41 (kV3_61 rfl) rfl (mc_of (by omega)) (by omega) rfl rfl ?_
        rintro _ _ ⟨rfl, rfl⟩
        refine wm_iconst dX3_round_44 ?_
        refine wm_iadd dX3_round_45 ?_
        refine wm_callv dX3_round_46 (kV3_114 rfl) rfl (mc_layW (by omega)) (by omega) rfl rfl ?_
        rintro _ _ ⟨rfl, rfl⟩
        rw [hw]
        refine wm_iload_n dX3_round_49 rfl ?_
        refine wm_aload_n dX3_round_50 rfl ?_
        refine wm_callv dX3_round_51 (kV3_85 rfl) rfl (mc_leader (τ := setW t (updW w (12 + 6 * m + 4).toNat (w (12 + 6 * m + 4).toNat + 1))) (by show 0 ≤ updW w _ _ 0 ∧ updW w _ _ 0 ≤ 10; rw [upd_ne (by omega)]; exact hw0) (b1.rng (by omega))) (by omega) rfl rfl ?_
        rintro _ _ ⟨rfl, rfl⟩
        have hl := ledF_rng w hw0.2
        rw [show ledF ((setW t (updW w (12 + 6 * m + 4).toNat (w (12 + 6 * m + 4).toNat + 1))).2 0) = ledF w from hled]
        refine wm_icmp dX3_round_54 (cB_ne (by omega) (by omega)) 60 rfl (fun c54 => ?_) (fun c54 => ?_)
        ·
          refine wm_aload_n dX3_round_60 rfl ?_
          refine wm_iload_n dX3_round_61 rfl ?_
          refine wm_iconst dX3_round_62 ?_
          refine wm_aload_n dX3_round_63 rfl ?_
          refine wm_getA dX3_round_64 (kF3_25 rfl) rfl ?_
          refine wm_iload_n dX3_round_67 rfl ?_
          refine wm_iaload dX3_round_68 rfl ⟨by omega, by omega⟩ _ rfl ?_
          refine wm_if dX3_round_69 (cB_ge (by show rng (t.2 7 m.toNat); omega) ⟨by omega, by omega⟩) 76 rfl (fun c69 => ?_) (fun c69 => ?_)
          ·
            refine wm_iconst dX3_round_76 ?_
            refine wm_callv dX3_round_77 (kV3_114 rfl) rfl (mc_layW (by omega)) (by omega) rfl rfl ?_
            rintro _ _ ⟨rfl, rfl⟩
            refine wm_aload_n dX3_round_80 rfl ?_
            refine wm_getA dX3_round_81 (kF3_25 rfl) rfl ?_
            refine wm_iload_n dX3_round_84 rfl ?_
            refine wm_iaload dX3_round_85 rfl ⟨by omega, by omega⟩ _ rfl ?_
            refine wm_if dX3_round_86 (cB_ge (by show rng (t.2 7 m.toNat); omega) ⟨by omega, by omega⟩) 92 rfl (fun c86 => ?_) (fun c86 => ?_)
            ·
              refine wm_aload_n dX3_round_92 rfl ?_
              refine wm_getA dX3_round_93 (kF3_13 rfl) rfl ?_
              refine wm_bipush dX3_round_96 (by decide) ?_
              refine wm_aload_n dX3_round_98 rfl ?_
              refine wm_getA dX3_round_99 (kF3_25 rfl) rfl ?_
              refine wm_iload_n dX3_round_102 rfl ?_
              refine wm_iaload dX3_round_103 rfl ⟨by omega, by omega⟩ _ rfl ?_
              refine wm_imul dX3_round_104 ?_
              refine wm_aload_n dX3_round_105 rfl ?_
              refine wm_iload_n dX3_round_106 rfl ?_
              refine wm_iconst dX3_round_107 ?_
              refine wm_callv dX3_round_108 (kV3_61 rfl) rfl (mc_of (by omega)) (by omega) rfl rfl ?_
              rintro _ _ ⟨rfl, rfl⟩
              refine wm_iadd dX3_round_111 ?_
              refine wm_iaload dX3_round_112 rfl (by show 0 ≤ 120 * t.2 7 m.toNat + (updW (updW w (12 + 6 * m + 4).toNat (w (12 + 6 * m + 4).toNat + 1)) (12 + 6 * m + 5).toNat 1) (12 + 6 * m + 0).toNat ∧ 120 * t.2 7 m.toNat + (updW (updW w (12 + 6 * m + 4).toNat (w (12 + 6 * m + 4).toNat + 1)) (12 + 6 * m + 5).toNat 1) (12 + 6 * m + 0).toNat < 1440; rw [hcell]; have := h26.2; have c86 : 0 ≤ t.2 7 m.toNat := c86; omega) _ rfl ?_
              rw [show (setW (setW t (updW w (12 + 6 * m + 4).toNat (w (12 + 6 * m + 4).toNat + 1))) (updW ((setW t (updW w (12 + 6 * m + 4).toNat (w (12 + 6 * m + 4).toNat + 1))).2 0) (12 + 6 * m + 5).toNat 1)).2 3 (120 * (setW (setW t (updW w (12 + 6 * m + 4).toNat (w (12 + 6 * m + 4).toNat + 1))) (updW ((setW t (updW w (12 + 6 * m + 4).toNat (w (12 + 6 * m + 4).toNat + 1))).2 0) (12 + 6 * m + 5).toNat 1)).2 7 m.toNat + (setW (setW t (updW w (12 + 6 * m + 4).toNat (w (12 + 6 * m + 4).toNat + 1))) (updW ((setW t (updW w (12 + 6 * m + 4).toNat (w (12 + 6 * m + 4).toNat + 1))).2 0) (12 + 6 * m + 5).toNat 1)).2 0 (12 + 6 * m + 0).toNat).toNat = gfr t0 (gsl t0 m) (celF w m) from by
                show t.2 3 (120 * t.2 7 m.toNat + (updW (updW w (12 + 6 * m + 4).toNat (w (12 + 6 * m + 4).toNat + 1)) (12 + 6 * m + 5).toNat 1) (12 + 6 * m + 0).toNat).toNat = _
                rw [h7, hcell, hF.2 3 (by decide) (by decide) (by decide)]
                rfl]
              refine wm_istore_n dX3_round_113 rfl ?_
              refine wm_iload_n dX3_round_114 rfl ?_
              refine wm_if dX3_round_115 (cB_ne (by omega) ⟨by omega, by omega⟩) 121 rfl (fun c115 => ?_) (fun c115 => ?_)
              ·
                refine wm_iload_n dX3_round_121 rfl ?_
                refine wm_istore dX3_round_122 rfl ?_
                have c86' : 0 ≤ t.2 7 m.toNat := c86
                have hin : inB (gsl t0) (gfr t0) w m = true := by unfold inB; rw [decide_eq_true_eq]; exact ⟨h26, c54, by omega, c115⟩
                have hpl := posF_le l (gfr t0 (gsl t0 m) (celF w m)) l.length
                refine mc_round_124 (w := updW (updW w (12 + 6 * m + 4).toNat (w (12 + 6 * m + 4).toNat + 1)) (12 + 6 * m + 5).toNat 1) (by omega) (fun i => by have := hlr i; omega) (by omega) l.length _ (Nat.le_refl _) rfl hA (fun i h1 h2 => by omega) (fun t' f1 f2 f3 f4 => ?_)
                refine wm_aload_n dX3_round_180 rfl ?_
                refine wm_getA dX3_round_181 (kF3_31 rfl) rfl ?_
                refine wm_iload dX3_round_184 rfl ?_
                refine wm_iload_n dX3_round_186 rfl ?_
                refine wm_iastore dX3_round_187 rfl ⟨by omega, by omega⟩ _ rfl ?_
                refine wm_aload_n dX3_round_188 rfl ?_
                refine wm_getA dX3_round_189 (kF3_34 rfl) rfl ?_
                refine wm_iload dX3_round_192 rfl ?_
                refine wm_iload_n dX3_round_194 rfl ?_
                refine wm_iastore dX3_round_195 rfl ⟨by omega, by omega⟩ _ rfl ?_
                refine wm_iinc dX3_round_196 rfl ?_
                have hg2 : ∀ a, a ≠ 0 → a ≠ 11 → a ≠ 12 → t'.2 a = t0.2 a := fun a a0 a1 a2 => by rw [f2 a a1 a2]; exact hF.sW.sW.2 a a0 a1 a2
                have hFt : FB t0 t' := ⟨f1.trans hF.1, hg2⟩
                have hlen := insF_len l (m, gfr t0 (gsl t0 m) (celF w m))
                have htg := tg_ins l (m, gfr t0 (gsl t0 m) (celF w m))
                show Wm d rX3_round 199 [some (.inr 1), some (.inl ((l.length : Int) + 1)), some (.inl m), _, _] [] _ Q
                rw [show ((l.length : Int) + 1) = (((insF l (m, gfr t0 (gsl t0 m) (celF w m))).length : Nat) : Int) by rw [hlen]; omega]
                refine hnext _ _ _ _ _ (by rw [bgF, if_pos h26, if_neg c54, if_neg (by omega)]) (by rw [if_pos hin]) (s2 1) ((b1.upd (by omega)).mono (by omega)) (f2 0 (by decide) (by decide)) ((hFt.sA (Or.inl rfl)).sA (Or.inr rfl)) (fun i hi => ?_) (by rw [hlen]; omega) (fun i => ?_) (fun i hi => ?_)
                · rw [hlen] at hi
                  rw [htg i]
                  dsimp only
                  by_cases e1 : i < posF l (gfr t0 (gsl t0 m) (celF w m)) l.length
                  · have := f3 i e1
                    have e2 : ¬ i = posF l (gfr t0 (gsl t0 m) (celF w m)) l.length := by omega
                    simp [stA, e1, e2, this]
                  · by_cases e2 : i = posF l (gfr t0 (gsl t0 m) (celF w m)) l.length
                    · simp [stA, e2]
                    · have := f4 i (by omega) (by omega)
                      simp [stA, e1, e2, this]
                · rw [htg i]
                  dsimp only
                  split
                  · exact hlr i
                  · split
                    · dsimp only; omega
                    · exact hlr _
                · rw [hlen] at hi
                  rw [htg i]
                  have hme := hmem _ (s2 1)
                  dsimp only
                  split
                  · rename_i e1
                    exact hme i (by omega)
                  · split
                    · exact ⟨h0, by dsimp only; omega, ((SW.of (s2 1) hc).isM hw0.2 _).mpr h26, by dsimp only; omega⟩
                    · exact hme _ (by omega)
              ·
                refine wm_goto dX3_round_118 199 rfl ?_
                exact hnext _ _ l _ _ (by rw [bgF, if_pos h26, if_neg c54, if_neg (by have c86 : 0 ≤ t.2 7 m.toNat := c86; omega)]) (by rw [if_neg (by unfold inB; rw [decide_eq_true_eq]; exact fun h => h.2.2.2 (Classical.not_not.mp c115))]) (s2 1) ((b1.upd (by omega)).mono (by omega)) rfl hF.sW.sW hA (by omega) hlr (hmem _ (s2 1))
            ·
              exact absurd (show 0 ≤ t.2 7 m.toNat from c69) c86
          ·
            refine wm_iconst dX3_round_72 ?_
            refine wm_goto dX3_round_73 77 rfl ?_
            refine wm_callv dX3_round_77 (kV3_114 rfl) rfl (mc_layW (by omega)) (by omega) rfl rfl ?_
            rintro _ _ ⟨rfl, rfl⟩
            refine wm_aload_n dX3_round_80 rfl ?_
            refine wm_getA dX3_round_81 (kF3_25 rfl) rfl ?_
            refine wm_iload_n dX3_round_84 rfl ?_
            refine wm_iaload dX3_round_85 rfl ⟨by omega, by omega⟩ _ rfl ?_
            refine wm_if dX3_round_86 (cB_ge (by show rng (t.2 7 m.toNat); omega) ⟨by omega, by omega⟩) 92 rfl (fun c86 => ?_) (fun c86 => ?_)
            ·
              exact absurd (show 0 ≤ t.2 7 m.toNat from c86) c69
            ·
              refine wm_goto dX3_round_89 199 rfl ?_
              exact hnext _ _ l _ _ (by rw [bgF, if_pos h26, if_neg c54, if_pos (by have c86 : ¬ 0 ≤ t.2 7 m.toNat := c86; omega)]) (by rw [if_neg (by unfold inB; rw [decide_eq_true_eq]; exact fun h => by have c86 : ¬ 0 ≤ t.2 7 m.toNat := c86; have := h.2.2.1; omega)]) (s2 2) ((b1.upd (by omega)).mono (by omega)) rfl hF.sW.sW hA (by omega) hlr (hmem _ (s2 2))
        ·
          refine wm_goto dX3_round_57 199 rfl ?_
          exact hnext _ _ l _ _ (by rw [bgF, if_pos h26, if_pos (by omega)]) (by rw [if_neg (by unfold inB; rw [decide_eq_true_eq]; exact fun h => h.2.1 (by omega))]) s1 (b1.mono (by omega)) rfl hF.sW hA (by omega) hlr (hmem _ s1)
      ·
        refine wm_ifF dX3_round_29 (by decide) 35 rfl ?_
        refine wm_goto dX3_round_32 199 rfl ?_
        rw [hw] at h26
        exact hnext t w l _ _ (by rw [bgF, if_neg h26]) (by rw [if_neg (by unfold inB; rw [decide_eq_true_eq]; exact fun h => h26 h.1)]) SC.rf (hb.mono (by omega)) hw hF hA (by omega) hlr (hmem w SC.rf)
end M10
