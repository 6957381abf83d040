/-! THE MODEL'S ROUND, whole -/
set_option maxRecDepth 100000
/-- the shape of a row -/
def WS (w : Nat → Int) : Prop := (0 ≤ w 0 ∧ w 0 ≤ 10) ∧ (0 ≤ w 3 ∧ w 3 ≤ 2) ∧ (∀ m, 0 ≤ m → m ≤ 9 → -1 ≤ celF w m ∧ celF w m < 120) ∧ (0 ≤ sltF w (w 3) ∧ sltF w (w 3) ≤ 10) ∧ (0 ≤ ancF w (w 3) ∧ ancF w (w 3) ≤ 9) ∧ (∀ k, 0 ≤ k → k < sltF w (w 3) → (-1000 ≤ colF w (w 3) k ∧ colF w (w 3) k ≤ 1000) ∧ -1000 ≤ rowF w (w 3) k ∧ rowF w (w 3) k ≤ 1000) ∧ w 2 < 120
theorem WS.wg {w : Nat → Int} (h : WS w) (hr : ∀ i, rng (w i)) : WG w := ⟨h.1, hr, h.2.1, h.2.2.1, h.2.2.2.1, h.2.2.2.2.1, h.2.2.2.2.2.1⟩
theorem WS.lt {w : Nat → Int} (h : WS w) : ∀ m, 0 ≤ m → m ≤ 9 → celF w m < 120 := fun m h1 h2 => (h.2.2.1 m h1 h2).2
theorem WS.sw {w w' : Nat → Int} (h : WS w) (s : SW w w') : WS w' := by
  obtain ⟨h1, h2, h3, h4, h5, h6, h7⟩ := h
  have e3 : w' 3 = w 3 := s.1 3 (by omega)
  have es : sltF w' (w' 3) = sltF w (w 3) := by unfold sltF; rw [e3]; exact s.1 _ (by omega)
  have ea : ancF w' (w' 3) = ancF w (w 3) := by unfold ancF; rw [e3]; exact s.1 _ (by omega)
  refine ⟨by rw [s.1 0 (by omega)]; exact h1, by rw [e3]; exact h2, fun m m0 m1 => ?_, by rw [es]; exact h4, by rw [ea]; exact h5, fun k k0 k1 => ?_, by rw [s.1 2 (by omega)]; exact h7⟩
  · have a := s.2 m m0 m1
    have b := h3 m m0 m1
    by_cases q : 0 ≤ celF w m
    · have := a.1 q; omega
    · rw [a.2 (by omega)]; exact b
  · rw [es] at k1
    have hk := h6 k k0 k1
    have ec : colF w' (w' 3) k = colF w (w 3) k := by
      unfold colF
      rw [ea, e3, s.1 _ (by omega), s.1 _ (by omega)]
    have er : rowF w' (w' 3) k = rowF w (w 3) k := by
      unfold rowF
      rw [ea, e3, s.1 _ (by omega), s.1 _ (by omega)]
    rw [ec, er]
    exact hk
theorem SW.lead {w : Nat → Int} (hc : ∀ m, 0 ≤ m → m ≤ 9 → celF w m < 120) (h0 : w 0 ≤ 10) (hl : 0 ≤ ledF w) : SW w (leadF w) := by
  have hlr := ledF_rng w h0
  have hu : ∀ v, SC w (updW w (12 + 6 * ledF w + 5).toNat v) := fun v => SC.upd (by omega) (fun m h1 h2 => by omega)
  unfold leadF
  split
  · exact SW.of (hu _) hc
  · split
    · exact SW.of (hu _) hc
    · split
      · exact SW.of (hu _) hc
      · unfold lead1F
        split
        · exact SW.of (hu _) hc
        · rename_i hn
          have s8 := SW.of (hu 8) hc
          have hcel : 0 ≤ celF (updW w (12 + 6 * ledF w + 5).toNat 8) (ledF w) := by rw [(hu 8).2 _ hl hlr.2.1]; exact (hlr.2.2 hl).2
          split
          · rcases fstI_rng (lwayF (bfsF (blkF w) (w 2)) (updW w (12 + 6 * ledF w + 5).toNat 8) (ledF w) (bfsF (blkF w) (w 2) (celF w (ledF w)))) 4 0 (by omega) with e | ⟨-, -, e, -⟩
            · unfold wayF at hn; omega
            · have e1 := (of_decide_eq_true e).1
              have g := s8.tr (SW.goes ⟨hl, hlr.2.1⟩ (s8.lt hc) hcel ⟨e1, (besF_rng _ _).2⟩)
              exact (g.tr (SW.cnt (k := 1) (by omega) (g.lt hc))).upd hc (by omega) (fun m h1 h2 => by omega)
          · exact (s8.tr (SW.of (SC.waits ⟨hl, hlr.2.1⟩) (s8.lt hc))).upd hc (by omega) (fun m h1 h2 => by omega)
theorem bdW.lead {C : Int} {w : Nat → Int} (h : bdW C w) (hC : 200 ≤ C) : bdW (C + 4) (leadF w) := by
  have hu : ∀ v, -200 ≤ v ∧ v ≤ 200 → bdW C (updW w (12 + 6 * ledF w + 5).toNat v) := fun v hv => h.upd (by omega)
  unfold leadF
  split
  · exact (hu 6 (by omega)).mono (by omega)
  · split
    · exact (hu 7 (by omega)).mono (by omega)
    · split
      · exact (hu 8 (by omega)).mono (by omega)
      · unfold lead1F
        split
        · exact (hu 8 (by omega)).mono (by omega)
        · split
          · have hb := besF_rng (celF (updW w (12 + 6 * ledF w + 5).toNat 8) (ledF w)) (wayF (lwayF (bfsF (blkF w) (w 2)) (updW w (12 + 6 * ledF w + 5).toNat 8) (ledF w) (bfsF (blkF w) (w 2) (celF w (ledF w)))))
            exact ((((hu 8 (by omega)).goes (m := ledF w) hC (show -200 ≤ besF (celF (updW w (12 + 6 * ledF w + 5).toNat 8) (ledF w)) (wayF (lwayF (bfsF (blkF w) (w 2)) (updW w (12 + 6 * ledF w + 5).toNat 8) (ledF w) (bfsF (blkF w) (w 2) (celF w (ledF w))))) ∧ _ by omega)).cnt (k := 1)).upd (i := (12 + 6 * ledF w + 5).toNat) (v := 0) (by omega)).mono (by omega)
          · exact (((hu 8 (by omega)).waits (m := ledF w)).upd (i := (12 + 6 * ledF w + 5).toNat) (v := 9) (by omega)).mono (by omega)
theorem stpF_congr {F F' : Int → Int} {w : Nat → Int} {m dd : Int} (h : ∀ x, 0 ≤ x → x < 120 → F x = F' x) : wayF (stpF F w m dd) = wayF (stpF F' w m dd) := fstI_congr 4 0 (fun v _ _ => by
  have hb := besF_rng (celF w m) v
  unfold stpF
  rw [decide_eq_decide]
  constructor
  · intro q; exact ⟨q.1, by rw [← h _ q.1 hb.2]; exact q.2.1, q.2.2⟩
  · intro q; exact ⟨q.1, by rw [h _ q.1 hb.2]; exact q.2.1, q.2.2⟩)
/-- two ways to say who has which slot and how far all is -/
def AGR (sl sl' : Int → Int) (FF FF' : Int → Int → Int) : Prop := ∀ m, 0 ≤ m → m ≤ 9 → sl m = sl' m ∧ (0 ≤ sl m → ∀ x, 0 ≤ x → x < 120 → FF (sl m) x = FF' (sl' m) x)
theorem excF_congr {sl sl' : Int → Int} {FF FF' : Int → Int → Int} {w : Nat → Int} {m dd : Int} (h : AGR sl sl' FF FF') (hm : 0 ≤ m ∧ m ≤ 9) (h7 : 0 ≤ sl m) (hc : 0 ≤ celF w m ∧ celF w m < 120) : wayF (excF sl FF (FF (sl m)) w m dd) = wayF (excF sl' FF' (FF' (sl' m)) w m dd) := fstI_congr 4 0 (fun v _ _ => by
  have hb := besF_rng (celF w m) v
  have ho := onF_rng w (besF (celF w m) v)
  have hF := (h m hm.1 hm.2).2 h7
  unfold excF
  rw [decide_eq_decide]
  constructor
  · rintro ⟨q1, q2, q3, q4, q5, q6⟩
    have hh := h _ q3 ho.2.1
    refine ⟨q1, by rw [← hF _ q1 hb.2]; exact q2, q3, q4, by rw [← hh.1]; exact q5, ?_⟩
    rw [← hh.2 q5 _ hc.1 hc.2, ← hh.2 q5 _ q1 hb.2]
    exact q6
  · rintro ⟨q1, q2, q3, q4, q5, q6⟩
    have hh := h _ q3 ho.2.1
    have q5' := q5
    rw [← hh.1] at q5'
    refine ⟨q1, by rw [hF _ q1 hb.2]; exact q2, q3, q4, q5', ?_⟩
    rw [hh.2 q5' _ hc.1 hc.2, hh.2 q5' _ q1 hb.2]
    exact q6)
theorem actF_congr {sl sl' : Int → Int} {FF FF' : Int → Int → Int} {w : Nat → Int} {m : Int} (h : AGR sl sl' FF FF') (hm : 0 ≤ m ∧ m ≤ 9) (h7 : 0 ≤ sl m) (hc : 0 ≤ celF w m ∧ celF w m < 120) : actF sl FF w m = actF sl' FF' w m := by
  have hF := (h m hm.1 hm.2).2 h7
  unfold actF
  rw [hF _ hc.1 hc.2, stpF_congr hF, excF_congr h hm h7 hc]
theorem bgF_congr {sl sl' : Int → Int} {FF FF' : Int → Int → Int} {w : Nat → Int} {m : Int} (h : AGR sl sl' FF FF') (hm : 0 ≤ m ∧ m ≤ 9) : bgF sl w m = bgF sl' w m := by
  unfold bgF
  rw [(h m hm.1 hm.2).1]
theorem bgF_SC {sl : Int → Int} {w : Nat → Int} {m : Int} (hm : 0 ≤ m ∧ m ≤ 9) : SC w (bgF sl w m) := by
  unfold bgF
  split
  · have s1 : SC w (updW w (12 + 6 * m + 4).toNat (w (12 + 6 * m + 4).toNat + 1)) := SC.upd (by omega) (fun m' h1 h2 => by omega)
    split
    · exact s1
    · exact s1.tr (SC.upd (by omega) (fun m' h1 h2 => by omega))
  · exact SC.rf
theorem inB_congr {sl sl' : Int → Int} {FF FF' : Int → Int → Int} {w : Nat → Int} {m : Int} (h : AGR sl sl' FF FF') (hm : 0 ≤ m ∧ m ≤ 9) (hc : celF w m < 120) : inB sl FF w m = inB sl' FF' w m ∧ (inB sl FF w m = true → FF (sl m) (celF w m) = FF' (sl' m) (celF w m)) := by
  have hh := h m hm.1 hm.2
  constructor
  · unfold inB
    rw [decide_eq_decide]
    constructor
    · rintro ⟨q1, q2, q3, q4⟩
      exact ⟨q1, q2, by rw [← hh.1]; exact q3, by rw [← hh.2 q3 (celF w m) q1.2 hc]; exact q4⟩
    · rintro ⟨q1, q2, q3, q4⟩
      rw [← hh.1] at q3
      exact ⟨q1, q2, q3, by rw [hh.2 q3 (celF w m) q1.2 hc]; exact q4⟩
  · intro q
    obtain ⟨q1, q2, q3, q4⟩ := of_decide_eq_true q
    exact hh.2 q3 (celF w m) q1.2 hc
theorem bgnF_congr {sl sl' : Int → Int} {FF FF' : Int → Int → Int} (h : AGR sl sl' FF FF') : ∀ (k : Nat) (m : Int) (s : (Nat → Int) × TL), m + k = 10 → 0 ≤ m → (∀ m, 0 ≤ m → m ≤ 9 → celF s.1 m < 120) → bgnF sl FF k m s = bgnF sl' FF' k m s := by
  intro k
  induction k with
  | zero => intro m s _ _ _; rfl
  | succ k ih =>
    intro m s hk h0 hc
    have hm : 0 ≤ m ∧ m ≤ 9 := by omega
    have hi := inB_congr (w := s.1) h hm (hc m hm.1 hm.2)
    unfold bgnF
    rw [bgF_congr h hm, ← hi.1]
    have e : (if inB sl FF s.1 m = true then insF s.2 (m, FF (sl m) (celF s.1 m)) else s.2) = (if inB sl FF s.1 m = true then insF s.2 (m, FF' (sl' m) (celF s.1 m)) else s.2) := by
      split
      · rename_i q; rw [hi.2 q]
      · rfl
    rw [e]
    exact ih (m + 1) _ (by omega) (by omega) (fun m' h1 h2 => by
      show celF (bgF sl' s.1 m) m' < 120
      rw [(bgF_SC hm).2 m' h1 h2]; exact hc m' h1 h2)
theorem acts_congr {sl sl' : Int → Int} {FF FF' : Int → Int → Int} (h : AGR sl sl' FF FF') : ∀ (l : TL) (u : Nat → Int), u 0 ≤ 10 → (∀ m, 0 ≤ m → m ≤ 9 → celF u m < 120) → (∀ x ∈ l, (0 ≤ x.1 ∧ x.1 ≤ 9) ∧ isM u x.1 ∧ 0 ≤ sl x.1) → l.foldl (fun u x => actF sl FF u x.1) u = l.foldl (fun u x => actF sl' FF' u x.1) u := by
  intro l
  induction l with
  | nil => intro u _ _ _; rfl
  | cons x l ih =>
    intro u h0 hc hx
    have hx1 := hx x List.mem_cons_self
    have hcx : 0 ≤ celF u x.1 ∧ celF u x.1 < 120 := ⟨hx1.2.1.2, hc _ hx1.1.1 hx1.1.2⟩
    have hs : SW u (actF sl FF u x.1) := SW.act hx1.1 hc hcx.1
    rw [List.foldl_cons, List.foldl_cons, ← actF_congr h hx1.1 hx1.2.2 hcx]
    exact ih _ (by rw [hs.1 0 (by omega)]; exact h0) (hs.lt hc) (fun y hy => by
      have := hx y (List.mem_cons_of_mem _ hy)
      exact ⟨this.1, (hs.isM h0 _).mpr this.2.1, this.2.2⟩)
section M11
variable {τ : MT} {m c v x y z b n dd : Int} {d : Nat} {Q : Option Int → MT → Prop}
theorem mc_round_207 {t0 : MT} {l : TL} {C : Int} (hC : 300 ≤ C ∧ C < 2000000000) (hf : HF t0) (hs : ∀ o, 0 ≤ o → o ≤ 9 → gsl t0 o ≤ 9 ∧ -1 ≤ gsl t0 o) (hl : l.length ≤ 10) (hd : 6 ≤ d) : ∀ (j k : Nat) (u : Nat → Int) (t : MT) (o3 o4 : Option AV), k + j = l.length → bdW (C - 4 * j) u → (0 ≤ u 0 ∧ u 0 ≤ 10) → (∀ m, 0 ≤ m → m ≤ 9 → -1 ≤ celF u m ∧ celF u m < 120) → t.2 0 = u → FB t0 t → AR l t → (∀ i, i < l.length → 0 ≤ (tg l i).1 ∧ (tg l i).1 < 10 ∧ isM u (tg l i).1 ∧ 0 ≤ gsl t0 (tg l i).1) →
    (∀ t', SW u (t'.2 0) → bdW C (t'.2 0) → t'.2 0 = (l.drop k).foldl (fun u x => actF (gsl t0) (gfr t0) u x.1) u → FB t0 t' → Q none t') →
    Wm d rX3_round 207 [some (.inr 1), some (.inl l.length), some (.inl k), o3, o4] [] t Q := by
  intro j
  induction j with
  | zero =>
    intro k u t o3 o4 hk hb h0 hc hw hF hA hli K
    have e : k = l.length := by omega
    subst e
    refine wm_iload_n dX3_round_207 rfl ?_
    refine wm_iload_n dX3_round_208 rfl ?_
    refine wm_icmp dX3_round_209 (cB_ge ⟨by omega, by omega⟩ ⟨by omega, by omega⟩) 228 rfl (fun c209 => ?_) (fun c209 => ?_)
    ·
      refine wm_vreturn dX3_round_228 rfl ?_
      exact K t (by rw [hw]; exact SW.of SC.rf (fun m h1 h2 => (hc m h1 h2).2)) (by rw [hw]; exact hb.mono (by omega)) (by rw [List.drop_length]; exact hw) hF
    ·
      omega
  | succ j ih =>
    intro k u t o3 o4 hk hb h0 hc hw hF hA hli K
    have hk1 : k < l.length := by omega
    have hx := hli k hk1
    have hak := hA k hk1
    have ek : ((k : Nat) : Int).toNat = k := by omega
    have hcx := hc (tg l k).1 hx.1 (by omega)
    have hgs : gsl t = gsl t0 := by funext o; unfold gsl; rw [hF.2 7 (by decide) (by decide) (by decide)]
    have hgf : gfr t = gfr t0 := by funext s x; unfold gfr; rw [hF.2 3 (by decide) (by decide) (by decide)]
    have hfl : l.drop k = tg l k :: l.drop (k + 1) := by
      have he : tg l k = l[k] := by
        unfold tg
        rw [List.getD_eq_getElem?_getD, List.getElem?_eq_getElem hk1]
        rfl
      rw [he]
      exact List.drop_eq_getElem_cons hk1
    have hsw : SW u (actF (gsl t0) (gfr t0) u (tg l k).1) := SW.act ⟨hx.1, by omega⟩ (fun m h1 h2 => (hc m h1 h2).2) hx.2.2.1.2
    have hcn : ∀ m, 0 ≤ m → m ≤ 9 → -1 ≤ celF (actF (gsl t0) (gfr t0) u (tg l k).1) m ∧ celF (actF (gsl t0) (gfr t0) u (tg l k).1) m < 120 := fun m h1 h2 => by
      have a := hsw.2 m h1 h2
      have b := hc m h1 h2
      by_cases q : 0 ≤ celF u m
      · have := a.1 q; omega
      · rw [a.2 (by omega)]; exact b
    refine wm_iload_n dX3_round_207 rfl ?_
    refine wm_iload_n dX3_round_208 rfl ?_
    refine wm_icmp dX3_round_209 (cB_ge ⟨by omega, by omega⟩ ⟨by omega, by omega⟩) 228 rfl (fun c209 => ?_) (fun c209 => ?_)
    ·
      omega
    ·
      refine wm_aload_n dX3_round_212 rfl ?_
      refine wm_aload_n dX3_round_213 rfl ?_
      refine wm_getA dX3_round_214 (kF3_31 rfl) rfl ?_
      refine wm_iload_n dX3_round_217 rfl ?_
      refine wm_iaload dX3_round_218 rfl ⟨by omega, by omega⟩ _ rfl ?_
      rw [ek, hak.1]
      refine wm_callv dX3_round_219 (kV3_145 rfl) rfl (mc_acts ⟨hx.1, by omega⟩ (by rw [hw]; exact ⟨hx.2.2.1.2, hcx.2⟩) (by rw [hw]; exact h0) (by rw [hw]; exact hb.rng (by omega)) (hf.other (hF.2 3 (by decide) (by decide) (by decide))) (by rw [hgs]; exact hs) (by rw [hgs]; exact hx.2.2.2)) (by omega) rfl rfl ?_
      rintro _ _ ⟨rfl, rfl⟩
      refine wm_iinc dX3_round_222 rfl ?_
      refine wm_goto dX3_round_225 207 rfl ?_
      rw [hgs, hgf, hw]
      refine ih (k + 1) (actF (gsl t0) (gfr t0) u (tg l k).1) _ _ _ (by omega) ((hb.act (by omega) ⟨hx.1, by omega⟩ hcx).mono (by omega)) (by rw [hsw.1 0 (by omega)]; exact h0) hcn rfl hF.sW hA (fun i hi => ?_) (fun t' a1 a2 a3 a4 => K t' (hsw.tr a1) a2 (by rw [hfl]; exact a3) a4)
      have := hli i hi
      exact ⟨this.1, this.2.1, (hsw.isM h0.2 _).mpr this.2.2.1, this.2.2.2⟩
theorem gr1F_pl {V : Int → Int → Int} {n k : Nat} {g : GS} (h : ∀ m, 0 ≤ g.2.2.2 m → ¬ V m (g.2.2.2 m) = 0) : ∀ m, 0 ≤ (gr1F V n k g).2.2.2 m → ¬ V m ((gr1F V n k g).2.2.2 m) = 0 := by
  intro m
  unfold gr1F
  split
  · exact h m
  · rename_i hn
    dsimp only
    split
    · rename_i e
      intro _
      rcases fstI_rng (pickF (V (9 - k)) (wthF V n k) g.1 (wthF V n (k + 1) g.1)) n 0 (by omega) with q | ⟨-, -, a3, -⟩
      · omega
      · rw [e]; exact (of_decide_eq_true a3).2.1
    · exact h m
theorem grF_pl {V : Int → Int → Int} {n : Nat} : ∀ (k : Nat) (g : GS), (∀ m, 0 ≤ g.2.2.2 m → ¬ V m (g.2.2.2 m) = 0) → ∀ m, 0 ≤ (grF V n k g).2.2.2 m → ¬ V m ((grF V n k g).2.2.2 m) = 0 := by
  intro k
  induction k with
  | zero => intro g h; exact h
  | succ k ih => intro g h; exact ih _ (gr1F_pl h)
theorem slF_pl (w : Nat → Int) (m : Int) (h : 0 ≤ slF w m) : isM w m ∧ m ≠ ledF w ∧ 0 ≤ pl0F w (slF w m) ∧ 0 ≤ frF w (slF w m) (celF w m) := by
  have := grF_pl (V := wofF w) (n := (sltF w (w 3)).toNat) 10 (lftF w (sltF w (w 3)).toNat 0 0, 0, 0, fun _ => -1) (fun m h => absurd (show (0 : Int) ≤ -1 from h) (by decide)) m h
  have e : ¬ wofF w m (slF w m) = 0 := this
  unfold wofF at e
  split at e
  · rename_i q
    split at e
    · exact absurd rfl e
    · exact ⟨q.1, q.2.1, q.2.2, by omega⟩
  · exact absurd rfl e
/-- what a round may write -/
def FrR (τ t : MT) : Prop := (∀ a, ¬ (a = 0 ∨ a = 3 ∨ a = 4 ∨ a = 5 ∨ a = 6 ∨ a = 7 ∨ a = 10 ∨ a = 11 ∨ a = 12) → t.2 a = τ.2 a) ∧ ∀ j, j ≠ 8 → j ≠ 9 → t.1 j = τ.1 j
theorem agr_of {w : Nat → Int} {τ t : MT} (hW : WG w) (h : GV w τ t) : AGR (gsl t) (slF w) (gfr t) (frF w) := fun m h1 h2 => by
  have e := h.2.2.1 m h1 (by omega)
  refine ⟨e, fun q x x0 x1 => ?_⟩
  have hs := slF_rng w hW.2.2.2.2.1 m
  have q2 : 0 ≤ slF w m := by rw [show slF w m = gsl t m from e.symm]; exact q
  have hp := slF_pl w m q2
  rw [show gsl t m = slF w m from e]
  exact (h.2.1 (slF w m) q2 (hs.2.1 q2)).2 hp.2.2.1 x x0 x1
theorem mc_round {C : Int} (hC : 300 ≤ C ∧ C < 1999999000) (hb : bdW C (τ.2 0)) (hS : WS (τ.2 0)) (hl : 0 ≤ ledF (τ.2 0)) (hf : HF τ) : Mt 7 rX3_round [.inr 1] τ (fun v t => none = v ∧ t.2 0 = roundF (τ.2 0) ∧ SW (τ.2 0) (t.2 0) ∧ bdW (C + 100) (t.2 0) ∧ FrR τ t ∧ HF t) := by
  intro d hd
  have s0 : SW (τ.2 0) (cntW (τ.2 0) 0) := SW.cnt (by omega) hS.lt
  have b0 : bdW (C + 1) (cntW (τ.2 0) 0) := hb.cnt
  have hS0 := hS.sw s0
  have hl0 : 0 ≤ ledF (cntW (τ.2 0) 0) := by rw [s0.led hS.1.2]; exact hl
  have hlr := ledF_rng _ hS0.1.2
  have s1 := SW.lead hS0.lt hS0.1.2 hl0
  have b1 := b0.lead (by omega)
  have hS1 := hS0.sw s1
  have hW1 := hS1.wg (b1.rng (by omega))
  have hfl : ∀ f q, (∀ x, -1 ≤ f x ∧ f x ≤ 1000) → HF (setW (flR (setW τ (cntW (τ.2 0) 0)) 1200 f q) (leadF (cntW (τ.2 0) 0))) := fun f q hfq i => by
    show -1 ≤ (flR (setW τ (cntW (τ.2 0) 0)) 1200 f q).2 3 i ∧ (flR (setW τ (cntW (τ.2 0) 0)) 1200 f q).2 3 i ≤ 1000
    unfold flR
    dsimp only
    split
    · exact hfq _
    · rw [if_neg (by decide)]
      exact hf i
  refine wm_aload_n dX3_round_0 rfl ?_
  refine wm_iconst dX3_round_1 ?_
  refine wm_iconst dX3_round_2 ?_
  refine wm_callv dX3_round_3 (kV3_118 rfl) rfl (mc_countW (x := 0) (v := 1) (by omega)) (by omega) rfl rfl ?_
  rintro _ _ ⟨rfl, rfl⟩
  refine wm_aload_n dX3_round_6 rfl ?_
  refine wm_callv dX3_round_7 (kV3_142 rfl) rfl (mc_leads (τ := setW τ (cntW (τ.2 0) 0)) hl0 hS0.1 (b0.rng (by omega)) (hS0.lt _ hl0 hlr.2.1) hS0.2.2.2.2.2.2 ((b0.upd (by omega)).rng (by omega)) hf) (by omega) rfl rfl ?_
  rintro _ _ ⟨rfl, f, q, rfl, hfq⟩
  refine wm_aload_n dX3_round_10 rfl ?_
  refine wm_callv dX3_round_11 (kV3_111 rfl) rfl (mc_gives (τ := setW (flR (setW τ (cntW (τ.2 0) 0)) 1200 f q) (leadF (cntW (τ.2 0) 0))) hW1 (hfl f q hfq)) (by omega) rfl rfl ?_
  rintro _ _ ⟨rfl, g⟩
  rename_i t
  refine wm_iconst dX3_round_14 ?_
  refine wm_istore_n dX3_round_15 rfl ?_
  refine wm_iconst dX3_round_16 ?_
  refine wm_istore_n dX3_round_17 rfl ?_
  have hw : t.2 0 = leadF (cntW (τ.2 0) 0) := g.1.w
  have hag := agr_of hW1 g
  have hgs : ∀ o, 0 ≤ o → o ≤ 9 → gsl t o ≤ 9 ∧ -1 ≤ gsl t o := fun o o0 o1 => by
    rw [(hag o o0 o1).1]
    have := slF_rng _ hW1.2.2.2.2.1 o
    omega
  refine mc_round_18 (t0 := t) (C := C + 25) (by omega) g.2.2.2.2.2 hgs (by omega) 10 0 (leadF (cntW (τ.2 0) 0)) [] t _ _ (by omega) (by omega) (b1.mono (by omega)) hS1.1 hS1.lt hw ⟨rfl, fun _ _ _ _ => rfl⟩ (fun i hi => absurd hi (Nat.not_lt_zero _)) (Int.le_refl _) (fun i => by show -1 ≤ (([] : TL).getD i (0, 0)).2 ∧ (([] : TL).getD i (0, 0)).2 ≤ 1000; rw [List.getD_nil]; decide) (fun i hi => absurd hi (Nat.not_lt_zero _)) (fun t2 w2 l2 o3 o4 e1 e2 e3 e4 e5 e6 e7 e8 => ?_)
  have sw2 := SW.of e2 hS1.lt
  have hS2 := hS1.sw sw2
  refine wm_iconst dX3_round_205 ?_
  refine wm_istore_n dX3_round_206 rfl ?_
  refine mc_round_207 (t0 := t) (l := l2) (C := C + 70) (by omega) g.2.2.2.2.2 hgs e7 (by omega) l2.length 0 w2 t2 _ _ (by omega) (e3.mono (by omega)) hS2.1 hS2.2.2.1 e4 e5 e6 e8 (fun t' a1 a2 a3 a4 => ?_)
  have hsw : SW (τ.2 0) (t'.2 0) := ((s0.tr s1).tr sw2).tr a1
  refine ⟨rfl, ?_, hsw, a2.mono (by omega), ⟨fun a ha => ?_, fun j j8 j9 => ?_⟩, g.2.2.2.2.2.other (a4.2 3 (by decide) (by decide) (by decide))⟩
  · rw [a3, roundF, rd2F, List.drop_zero, ← bgnF_congr hag 10 0 _ (by omega) (by omega) hS1.lt, ← e1]
    refine acts_congr hag l2 w2 hS2.1.2 hS2.lt (fun x hx => ?_)
    obtain ⟨i, hi, rfl⟩ := List.mem_iff_getElem.mp hx
    have he : tg l2 i = l2[i] := by
      unfold tg
      rw [List.getD_eq_getElem?_getD, List.getElem?_eq_getElem hi]
      rfl
    have := e8 i hi
    rw [he] at this
    exact ⟨⟨this.1, by omega⟩, this.2.2.1, this.2.2.2⟩
  · rw [a4.2 a (by omega) (by omega) (by omega), g.1.1 a (by omega)]
    cases a with
    | zero => exact absurd (Or.inl rfl) ha
    | succ a => exact flR_o _ _ _ (by omega) (by omega)
  · rw [a4.1, g.1.2 j j8 j9]
    rfl
end M11
