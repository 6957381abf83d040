/-! THE CLASS'S METHODS, 20: a round -/
set_option maxRecDepth 100000
/-- the row when the first k have acted -/
def wkF (w1 wb : Nat → Int) (L : TL) (k : Nat) : Nat → Int := (L.take k).foldl (fun u x => actF (slF w1) (frF w1) u x.1) wb
section RN4
variable {w w0 w1 wb w' : Nat → Int} {τ t t0 u : CT} {a b m c v C : Int} {d p q n k s x cap B U : Nat} {e tr : Nat → Int} {Q : Option AV → CT → Prop} {L : TL} {S : Int → Prop}
theorem wk_succ (hk : k < L.length) : wkF w1 wb L (k + 1) = actF (slF w1) (frF w1) (wkF w1 wb L k) (tg L k).1 := by
  unfold wkF
  rw [List.take_succ, List.foldl_append]
  unfold tg
  rw [List.getD_eq_getElem?_getD, List.getElem?_eq_getElem hk]
  rfl
theorem ALs.fra (h : ALs kap t 18 x cap s 4) (g : FrA t u) (hx : x = 3 ∨ (110 ≤ x ∧ kd kap t x = some (ckR 0 cap))) (hW : Wd w t) (h0 : w 0 ≤ 10) : ALs kap u 18 x cap s 4 ∧ sg u x = sg t x := by
  have ex : sg u x = sg t x := g.2.2.2 x (by omega) (by omega) (fun h110 m m0 m1 r => by
    rcases hx with q | ⟨q1, q2⟩
    · omega
    · by_cases hm : isM w m
      · have hM := hW.mem h0 hm
        rw [r, hM.kd] at q2
        cases q2
      · have := hW.non hm ⟨m0, m1⟩
        unfold mnC at r
        rw [this] at r
        have : x = 0 := r
        omega)
  exact ⟨h.fr (fun v k hk => by unfold kd at hk ⊢; rw [g.2.1]; exact hk) (by unfold n0C; rw [g.1]) (by rw [g.2.2.2 18 (by decide) (by decide) (fun q => by omega)]) (by rw [g.2.2.2 18 (by decide) (by decide) (fun q => by omega)]) ex, ex⟩
theorem cc_round_170 (hS : WS w1) (hnv : 1000 ≤ n0C τ ∧ n0C τ ≤ nvC τ) (hC : 300 ≤ C ∧ C < 1000000000) (hs9 : s ≤ 9) (hd : 8 ≤ d) (hLs : L.length = s) (hLt : ∀ i, i < s → (tg L i).1 = tr i) (hsl : ∀ i, i < s → isM w1 (tr i) ∧ 0 ≤ slF w1 (tr i)) {i1 : Int} {a2 : Nat} {o3 o5 o6 o7 : Option AV} : ∀ (j k : Nat) (t : CT), k + j = s → FrW τ t → Wd (wkF w1 wb L k) t → Gd w1 t → IR (wkF w1 wb L k) → RC w1 (wkF w1 wb L k) → bdW (C + 4 * k) (wkF w1 wb L k) → ALs kap t 18 x cap s 4 → (∀ i, i < s → sg t x i = (mnC t (tr i) : Int)) → (x = 3 ∨ (110 ≤ x ∧ kd kap t x = some (ckR 0 cap))) → (∀ u, FrW τ u → u.1 = t.1 → Wd (wkF w1 wb L s) u → IR (wkF w1 wb L s) ∧ RC w1 (wkF w1 wb L s) ∧ bdW (C + 4 * s) (wkF w1 wb L s) → Q none u) → Wc kap d rX0_round 170 [some (.inr 10), some (.inl i1), some (.inr a2), o3, some (.inl (k : Int)), o5, o6, o7] [] t (nQ Q) := by
  intro j
  induction j with
  | zero =>
    intro k t hk hF hW hG hI hR hb hA hx hx3 K
    have e : k = s := by omega
    subst e
    refine wc_iload dX0_round_170 rfl ?_
    refine wc_aload_n dX0_round_172 rfl ?_
    refine wc_getC dX0_round_173 (kF0_215 rfl) rfl rfl ?_
    refine wc_call dX0_round_176 rfl (cc_size2 hA) (by omega) (hx_V (kV0_233 rfl) rfl rfl rfl rfl) ?_
    rintro _ _ ⟨rfl, rfl⟩
    refine wc_icmp dX0_round_179 (cB_ge (show rng _ by omega) (show rng _ by omega)) 223 rfl (fun c179 => ?_) (fun c179 => ?_)
    ·
      refine wc_vreturn dX0_round_223 rfl ?_
      exact K t hF rfl hW ⟨hI, hR, hb⟩
    ·
      omega
  | succ j ih =>
    intro k t hk hF hW hG hI hR hb hA hx hx3 K
    have hks : k < s := by omega
    obtain ⟨hm1, hsl1⟩ := hsl k hks
    have hm := (hR.isM hS.1.2 (tr k)).mpr hm1
    have h0 := hI.1.2
    have hr := isM_le hm h0
    have hM := hW.mem h0 hm
    have hgx : (sg t x (k : Int).toNat).toNat = mnC t (tr k) := by rw [Int.toNat_natCast, hx k hks]; exact Int.toNat_natCast _
    have hget := cc_get (v := (k : Int)) hA (by omega)
    rw [hgx] at hget
    have hwk := wk_succ (w1 := w1) (wb := wb) (L := L) (k := k) (by omega)
    rw [hLt k hks] at hwk
    have hre := hR.2 _ hm hsl1
    have hds : dsF w1 (wkF w1 wb L k) (tr k) = frF w1 (slF w1 (tr k)) (celF (wkF w1 wb L k) (tr k)) := by
      unfold dsF enF
      rw [if_neg (by omega), if_neg (by omega)]
    have hdr := dsF_r (w0 := w1) (w := wkF w1 wb L k) (m := tr k)
    refine wc_iload dX0_round_170 rfl ?_
    refine wc_aload_n dX0_round_172 rfl ?_
    refine wc_getC dX0_round_173 (kF0_215 rfl) rfl rfl ?_
    refine wc_call dX0_round_176 rfl (cc_size2 hA) (by omega) (hx_V (kV0_233 rfl) rfl rfl rfl rfl) ?_
    rintro _ _ ⟨rfl, rfl⟩
    refine wc_icmp dX0_round_179 (cB_ge (show rng _ by omega) (show rng _ by omega)) 223 rfl (fun c179 => ?_) (fun c179 => ?_)
    ·
      omega
    ·
      refine wc_aload_n dX0_round_182 rfl ?_
      refine wc_aload_n dX0_round_183 rfl ?_
      refine wc_getC dX0_round_184 (kF0_215 rfl) rfl rfl ?_
      refine wc_iload dX0_round_187 rfl ?_
      refine wc_call dX0_round_189 rfl (hget) (by omega) (hx_V (kV0_234 rfl) rfl rfl rfl rfl) ?_
      rintro _ _ ⟨rfl, rfl⟩
      refine wc_cast dX0_round_192 (kX0_50 rfl) (Or.inr ⟨_, hM.kd⟩) ?_
      refine wc_call dX0_round_195 rfl (cc_distanceOf hS hG hW h0 hm (hI.2.2.2 _ hr.1 hr.2)) (by omega) (hx_V (kV0_116 rfl) rfl rfl rfl rfl) ?_
      rintro _ _ ⟨rfl, rfl⟩
      refine wc_if dX0_round_198 (cB_le (show rng _ by omega) ⟨by omega, by omega⟩) 217 rfl (fun c198 => ?_) (fun c198 => ?_)
      ·
        refine wc_iinc dX0_round_217 rfl ?_
        refine wc_goto dX0_round_220 170 rfl ?_
        have e : wkF w1 wb L (k + 1) = wkF w1 wb L k := by
          rw [hwk]
          unfold actF
          rw [if_pos (by omega)]
        have := ih (k + 1) t (by omega) hF (by rw [e]; exact hW) hG (by rw [e]; exact hI) (by rw [e]; exact hR) (by rw [e]; exact hb.mono (by omega)) hA hx hx3 K
        exact this
      ·
        refine wc_aload_n dX0_round_201 rfl ?_
        refine wc_aload_n dX0_round_202 rfl ?_
        refine wc_getC dX0_round_203 (kF0_215 rfl) rfl rfl ?_
        refine wc_iload dX0_round_206 rfl ?_
        refine wc_call dX0_round_208 rfl (hget) (by omega) (hx_V (kV0_234 rfl) rfl rfl rfl rfl) ?_
        rintro _ _ ⟨rfl, rfl⟩
        refine wc_cast dX0_round_211 (kX0_50 rfl) (Or.inr ⟨_, hM.kd⟩) ?_
        refine wc_call dX0_round_214 rfl (cc_acts hS hG hW hI hR (hb.mono (by omega)) hm hsl1 (by omega)) (by omega) (hx_V (kV0_238 rfl) rfl rfl rfl rfl) ?_
        rintro _ _ ⟨rfl, hFA, hWA⟩
        refine wc_iinc dX0_round_217 rfl ?_
        refine wc_goto dX0_round_220 170 rfl ?_
        obtain ⟨hA2, ex⟩ := hA.fra hFA hx3 hW h0
        have hcl := act_cells hI hR hm hsl1 (by omega)
        have hrc := act_RC hS.1.2 hI hR hm hsl1 (by omega)
        have hbd := hb.act (sl := slF w1) (FF := frF w1) (by omega) hr ⟨by have := hm.2; unfold celF; omega, hI.2.2.2 _ hr.1 hr.2⟩
        have := ih (k + 1) _ (by omega) (hF.act hnv hFA hW h0) (by rw [hwk]; exact hWA) (hFA.gd hS hG) (by rw [hwk]; exact hcl.1) (by rw [hwk]; exact hrc) (by rw [hwk]; exact hbd.mono (by omega)) hA2 (fun i hi => by rw [ex, hFA.mn]; exact hx i hi) (by rcases hx3 with q | ⟨q1, q2⟩; exact Or.inl q; exact Or.inr ⟨q1, by unfold kd at q2 ⊢; rw [hFA.2.1]; exact q2⟩) (fun u f1 f2 f3 f4 => K u f1 (f2.trans hFA.1) f3 f4)
        exact this
end RN4
