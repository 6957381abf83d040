/-! THE CLASS'S METHODS, 61: a shape made, a shape read -/
set_option maxRecDepth 100000
/-- a shape at z, out of what is read -/
def ShR (r : Nat → Int) (z : Nat) (u : CT) : Prop := u.2.1 z = some shK ∧ (sg u z 0 = ((z + 1 : Nat) : Int) ∧ sg u z 1 = ((z + 2 : Nat) : Int) ∧ sg u z 2 = r 1) ∧ (u.2.1 (z + 1) = some (ckI 0 (r 0).toNat) ∧ u.2.1 (z + 2) = some (ckI 0 (r 0).toNat)) ∧ ∀ k : Int, 0 ≤ k → k < r 0 → sg u (z + 1) k.toNat = r (2 + 2 * k).toNat - r (2 + 2 * r 1).toNat ∧ sg u (z + 2) k.toNat = r (3 + 2 * k).toNat - r (3 + 2 * r 1).toNat
section QSH
variable {T : Nat → Option CK} {w w' : Nat → Int} {R : Nat → Nat → Int} {τ t u t0 : CT} {m c v C x s f e A P p Y : Int} {d i j k a b z pc y q n : Nat} {Q : CO → CT → Prop} {M : MRec} {ls : AL} {st : List AV} {r : Nat → Int} {E : Int × (Nat → Int)} {tp : Nat → Int}
theorem cc_shp2 {q1 q2 : Nat} (kz : kd T t z = some shK) (hw : wrC t z) : Ct T 0 rX7_init_2 [.inr z, .inr q1, .inr q2, .inl c] t (fun v u => none = v ∧ FrQ z t u ∧ (sg u z 0 = (q1 : Int) ∧ sg u z 1 = (q2 : Int) ∧ sg u z 2 = c)) := by
  intro d hd
  refine wc_aload_n dX7_init_2_0 rfl ?_
  refine wc_obj dX7_init_2_1 rfl (by rw [kz]; rfl) rfl ?_
  refine wc_aload_n dX7_init_2_4 rfl ?_
  refine wc_aload_n dX7_init_2_5 rfl ?_
  refine wc_putR dX7_init_2_6 (kF7_9 rfl) rfl kz rfl hw rfl ?_
  refine wc_aload_n dX7_init_2_9 rfl ?_
  refine wc_aload_n dX7_init_2_10 rfl ?_
  refine wc_putR dX7_init_2_11 (kF7_15 rfl) rfl kz rfl hw rfl ?_
  refine wc_aload_n dX7_init_2_14 rfl ?_
  refine wc_iload_n dX7_init_2_15 rfl ?_
  refine wc_putI dX7_init_2_16 (kF7_18 rfl) rfl kz rfl hw (Or.inl rfl) ?_
  refine wc_vreturn dX7_init_2_19 rfl ?_
  refine ⟨rfl, ((stC_q _ _ _ _).tr (stC_q _ _ _ _)).tr (stC_q _ _ _ _), ?_, ?_, ?_⟩
  · rw [sg_st, if_neg (by decide), sg_st, if_neg (by decide), sg_st, if_pos rfl]
  · rw [sg_st, if_neg (by decide), sg_st, if_pos rfl]
  · rw [sg_st, if_pos rfl]
theorem cc_shp_15 {a1 a2 z1 z2 : Nat} (hr : (0 ≤ r 0 ∧ r 0 ≤ 10) ∧ 0 ≤ r 1 ∧ r 1 < r 0) (hne : a1 ≠ z1 ∧ a1 ≠ z2 ∧ a2 ≠ z1 ∧ a2 ≠ z2 ∧ z1 ≠ z2 ∧ z ≠ z1 ∧ z ≠ z2) (hk : kd T t z = some shK ∧ kd T t a1 = some (ckI 0 10) ∧ kd T t a2 = some (ckI 0 10) ∧ kd T t z1 = some (ckI 0 (r 0).toNat) ∧ kd T t z2 = some (ckI 0 (r 0).toNat)) (hw : wrC t z1 ∧ wrC t z2) (hz : sg t z 0 = (z1 : Int) ∧ sg t z 1 = (z2 : Int)) (hs : ∀ k : Int, 0 ≤ k → k < r 0 → sg t a1 k.toNat = r (2 + 2 * k).toNat ∧ sg t a2 k.toNat = r (3 + 2 * k).toNat) : ∀ (n : Nat) (s : Int) (u : CT), s + n = r 0 → 0 ≤ s → (u.1 = t.1 ∧ u.2.1 = t.2.1 ∧ ∀ v, v ≠ z1 → v ≠ z2 → sg u v = sg t v) → (∀ k : Int, 0 ≤ k → k < s → sg u z1 k.toNat = r (2 + 2 * k).toNat - r (2 + 2 * r 1).toNat ∧ sg u z2 k.toNat = r (3 + 2 * k).toNat - r (3 + 2 * r 1).toNat) → Wc T d rX7_init 15 [some (.inr z), some (.inl (r 0)), some (.inr a1), some (.inr a2), some (.inl (r 1)), some (.inl s)] [] u (nQ (fun v u => none = v ∧ (u.1 = t.1 ∧ u.2.1 = t.2.1 ∧ ∀ v, v ≠ z1 → v ≠ z2 → sg u v = sg t v) ∧ (∀ k : Int, 0 ≤ k → k < r 0 → sg u z1 k.toNat = r (2 + 2 * k).toNat - r (2 + 2 * r 1).toNat ∧ sg u z2 k.toNat = r (3 + 2 * k).toNat - r (3 + 2 * r 1).toNat))) := by
  intro n
  induction n with
  | zero =>
    intro s u hn h0 hF hok
    have e : s = r 0 := by omega
    subst e
    refine wc_iload dX7_init_15 rfl ?_
    refine wc_iload_n dX7_init_17 rfl ?_
    refine wc_icmp dX7_init_18 (cB_ge (show rng _ by omega) (show rng _ by omega)) 59 rfl (fun c18 => ?_) (fun c18 => ?_)
    ·
      refine wc_vreturn dX7_init_59 rfl ?_
      exact ⟨rfl, hF, hok⟩
    ·
      omega
  | succ n ih =>
    intro s u hn h0 hF hok
    have hkd : ∀ v, kd T u v = kd T t v := fun v => by unfold kd; rw [hF.2.1]
    have kz : kd T u z = some shK := (hkd z).trans hk.1
    have k1 : kd T u a1 = some (ckI 0 10) := (hkd _).trans hk.2.1
    have k2 : kd T u a2 = some (ckI 0 10) := (hkd _).trans hk.2.2.1
    have kz1 : kd T u z1 = some (ckI 0 (r 0).toNat) := (hkd _).trans hk.2.2.2.1
    have kz2 : kd T u z2 = some (ckI 0 (r 0).toNat) := (hkd _).trans hk.2.2.2.2
    have w1 : wrC u z1 := wrC_wk hw.1 (by unfold n0C; rw [hF.1])
    have w2 : wrC u z2 := wrC_wk hw.2 (by unfold n0C; rw [hF.1])
    have ez : sg u z = sg t z := hF.2.2 z hne.2.2.2.2.2.1 hne.2.2.2.2.2.2
    have e1 : sg u a1 = sg t a1 := hF.2.2 a1 hne.1 hne.2.1
    have e2 : sg u a2 = sg t a2 := hF.2.2 a2 hne.2.2.1 hne.2.2.2.1
    have hss := hs s h0 (by omega)
    have hsa := hs (r 1) hr.2.1 hr.2.2
    have hnn : decide ((r 0).toNat ≤ 100000) = true := decide_eq_true (by omega)
    refine wc_iload dX7_init_15 rfl ?_
    refine wc_iload_n dX7_init_17 rfl ?_
    refine wc_icmp dX7_init_18 (cB_ge (show rng _ by omega) (show rng _ by omega)) 59 rfl (fun c18 => ?_) (fun c18 => ?_)
    ·
      omega
    ·
      refine wc_aload_n dX7_init_21 rfl ?_
      refine wc_getR (y := z1) dX7_init_22 (kF7_9 rfl) kz rfl (by rw [ez, hz.1]; exact Int.toNat_natCast _) ?_
      refine wc_iload dX7_init_25 rfl ?_
      refine wc_aload_n dX7_init_27 rfl ?_
      refine wc_iload dX7_init_28 rfl ?_
      refine wc_iaload dX7_init_30 k1 rfl rfl ⟨by omega, by omega⟩ _ rfl ?_
      rw [e1, hss.1]
      refine wc_aload_n dX7_init_31 rfl ?_
      refine wc_iload dX7_init_32 rfl ?_
      refine wc_iaload dX7_init_34 k1 rfl rfl ⟨by omega, by omega⟩ _ rfl ?_
      rw [e1, hsa.1]
      refine wc_isub dX7_init_35 ?_
      refine wc_iastore dX7_init_36 kz1 w1 hnn ⟨by omega, by omega⟩ _ rfl ?_
      refine wc_aload_n dX7_init_37 rfl ?_
      refine wc_getR (y := z2) dX7_init_38 (kF7_15 rfl) kz rfl (by rw [sg_st' hne.2.2.2.2.2.1, ez, hz.2]; exact Int.toNat_natCast _) ?_
      refine wc_iload dX7_init_41 rfl ?_
      refine wc_aload_n dX7_init_43 rfl ?_
      refine wc_iload dX7_init_44 rfl ?_
      refine wc_iaload dX7_init_46 k2 rfl rfl ⟨by omega, by omega⟩ _ rfl ?_
      rw [sg_st' hne.2.2.1, e2, hss.2]
      refine wc_aload_n dX7_init_47 rfl ?_
      refine wc_iload dX7_init_48 rfl ?_
      refine wc_iaload dX7_init_50 k2 rfl rfl ⟨by omega, by omega⟩ _ rfl ?_
      rw [sg_st' hne.2.2.1, e2, hsa.2]
      refine wc_isub dX7_init_51 ?_
      refine wc_iastore dX7_init_52 kz2 w2 hnn ⟨by omega, by omega⟩ _ rfl ?_
      refine wc_iinc dX7_init_53 rfl ?_
      refine wc_goto dX7_init_56 15 rfl ?_
      refine ih (s + 1) _ (by omega) (by omega) ⟨hF.1, hF.2.1, fun v v1 v2 => by rw [sg_st' v2, sg_st' v1]; exact hF.2.2 v v1 v2⟩ (fun k k0 k1 => ?_)
      rw [sg_st' hne.2.2.2.2.1, sg_st, sg_st, sg_st' (Ne.symm hne.2.2.2.2.1)]
      by_cases e : k = s
      · rw [e, if_pos rfl, if_pos rfl]; exact ⟨rfl, rfl⟩
      · rw [if_neg (by omega), if_neg (by omega)]; exact hok k k0 (by omega)
theorem cc_shp {a1 a2 : Nat} (hr : (0 ≤ r 0 ∧ r 0 ≤ 10) ∧ 0 ≤ r 1 ∧ r 1 < r 0) (hz : 110 ≤ z ∧ n0C t ≤ z ∧ nvC t = z + 1) (ha : 110 ≤ a1 ∧ a1 < z ∧ 110 ≤ a2 ∧ a2 < z) (hk : t.2.1 z = some shK ∧ t.2.1 a1 = some (ckI 0 10) ∧ t.2.1 a2 = some (ckI 0 10)) (hs : ∀ k : Int, 0 ≤ k → k < r 0 → sg t a1 k.toNat = r (2 + 2 * k).toNat ∧ sg t a2 k.toNat = r (3 + 2 * k).toNat) : Ct kap 1 rX7_init [.inr z, .inl (r 0), .inr a1, .inr a2, .inl (r 1)] t (fun v u => none = v ∧ ShR r z u ∧ FrD z t u ∧ nvC u = z + 3 ∧ uC u ≤ uC t + 20) := by
  intro d hd
  have hrr : rng (r 0) := by omega
  have ew : wrC t z := ⟨by omega, Or.inr hz.2.1⟩
  have c1 : (newC (newC t (ckI 0 (r 0).toNat) (r 0).toNat (fun _ => 0)) (ckI 0 (r 0).toNat) (r 0).toNat (fun _ => 0)).2.1 z = some shK := by
    show (if z = nvC t + 1 then _ else if z = nvC t then _ else t.2.1 z) = _
    rw [if_neg (by omega), if_neg (by omega)]; exact hk.1
  refine wc_aload_n dX7_init_0 rfl ?_
  refine wc_iload_n dX7_init_1 rfl ?_
  refine wc_newI 0 (Or.inl ⟨rfl, rfl⟩) dX7_init_2 ⟨by omega, by omega⟩ _ rfl ?_
  refine wc_iload_n dX7_init_4 rfl ?_
  refine wc_newI 0 (Or.inl ⟨rfl, rfl⟩) dX7_init_5 ⟨by omega, by omega⟩ _ rfl ?_
  refine wc_iload dX7_init_7 rfl ?_
  refine wc_call dX7_init_9 rfl (cc_shp2 (t := newC (newC t (ckI 0 (r 0).toNat) (r 0).toNat (fun _ => 0)) (ckI 0 (r 0).toNat) (r 0).toNat (fun _ => 0)) (kd_dyn hz.1 c1) ew) (by omega) (hx_I (kI7_22 rfl) rfl (kd_dyn hz.1 c1) rfl rfl) ?_
  rintro _ _ ⟨rfl, g, g1, g2, g3⟩
  rename_i u1
  refine wc_iconst dX7_init_12 ?_
  refine wc_istore dX7_init_13 rfl ?_
  have gD : ∀ v, v < nvC t → u1.2.1 v = t.2.1 v := fun v hv => by
    rw [g.2.1]
    show (if v = nvC t + 1 then _ else if v = nvC t then _ else t.2.1 v) = _
    rw [if_neg (by omega), if_neg (by omega)]
  have gS : ∀ v, v < z → sg u1 v = sg t v := fun v hv => by
    rw [g.2.2 v (by omega), sg_new (by show v ≠ nvC t + 1; omega), sg_new (by omega)]
  have D1 : u1.2.1 (z + 1) = some (ckI 0 (r 0).toNat) := by
    rw [g.2.1]
    show (if z + 1 = nvC t + 1 then _ else if z + 1 = nvC t then some (ckI 0 (r 0).toNat) else t.2.1 (z + 1)) = _
    rw [if_neg (by omega), if_pos (by omega)]
  have D2 : u1.2.1 (z + 2) = some (ckI 0 (r 0).toNat) := by
    rw [g.2.1]
    show (if z + 2 = nvC t + 1 then some (ckI 0 (r 0).toNat) else _) = _
    rw [if_pos (by omega)]
  have e0 : n0C u1 = n0C t := by unfold n0C; rw [g.1]; rfl
  have ev : nvC u1 = z + 3 := by unfold nvC; rw [g.1]; show nvC t + 1 + 1 = _; omega
  have eu : uC u1 = uC t + (r 0).toNat + (r 0).toNat := by unfold uC; rw [g.1]; rfl
  have g1' : sg u1 z 0 = ((z + 1 : Nat) : Int) := by rw [g1]; show ((nvC t : Nat) : Int) = _; omega
  have g2' : sg u1 z 1 = ((z + 2 : Nat) : Int) := by rw [g2]; show ((nvC t + 1 : Nat) : Int) = _; omega
  have Kk := cc_shp_15 (T := kap) (d := d) (t := u1) (z := z) (a1 := a1) (a2 := a2) (z1 := z + 1) (z2 := z + 2) hr ⟨by omega, by omega, by omega, by omega, by omega, by omega, by omega⟩ ⟨kd_dyn hz.1 ((gD z (by omega)).trans hk.1), kd_dyn ha.1 ((gD a1 (by omega)).trans hk.2.1), kd_dyn ha.2.2.1 ((gD a2 (by omega)).trans hk.2.2), kd_dyn (by omega) D1, kd_dyn (by omega) D2⟩ ⟨⟨by omega, Or.inr (by omega)⟩, ⟨by omega, Or.inr (by omega)⟩⟩ ⟨g1', g2'⟩ (fun k k0 k1 => by rw [gS a1 ha.2.1, gS a2 ha.2.2.2]; exact hs k k0 k1) (r 0).toNat 0 u1 (by omega) (by omega) ⟨rfl, rfl, fun _ _ _ => rfl⟩ (fun k k0 k1 => by omega)
  refine Kk.mn (fun v u2 q => ?_)
  obtain ⟨q1, ⟨q2, q3, q4⟩, q5⟩ := q
  have ez : sg u2 z = sg u1 z := q4 z (by omega) (by omega)
  refine ⟨q1, ⟨by rw [q3]; exact (gD z (by omega)).trans hk.1, by rw [ez]; exact ⟨g1', g2', g3⟩, by rw [q3]; exact ⟨D1, D2⟩, q5⟩, ⟨⟨?_, ?_⟩, fun v hv => by rw [q3]; exact gD v hv, fun v hv => by rw [q4 v (by omega) (by omega)]; exact gS v hv⟩, ?_, ?_⟩
  · show u2.1.1 = _; rw [q2]; exact e0
  · show nvC t ≤ u2.1.2.1; rw [q2]; show nvC t ≤ nvC u1; omega
  · show u2.1.2.1 = _; rw [q2]; exact ev
  · show u2.1.2.2 ≤ _; rw [q2]; show uC u1 ≤ _; omega
end QSH
