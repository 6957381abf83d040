/-! THE CLASS'S METHODS, 66: commands read -/
set_option maxRecDepth 100000
/-- a fault with the place P, thrown by the reader's callers -/
def ThE (y : Nat) (P : Int) (t : CT) (q : Nat) (u : CT) : Prop := (110 ≤ q ∧ u.2.1 q = some wrK ∧ sg u q 6 = P) ∧ FrD y t u ∧ nvC u ≤ nvC t + 300 ∧ uC u ≤ uC t + 9000
/-- a list of commands -/
def CmL (y a xa : Nat) (L : OLs) (t : CT) : Prop := (∃ n, ALs kap t a xa n L.length 9) ∧ (y + 3 ≤ a ∧ (xa = 3 ∨ y + 4 ≤ xa)) ∧ ∀ i, i < L.length → y + 4 ≤ (sg t xa i).toNat ∧ CmC t (sg t xa i).toNat (L.getD i (0, 0, 0))
/-- what commands leaves -/
def CoQ (y : Nat) (τ : CT) (E : Int × OLs) (v : CO) (u : CT) : Prop := (∃ q, v = .inr q ∧ 0 ≤ E.1 ∧ ThE y E.1 τ q u) ∨ (E.1 = -1 ∧ ∃ a xa, v = .inl (some (.inr a)) ∧ CmL y a xa E.2 u ∧ E.2.length ≤ 45 ∧ FrD y τ u ∧ nvC u ≤ nvC τ + 300 ∧ uC u ≤ uC τ + 9000)
section CMDS
variable {w w' : Nat → Int} {R : Nat → Nat → Int} {τ t u : CT} {m c v C x s f e A P p Y : Int} {d i j k a b z pc y q n xa : Nat} {Q : CO → CT → Prop} {r : Nat → Int} {tp : Nat → Int} {L : OLs}
theorem cc_listInit (ka : t.2.1 a = some alK) (ha : 110 ≤ a) (hw : wrC t a) : Ct kap 2 rJ2_init [.inr a] t (fun v u => none = v ∧ FrQ a t u ∧ sg u a 1 = 3 ∧ sg u a 2 = sg t a 2) := by
  have kd0 : ∀ t' : CT, FrQ a t t' → kd kap t' a = some alK := fun t' g => kd_dyn ha (by rw [g.2.1]; exact ka)
  have hwr : ∀ t' : CT, FrQ a t t' → wrC t' a := fun t' g => wrC_wk hw (by unfold n0C; rw [g.1])
  have k0 := kd0 t FrQ.rf
  have h0 : Ct kap 0 rJ0_init [.inr a] t (fun v u => none = v ∧ u = t) := by
    intro d hd
    refine wc_aload_n dJ0_init_0 rfl ?_
    refine wc_obj dJ0_init_1 rfl (by rw [k0]; rfl) rfl ?_
    refine wc_vreturn dJ0_init_4 rfl ?_
    exact ⟨rfl, rfl⟩
  have h1 : Ct kap 1 rJ1_init [.inr a] t (fun v u => none = v ∧ FrQ a t u ∧ sg u a 2 = sg t a 2) := by
    intro d hd
    refine wc_aload_n dJ1_init_0 rfl ?_
    refine wc_call dJ1_init_1 rfl (h0) (by omega) (hx_I (kI21_1 rfl) rfl k0 rfl rfl) ?_
    rintro _ _ ⟨rfl, rfl⟩
    refine wc_aload_n dJ1_init_4 rfl ?_
    refine wc_iconst dJ1_init_5 ?_
    refine wc_putI dJ1_init_6 (kF21_7 rfl) rfl k0 rfl hw (Or.inl rfl) ?_
    refine wc_vreturn dJ1_init_9 rfl ?_
    exact ⟨rfl, stC_q _ _ _ _, by rw [sg_st, if_neg (by decide)]⟩
  intro d hd
  refine wc_aload_n dJ2_init_0 rfl ?_
  refine wc_call dJ2_init_1 rfl (h1) (by omega) (hx_I (kI22_1 rfl) rfl k0 rfl rfl) ?_
  rintro _ _ ⟨rfl, g, g2⟩
  refine wc_aload_n dJ2_init_4 rfl ?_
  refine wc_getstatic dJ2_init_5 (kT22_39 rfl) rfl ?_
  refine wc_putR dJ2_init_8 (kF22_9 rfl) rfl (kd0 _ g) rfl (hwr _ g) rfl ?_
  refine wc_vreturn dJ2_init_11 rfl ?_
  exact ⟨rfl, g.tr (stC_q _ _ _ _), by rw [sg_st, if_pos rfl]; rfl, by rw [sg_st, if_neg (by decide)]; exact g2⟩
theorem num_le {T : Int} (hp : 0 ≤ p) (h : (numF tp T (-1) p).2.2 = -1) : (numF tp T (-1) p).2.1 ≤ T := by
  unfold numF at h ⊢
  by_cases h1 : ¬ dig (heF tp T p)
  · rw [if_pos h1] at h; exact absurd h (by show ¬ p = -1; omega)
  · rw [if_neg h1] at h ⊢
    have l1 : p < T := he_lt (tp := tp) (by have := Classical.not_not.mp h1; omega)
    by_cases h2 : ¬ dig (heF tp T (p + 1))
    · rw [if_pos h2]; show p + 1 ≤ T; omega
    · rw [if_neg h2]
      have l2 : p + 1 < T := he_lt (tp := tp) (by have := Classical.not_not.mp h2; omega)
      show p + 2 ≤ T
      omega
theorem ord1_ok {T : Int} (ht : ∀ i, 0 ≤ tp i ∧ tp i ≤ 127) (hp : 0 ≤ p ∧ p < 800) (h : (ord1 tp T p).1 = -1) : (p + 2 ≤ (ord1 tp T p).2.1 ∧ (ord1 tp T p).2.1 ≤ p + 6) ∧ ordL (ord1 tp T p).2.2.1 ∧ (0 ≤ (ord1 tp T p).2.2.2.1 ∧ (ord1 tp T p).2.2.2.1 ≤ 99) ∧ (0 ≤ (ord1 tp T p).2.2.2.2 ∧ (ord1 tp T p).2.2.2.2 ≤ 99) ∧ (ord1 tp T p).2.1 ≤ T := by
  have hn := numF_rng (T := T) (f := -1) (p := p + 1) ht (by omega) (by omega)
  unfold ord1 at h ⊢
  by_cases h1 : ¬ (heF tp T p = 97 ∨ heF tp T p = 111 ∨ heF tp T p = 116 ∨ heF tp T p = 108 ∨ heF tp T p = 120 ∨ heF tp T p = 103)
  · rw [if_pos h1] at h; exact absurd h (by show ¬ p = -1; omega)
  · rw [if_neg h1] at h ⊢
    have h1' := Classical.not_not.mp h1
    by_cases h2 : ¬ (heF tp T p = 97 ∨ heF tp T p = 111 ∨ heF tp T p = 116)
    · rw [if_pos h2] at h ⊢
      dsimp only at h ⊢
      exact ⟨by omega, h1', hn.1, by omega, num_le (by omega) h⟩
    · rw [if_neg h2] at h ⊢
      by_cases h3 : 0 ≤ (numF tp T (-1) (p + 1)).2.2
      · rw [if_pos h3] at h; exact absurd h (by show ¬ (numF tp T (-1) (p + 1)).2.2 = -1; omega)
      · rw [if_neg h3] at h ⊢
        by_cases h4 : ¬ heF tp T (numF tp T (-1) (p + 1)).2.1 = 44
        · rw [if_pos h4] at h; exact absurd h (by show ¬ (numF tp T (-1) (p + 1)).2.1 = -1; omega)
        · rw [if_neg h4] at h ⊢
          have hn2 := numF_rng (T := T) (f := -1) (p := (numF tp T (-1) (p + 1)).2.1 + 1) ht (by omega) (by omega)
          dsimp only at h ⊢
          exact ⟨by omega, h1', hn.1, hn2.1, num_le (by omega) h⟩
/-- what the state says of the empty array's contents is of no account -/
def s3C (t : CT) (f : Nat → Int) : CT := (t.1, t.2.1, fun v => if v = 3 then f else sg t v)
theorem s3_o {f : Nat → Int} {v : Nat} (hv : v ≠ 3) : sg (s3C t f) v = sg t v := if_neg hv
theorem s3_3 {f : Nat → Int} : sg (s3C t f) 3 = f := by
  unfold s3C sg
  simp
theorem Rep.s3 {E : CE} {h : MH} {f : Nat → Int} (R : Rep kap E t h) : Rep kap E (s3C t f) h := by
  obtain ⟨r1, r2, r3, r4, r5, r6, r7, r8, r9⟩ := R
  have hkd : ∀ v, kd kap (s3C t f) v = kd kap t v := fun v => rfl
  refine ⟨r1, r2, r3, r4, fun v q hv => ?_, fun v w a h1 h2 => r6 v w a h1 h2, r7, ⟨r8.1, fun v v1 v2 => ?_⟩, r9⟩
  · obtain ⟨q1, b, q2, q3, q4, q5, q6⟩ := r5 v q hv
    refine ⟨q1, b, q2, q3, q4, q5, ?_⟩
    by_cases e : v = 3
    · subst e
      have hk : q = ckRc 4 0 (fun _ => 0) := by
        have : kd kap t 3 = some (ckRc 4 0 (fun _ => 0)) := rfl
        rw [hkd, this] at hv
        exact (Option.some.inj hv).symm
      rw [q6, hk]
      rfl
    · rw [s3_o e]; exact q6
  · have e : v ≠ 3 := by omega
    rw [s3_o e]
    exact r8.2 v v1 v2
theorem Ct.s3 {M : MRec} {as : List AV} {Q Q' : Option AV → CT → Prop} {f : Nat → Int} (h : Ct kap k M as t Q) (w : ∀ v u, Q v u → Q' v (s3C u f)) : Ct kap k M as t Q' := fun d hd E H R => Wp.mono (h d hd E H R) (fun r h' ⟨v, u, h1, h2, h3⟩ => ⟨v, s3C u f, h1, h2.s3, by
  rcases v with v | v
  · exact w v u h3
  · exact h3⟩)
theorem cc_addS {n s ci : Nat} {v : Nat} (hA : ALs kap t a xa n s ci) (ha : a ≠ 3) (hs : s < 200) (hci : (mFit 0 ci && (ci == 1 || ci == 4 || ci == 7 || ci == 9)) = true) (hy : ∃ fs, kd kap t v = some (ckO ci fs)) : Ct kap 5 rJ2_add [.inr a, .inr v] t (fun r u => some (.inl 1) = r ∧ AddP kap a xa n s ci ((v : Nat) : Int) t u ∧ sg u 3 = sg t 3) := (cc_add hA hs hci hy).s3 (f := sg t 3) (fun r u q => by
  obtain ⟨q1, x', n', gA, g1, g2, g3, ⟨f1, f2, f3, f4⟩, g5⟩ := q
  have hx3 : x' ≠ 3 := fun e => by
    rcases gA.2.2.1 with ⟨-, q2, -⟩ | ⟨-, q2, -⟩
    · have := gA.2.1.2.2.1; omega
    · rw [e] at q2; cases q2
  refine ⟨q1, ⟨x', n', gA.fr (fun _ _ q => q) rfl (by rw [s3_o ha]) (by rw [s3_o ha]) (s3_o hx3), by rw [s3_o hx3]; exact g1, by rw [s3_o hx3]; exact g2, g3, ⟨f1, f2, f3, fun v h1 h2 h3 => ?_⟩, g5⟩, s3_3⟩
  by_cases e : v = 3
  · rw [e]; exact s3_3
  · rw [s3_o e]; exact f4 v h1 h2 h3)
theorem ThD.toE (g : ThD y P t q u) (hF : FrD y τ t) (h1 : nvC t ≤ nvC τ + 250) (h2 : uC t ≤ uC τ + 8000) : ThE y P τ q u := ⟨g.1, hF.tr g.2.1, by have := g.2.2; omega, by have := g.2.2; omega⟩
/-- a command made and put into the list -/
theorem CmL.add {z : Nat} {q : Int × Int × Int} {t1 : CT} (h : CmL y a xa L t) (hk : ∀ v, v < nvC t → t1.2.1 v = t.2.1 v) (hs : ∀ v, v < nvC t → (v < y ∨ y + 3 ≤ v) → sg t1 v = sg t v) (hn0 : n0C t1 = n0C t) (hnv : nvC t ≤ nvC t1) (hlt : ∀ v k, kd kap t v = some k → v < nvC t) (hz : y + 4 ≤ z ∧ nvC t ≤ z ∧ z < nvC t1) (hq : CmC t1 z q) (hy : 1000 ≤ y) (hL : L.length ≤ 50) (hn01 : n0C t1 ≤ nvC t1) : (∃ n, ALs kap t1 a xa n L.length 9) ∧ ∀ n, ALs kap t1 a xa n L.length 9 → AddP kap a xa n L.length 9 ((z : Nat) : Int) t1 u → ∃ xb, CmL y a xb (L ++ [q]) u := by
  obtain ⟨⟨n, hA⟩, ⟨ha, hxa⟩, hC⟩ := h
  have hkd : ∀ v k, kd kap t v = some k → kd kap t1 v = some k := fun v k q => by
    have hv := hlt v k q
    unfold kd at *
    by_cases e : v < 110
    · rw [if_pos e] at *; exact q
    · rw [if_neg e] at *; rw [hk v hv]; exact q
  have han : a < nvC t := hlt _ _ hA.1.1
  have hxn : xa < nvC t := by
    rcases hA.2.2.1 with ⟨q1, q2, g, q3⟩ | ⟨q1, q2, -⟩
    · have := hlt _ _ q3; omega
    · exact hlt _ _ q2
  have sx : sg t1 xa = sg t xa := hs xa hxn (by omega)
  refine ⟨⟨n, hA.fr hkd hn0 (by rw [hs a han (by omega)]) (by rw [hs a han (by omega)]) sx⟩, fun n2 hA2 g => ?_⟩
  obtain ⟨x', n', gA, g1, g2, g3, ⟨f1, f2, f3, f4⟩, g5⟩ := g
  have hx' : x' = 3 ∨ y + 4 ≤ x' := by
    rcases g3 with ⟨q1, -⟩ | ⟨q1, -⟩
    · rw [q1]; exact hxa
    · right; omega
  have elen : (L ++ [q]).length = L.length + 1 := by simp
  have hcm : ∀ c q, c < nvC t1 → 1000 ≤ c → CmC t1 c q → CmC u c q := fun c q hc hc2 hh => by
    obtain ⟨h1, h2⟩ := hh
    have hca : c ≠ a := fun e => by
      have := hA2.1.1
      rw [← e, kd_dyn (by omega) h1] at this
      cases this
    have hcx : c ≠ xa := fun e => by
      rcases hA2.2.2.1 with ⟨q1, -⟩ | ⟨-, q2, -⟩
      · omega
      · rw [← e, kd_dyn (by omega) h1] at q2; cases q2
    unfold CmC
    rw [f3 c hc, f4 c hc hca hcx]
    exact ⟨h1, h2⟩
  refine ⟨x', ⟨n', by rw [elen]; exact gA⟩, ⟨ha, hx'⟩, fun i hi => ?_⟩
  rw [elen] at hi
  by_cases e : i = L.length
  · subst e
    rw [g2, Int.toNat_natCast, show (L ++ [q]).getD L.length (0, 0, 0) = q by simp]
    exact ⟨hz.1, hcm z q hz.2.2 (by omega) hq⟩
  · have hi' : i < L.length := by omega
    have hc := hC i hi'
    rw [g1 i hi', sx, show (L ++ [q]).getD i (0, 0, 0) = L.getD i (0, 0, 0) by simp [List.getD, List.getElem?_append_left hi']]
    have hcn : (sg t xa i).toNat < nvC t := hlt _ _ (kd_dyn (T := kap) (by omega) hc.2.1)
    refine ⟨hc.1, hcm _ _ (by omega) (by omega) ?_⟩
    obtain ⟨h1, h2⟩ := hc.2
    unfold CmC
    rw [hk _ hcn, hs _ hcn (by omega)]
    exact ⟨h1, h2⟩
theorem cc_commands_17 {E : Int × OLs} (hT : 0 ≤ sg τ 10 14 ∧ sg τ 10 14 ≤ 60) (ht : ∀ i, 0 ≤ sg τ 21 i ∧ sg τ 21 i ≤ 127) (hd : 6 ≤ d) : ∀ (n : Nat) (p : Int) (L : OLs) (t : CT) (xa : Nat), 100 ≤ p + n → (0 ≤ p ∧ p ≤ sg τ 10 14) → 2 * (L.length : Int) ≤ p → RD y p r t → FrD y τ t → CmL y a xa L t → (nvC t ≤ nvC τ + 4 + 2 * L.length ∧ uC t ≤ uC τ + 50 + 124 * L.length) → prsF (sg τ 21) (sg τ 10 14) n p L = E → Wc kap d rX5_commands 17 [some (.inr y), some (.inr a)] [] t (CoQ y τ E) := by
  intro n
  induction n with
  | zero => intro p L t xa hn hp; omega
  | succ n ih =>
    intro p L t xa hn hp hL hD hF hC hb hE
    refine Wc.rp (fun ⟨hnv, hlt⟩ => ?_)
    have h21 : sg t 21 = sg τ 21 := hF.2.2 21 (by have := hD.1.1; omega)
    have h10 : sg t 10 = sg τ 10 := hF.2.2 10 (by have := hD.1.1; omega)
    have hTt : 0 ≤ sg t 10 14 ∧ sg t 10 14 ≤ 60 := by rw [h10]; exact hT
    have htt : ∀ i, 0 ≤ sg t 21 i ∧ sg t 21 i ≤ 127 := by rw [h21]; exact ht
    have hh := heF_rng (T := sg τ 10 14) (p := p) ht
    have hy1 := hD.1.1
    have cS := cc_sign hD ⟨hp.1, by omega⟩ hTt
    rw [h21, h10] at cS
    have ky := hD.ky
    have hw := hD.wr
    have hD1 := hD.next
    have hF1 : FrD y τ (stC t y 4 (p + 1)) := hF.tr (FrD.s1 (Nat.le_refl y))
    have cC := cc_command hD1 ⟨by omega, by omega⟩ (by rw [hF1.2.2 10 (by omega)]; exact hT) (by rw [hF1.2.2 21 (by omega)]; exact ht) hnv.2
    unfold CmQ at cC
    rw [hF1.2.2 10 (by omega), hF1.2.2 21 (by omega)] at cC
    have hok := ord1_ok (tp := sg τ 21) (T := sg τ 10 14) (p := p + 1) ht (by omega)
    have hE1 : heF (sg τ 21) (sg τ 10 14) p = 59 → (if 0 ≤ (ord1 (sg τ 21) (sg τ 10 14) (p + 1)).1 then ((ord1 (sg τ 21) (sg τ 10 14) (p + 1)).1, L) else prsF (sg τ 21) (sg τ 10 14) n (ord1 (sg τ 21) (sg τ 10 14) (p + 1)).2.1 (L ++ [(ord1 (sg τ 21) (sg τ 10 14) (p + 1)).2.2])) = E := fun q => by rw [← hE]; conv => rhs; unfold prsF; rw [if_pos q]
    have hE2 : ¬ heF (sg τ 21) (sg τ 10 14) p = 59 → (if p < sg τ 10 14 then (p, L) else (-1, L)) = E := fun q => by rw [← hE]; conv => rhs; unfold prsF; rw [if_neg q]
    generalize ord1 (sg τ 21) (sg τ 10 14) (p + 1) = O at cC hok hE1
    have ka : kd kap t a = some alK := by obtain ⟨⟨n2, hA⟩, -⟩ := hC; exact hA.1.1
    refine wc_aload_n dX5_commands_17 rfl ?_
    refine wc_call dX5_commands_18 rfl (cS) (by omega) (hx_V (kV5_41 rfl) rfl ky rfl rfl) ?_
    rintro _ _ ⟨rfl, rfl⟩
    refine wc_bipush dX5_commands_21 (by decide) ?_
    refine wc_icmp dX5_commands_23 (cB_ne (show rng _ by omega) (by omega)) 48 rfl (fun c23 => ?_) (fun c23 => ?_)
    ·
      refine wc_aload_n dX5_commands_48 rfl ?_
      refine wc_aload_n dX5_commands_49 rfl ?_
      refine wc_getI dX5_commands_50 (kF5_26 rfl) ky rfl ?_
      rw [hD.2.1.2.2]
      refine wc_aload_n dX5_commands_53 rfl ?_
      refine wc_getR (y := 10) dX5_commands_54 (kF5_3 rfl) ky rfl hD.e5 ?_
      refine wc_getI dX5_commands_57 (kF5_29 rfl) rfl rfl ?_
      rw [h10]
      refine wc_icmp dX5_commands_60 (cB_ne (show rng _ by omega) (show rng _ by omega)) 67 rfl (fun c60 => ?_) (fun c60 => ?_)
      ·
        refine wc_iconst dX5_commands_67 ?_
        refine wc_callX dX5_commands_68 rfl (cc_need0 hD (by omega)) (by omega) (hx_V (kV5_49 rfl) rfl ky rfl rfl) ?_ ?_
        · rintro _ _ ⟨q, h, -⟩
          cases h
        · rintro _ _ ⟨q, h, hT⟩
          cases h
          have hE3 := hE2 (by omega)
          rw [if_pos (by omega)] at hE3
          have e1 : E.1 = p := by rw [← hE3]
          exact Or.inl ⟨rfl, Or.inl ⟨_, rfl, by rw [e1]; exact hp.1, by rw [e1]; exact (hT.thd (by omega)).toE hF (by omega) (by omega)⟩⟩
      ·
        refine wc_iconst dX5_commands_63 ?_
        refine wc_goto dX5_commands_64 68 rfl ?_
        refine wc_call dX5_commands_68 rfl (cc_need1 hD (by omega)) (by omega) (hx_V (kV5_49 rfl) rfl ky rfl rfl) ?_
        rintro _ _ ⟨rfl, rfl⟩
        refine wc_aload_n dX5_commands_71 rfl ?_
        refine wc_areturn dX5_commands_72 rfl ?_
        have hE3 := hE2 (by omega)
        rw [if_neg (by omega)] at hE3
        have e1 : E.1 = -1 := by rw [← hE3]
        have e2 : E.2 = L := by rw [← hE3]
        exact Or.inr ⟨e1, a, xa, rfl, by rw [e2]; exact hC, by rw [e2]; omega, hF, by omega, by omega⟩
    ·
      refine wc_aload_n dX5_commands_26 rfl ?_
      refine wc_dup dX5_commands_27 ?_
      refine wc_getI dX5_commands_28 (kF5_26 rfl) ky rfl ?_
      rw [hD.2.1.2.2]
      refine wc_iconst dX5_commands_31 ?_
      refine wc_iadd dX5_commands_32 ?_
      refine wc_putI dX5_commands_33 (kF5_26 rfl) rfl ky rfl hw (Or.inl rfl) ?_
      refine wc_aload_n dX5_commands_36 rfl ?_
      refine wc_aload_n dX5_commands_37 rfl ?_
      refine wc_callX dX5_commands_38 rfl (cC) (by omega) (hx_V (kV5_79 rfl) rfl hD1.ky rfl rfl) ?_ ?_
      rotate_left
      ·
        rintro q u (⟨q', hq, hq0, hT2⟩ | ⟨-, hq, -⟩)
        · cases hq
          have hE3 := hE1 (by omega)
          rw [if_pos hq0] at hE3
          have e1 : E.1 = O.1 := by rw [← hE3]
          refine Or.inl ⟨rfl, Or.inl ⟨_, rfl, by rw [e1]; exact hq0, by rw [e1]; exact hT2.toE hF1 (show nvC t ≤ _ by omega) (show uC t ≤ _ by omega)⟩⟩
        · cases hq
      rintro _ _ q
      rename_i u1
      rcases q with ⟨q, hq, -⟩ | ⟨q0, hq, q1, hD2, hF2, hv2, n2, m2⟩
      · cases hq
      cases hq
      have hok := hok q0
      have hE3 := hE1 (by omega)
      rw [if_neg (by omega)] at hE3
      have hnv2 : nvC u1 = nvC t + 1 := n2
      have hu2 : uC u1 = uC t + 4 := m2
      have hn02 : n0C u1 = n0C t := hF2.1.1
      obtain ⟨⟨nn, hA⟩, -⟩ := hC.add (t1 := u1) (z := nvC t) (u := u1) (q := O.2.2) hF2.2.1 (fun v v1 v2 => (hv2 v v1 v2).trans (sg_st' (by omega))) hn02 (by omega) hlt ⟨by have := hC.2.1.1; have := hlt _ _ ka; omega, Nat.le_refl _, by omega⟩ q1 (by omega) (by omega) (by omega)
      refine wc_call dX5_commands_41 rfl (cc_addS hA (by have := hC.2.1.1; omega) (by omega) rfl ⟨_, kd_dyn (by omega) q1.1⟩) (by omega) (hx_V (kV5_83 rfl) rfl hA.1.1 rfl rfl) ?_
      rintro _ _ ⟨rfl, g, g03⟩
      rename_i u2
      obtain ⟨xb, hC2⟩ := (hC.add (t1 := u1) (z := nvC t) (u := u2) (q := O.2.2) hF2.2.1 (fun v v1 v2 => (hv2 v v1 v2).trans (sg_st' (by omega))) hn02 (by omega) hlt ⟨by have := hC.2.1.1; have := hlt _ _ ka; omega, Nat.le_refl _, by omega⟩ q1 (by omega) (by omega) (by omega)).2 nn hA g
      have gg := g
      obtain ⟨x', n', -, -, -, g3, ⟨f1, f2, f3, f4⟩, g5⟩ := gg
      have hax := hC.2.1
      have hD3 : RD y O.2.1 r u2 := hD2.ext f1 f2.1 (fun v v1 v2 => ⟨f3 v (by omega), f4 v (by omega) (by omega) (by omega)⟩)
      have hF3 : FrD y τ u2 := (hF1.tr hF2).tr ⟨⟨f1, f2.1⟩, f3, fun v hv => by
        by_cases e3 : v = 3
        · rw [e3]; exact g03
        · exact f4 v (by omega) (by omega) (by have := hax.2; omega)⟩
      refine wc_pop dX5_commands_44 ?_
      refine wc_goto dX5_commands_45 17 rfl ?_
      exact ih O.2.1 (L ++ [O.2.2]) u2 xb (by omega) ⟨by omega, hok.2.2.2.2⟩ (by rw [List.length_append, List.length_singleton]; omega) hD3 hF3 hC2 ⟨by rw [List.length_append, List.length_singleton]; omega, by rw [List.length_append, List.length_singleton]; omega⟩ hE3
theorem cc_commands (hD : RD y 0 r τ) (hy : nvC τ = y + 3) (hT : 0 ≤ sg τ 10 14 ∧ sg τ 10 14 ≤ 60) (ht : ∀ i, 0 ≤ sg τ 21 i ∧ sg τ 21 i ≤ 127) : CtX kap 6 rX5_commands [.inr y] τ (CoQ y τ (prs0F (sg τ 21) (sg τ 10 14))) := by
  intro d hd
  refine Wc.rp (fun ⟨hnv0, hlt0⟩ => ?_)
  have hy1 := hD.1.1
  have kn : (newC τ alK 3 (fun _ => 0)).2.1 (nvC τ) = some alK := if_pos rfl
  have cI := cc_listInit (t := newC τ alK 3 (fun _ => 0)) kn (by omega) ⟨by omega, Or.inr hnv0.2⟩
  have hok := ord1_ok (tp := sg τ 21) (T := sg τ 10 14) (p := 0) ht (by omega)
  have hE1 : (if 0 ≤ (ord1 (sg τ 21) (sg τ 10 14) 0).1 then ((ord1 (sg τ 21) (sg τ 10 14) 0).1, []) else prsF (sg τ 21) (sg τ 10 14) 100 (ord1 (sg τ 21) (sg τ 10 14) 0).2.1 [(ord1 (sg τ 21) (sg τ 10 14) 0).2.2]) = prs0F (sg τ 21) (sg τ 10 14) := rfl
  generalize prs0F (sg τ 21) (sg τ 10 14) = E at hE1 ⊢
  refine wc_new dX5_commands_0 (kN5_76 rfl) rfl ?_
  refine wc_dup dX5_commands_3 ?_
  refine wc_call dX5_commands_4 rfl (cI) (by omega) (hx_I (kI5_78 rfl) rfl (kd_nw (by omega)) rfl rfl) ?_
  rintro _ _ ⟨rfl, g, g1, g2⟩
  rename_i t
  have hn0 : n0C t = n0C τ := by unfold n0C; rw [g.1]; rfl
  have hnv : nvC t = nvC τ + 1 := by unfold nvC; rw [g.1]; rfl
  have huu : uC t = uC τ + 3 := by unfold uC; rw [g.1]; rfl
  have eD : ∀ v, v < nvC τ → t.2.1 v = τ.2.1 v := fun v hv => by rw [g.2.1]; exact if_neg (Nat.ne_of_lt hv)
  have eS : ∀ v, v < nvC τ → sg t v = sg τ v := fun v hv => by rw [g.2.2 v (by omega), sg_new (by omega)]
  have hF : FrD y τ t := ⟨⟨hn0, by omega⟩, eD, fun v hv => eS v (by omega)⟩
  have hD0 : RD y 0 r t := hD.ext hn0 (by omega) (fun v v1 v2 => ⟨eD v (by omega), eS v (by omega)⟩)
  have kat : t.2.1 (nvC τ) = some alK := by rw [g.2.1]; exact kn
  have hC : CmL y (nvC τ) 3 [] t := ⟨⟨0, ⟨kd_dyn (by omega) kat, ⟨by omega, Or.inr (by omega)⟩⟩, ⟨g1, by rw [g2, sg_nw]; rfl, by simp, by simp, by simp⟩, Or.inl ⟨rfl, rfl, _, rfl⟩, fun i hi => absurd hi (by simp)⟩, ⟨by omega, Or.inl rfl⟩, fun i hi => absurd hi (by simp)⟩
  refine Wc.rp (fun ⟨hnvt, hlt⟩ => ?_)
  have cC := cc_command hD0 ⟨by omega, by omega⟩ (by rw [hF.2.2 10 (by omega)]; exact hT) (by rw [hF.2.2 21 (by omega)]; exact ht) hnvt.2
  unfold CmQ at cC
  rw [hF.2.2 10 (by omega), hF.2.2 21 (by omega)] at cC
  generalize ord1 (sg τ 21) (sg τ 10 14) 0 = O at cC hok hE1
  refine wc_astore_n dX5_commands_7 rfl ?_
  refine wc_aload_n dX5_commands_8 rfl ?_
  refine wc_aload_n dX5_commands_9 rfl ?_
  refine wc_callX dX5_commands_10 rfl (cC) (by omega) (hx_V (kV5_79 rfl) rfl hD0.ky rfl rfl) ?_ ?_
  rotate_left
  ·
    rintro q u (⟨q', hq, hq0, hT2⟩ | ⟨-, hq, -⟩)
    · cases hq
      rw [if_pos hq0] at hE1
      have e1 : E.1 = O.1 := by rw [← hE1]
      exact Or.inl ⟨rfl, Or.inl ⟨_, rfl, by rw [e1]; exact hq0, by rw [e1]; exact hT2.toE hF (by omega) (by omega)⟩⟩
    · cases hq
  rintro _ _ q
  rename_i u1
  rcases q with ⟨q, hq, -⟩ | ⟨q0, hq, q1, hD2, hF2, hv2, n2, m2⟩
  · cases hq
  cases hq
  have hok := hok q0
  rw [if_neg (by omega)] at hE1
  have hn02 : n0C u1 = n0C t := hF2.1.1
  have ka : kd kap t (nvC τ) = some alK := kd_dyn (by omega) kat
  obtain ⟨⟨nn, hA⟩, -⟩ := hC.add (t1 := u1) (z := nvC t) (u := u1) (q := O.2.2) hF2.2.1 (fun v v1 v2 => hv2 v v1 v2) hn02 (by omega) hlt ⟨by omega, Nat.le_refl _, by omega⟩ q1 (by omega) (by simp) (by omega)
  refine wc_call dX5_commands_13 rfl (cc_addS hA (by omega) (by simp) rfl ⟨_, kd_dyn (by omega) q1.1⟩) (by omega) (hx_V (kV5_83 rfl) rfl hA.1.1 rfl rfl) ?_
  rintro _ _ ⟨rfl, g9, g03⟩
  rename_i u2
  obtain ⟨xb, hC2⟩ := (hC.add (t1 := u1) (z := nvC t) (u := u2) (q := O.2.2) hF2.2.1 (fun v v1 v2 => hv2 v v1 v2) hn02 (by omega) hlt ⟨by omega, Nat.le_refl _, by omega⟩ q1 (by omega) (by simp) (by omega)).2 nn hA g9
  have gg := g9
  obtain ⟨x', n', -, -, -, g3, ⟨f1, f2, f3, f4⟩, g5⟩ := gg
  have hD3 : RD y O.2.1 r u2 := hD2.ext f1 f2.1 (fun v v1 v2 => ⟨f3 v (by omega), f4 v (by omega) (by omega) (by omega)⟩)
  have hF3 : FrD y τ u2 := (hF.tr hF2).tr ⟨⟨f1, f2.1⟩, f3, fun v hv => by
    by_cases e3 : v = 3
    · rw [e3]; exact g03
    · exact f4 v (by omega) (by omega) (by omega)⟩
  refine wc_pop dX5_commands_16 ?_
  exact cc_commands_17 hT ht hd 100 O.2.1 [O.2.2] u2 xb (by omega) ⟨by omega, hok.2.2.2.2⟩ (by rw [List.length_singleton]; omega) hD3 hF3 hC2 ⟨by rw [List.length_singleton]; omega, by have : (([] : OLs).length) = 0 := rfl; rw [List.length_singleton]; omega⟩ hE1
end CMDS
