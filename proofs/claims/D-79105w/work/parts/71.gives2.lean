/-! THE MODEL'S 'gives', 2: the worths, the table, the greedy end -/
set_option maxRecDepth 100000
def ddF (w : Nat → Int) (m s : Int) : Int := if isM w m ∧ m ≠ ledF w ∧ 0 ≤ pl0F w s then frF w s (celF w m) else -1
theorem wofF_dd (w : Nat → Int) (m s : Int) : wofF w m s = if ddF w m s < 0 then 0 else 10000 - ddF w m s := by
  unfold wofF ddF
  split
  · rfl
  · rw [if_pos (by decide)]
theorem ddF_rng (w : Nat → Int) (m s : Int) : -1 ≤ ddF w m s ∧ ddF w m s < 120 := by
  unfold ddF
  split
  · rename_i h
    exact bfsF_rng (blkF w) ⟨h.2.2, (pl0F_rng w s).2⟩ (celF w m)
  · omega
theorem bstF_rng {v W : Int → Int} {C A : Int} (hv : ∀ s, 0 ≤ v s ∧ v s ≤ 10000) (hW : ∀ A, 0 ≤ W A ∧ W A ≤ C) : ∀ (k : Nat) (s most : Int), 0 ≤ most ∧ most ≤ C + 10000 → 0 ≤ bstF v W A k s most ∧ bstF v W A k s most ≤ C + 10000 := by
  intro k
  induction k with
  | zero => intro s most h; exact h
  | succ k ih =>
    intro s most h
    unfold bstF
    refine ih (s + 1) _ ?_
    have h1 := hv s
    have h2 := hW (clrF A s)
    split
    · exact h
    · split <;> omega
theorem wthF_rng {v : Int → Int → Int} {n : Nat} (hv : ∀ m s, 0 ≤ v m s ∧ v m s ≤ 10000) : ∀ (k : Nat) (A : Int), 0 ≤ wthF v n k A ∧ wthF v n k A ≤ 10000 * k := by
  intro k
  induction k with
  | zero => intro A; show (0 : Int) ≤ 0 ∧ (0 : Int) ≤ _; omega
  | succ k ih =>
    intro A
    have := bstF_rng (A := A) (hv (9 - k)) ih n 0 (wthF v n k A) (by have := ih A; omega)
    show 0 ≤ bstF _ _ _ _ _ _ ∧ bstF _ _ _ _ _ _ ≤ _
    omega
/-- the worths' array -/
def GO (v : Int → Int → Int) (n : Int) (t : MT) : Prop := ∀ m s, 0 ≤ m → m < 10 → 0 ≤ s → s < n → t.2 10 (10 * m + s).toNat = v m s
/-- the table, k members from the end -/
def GT (v : Int → Int → Int) (n : Nat) (k : Nat) (t : MT) : Prop := ∀ (k' : Nat) (A : Int), k' ≤ k → 0 ≤ A → A < 2 ^ n → t.2 6 (1024 * (10 - (k' : Int)) + A).toNat = wthF v n k' A
section M6
variable {τ : MT} {m c v x y z b n : Int} {d : Nat} {Q : Option Int → MT → Prop}
/-- 'reckons': the loop over the slots for member m -/
theorem mc_reckons_16 {w : Nat → Int} {o5 : Option AV} (hd : 2 ≤ d) (hW : WG w) (hn : n = sltF w (w 3)) (hm : 0 ≤ m ∧ m < 10) : ∀ (k : Nat) (s : Int) (t : MT) (o5 : Option AV), s + k = n → 0 ≤ s → t.2 0 = w → GP w n t → (∀ m' s', 0 ≤ m' → m' < m → 0 ≤ s' → s' < n → t.2 10 (10 * m' + s').toNat = wofF w m' s') → (∀ s', 0 ≤ s' → s' < s → t.2 10 (10 * m + s').toNat = wofF w m s') →
    (∀ t' o, t'.1 = t.1 → (∀ a, a ≠ 10 → t'.2 a = t.2 a) → (∀ m' s', 0 ≤ m' → m' < m + 1 → 0 ≤ s' → s' < n → t'.2 10 (10 * m' + s').toNat = wofF w m' s') → Wm d rX3_reckons 101 [some (.inr 1), some (.inl n), some (.inl (ledF w)), some (.inl m), some (.inl n), o] [] t' Q) →
    Wm d rX3_reckons 16 [some (.inr 1), some (.inl n), some (.inl (ledF w)), some (.inl m), some (.inl s), o5] [] t Q := by
  obtain ⟨w0, wr, w3, wc, ws, wa, wk⟩ := hW
  have hl := ledF_rng w w0.2
  intro k
  induction k with
  | zero =>
    intro s t o5 hs h0 hw hg h1 h2 K
    have e : s = n := by omega
    subst e
    refine wm_iload dX3_reckons_16 rfl ?_
    refine wm_iload_n dX3_reckons_18 rfl ?_
    refine wm_icmp dX3_reckons_19 (cB_ge ⟨by omega, by omega⟩ ⟨by omega, by omega⟩) 101 rfl (fun c19 => ?_) (fun c19 => ?_)
    ·
      refine K t _ rfl (fun _ _ => rfl) (fun m' s' a1 a2 a3 a4 => ?_)
      by_cases e : m' = m
      · subst e; exact h2 s' a3 a4
      · exact h1 m' s' a1 (by omega) a3 a4
    ·
      omega
  | succ k ih =>
    intro s t o5 hs h0 hw hg h1 h2 K
    have hpl := pl0F_rng w s
    have hgs := hg s h0 (by omega)
    have hdd := ddF_rng w m s
    have hwc := wc m hm.1 (by omega)
    have h66 : ∀ v, v = ddF w m s → Wm d rX3_reckons 66 [some (.inr 1), some (.inl n), some (.inl (ledF w)), some (.inl m), some (.inl s), o5] [.inl v] t Q := fun v hv => by
      subst hv
      have fin_ : ∀ u, u = wofF w m s → Wm d rX3_reckons 95 [some (.inr 1), some (.inl n), some (.inl (ledF w)), some (.inl m), some (.inl s), some (.inl (ddF w m s))] [] (stA t 10 (10 * m + s).toNat u) Q := fun u hu => by
        subst hu
        have r1 : (stA t 10 (10 * m + s).toNat (wofF w m s)).2 10 (10 * m + s).toNat = wofF w m s := by simp [stA]
        have r2 : ∀ i, i ≠ (10 * m + s).toNat → (stA t 10 (10 * m + s).toNat (wofF w m s)).2 10 i = t.2 10 i := fun i hi => by simp [stA, hi]
        have r3 : ∀ a, a ≠ 10 → (stA t 10 (10 * m + s).toNat (wofF w m s)).2 a = t.2 a := fun a ha => by funext i; simp [stA, ha]
        refine wm_iinc dX3_reckons_95 rfl ?_
        refine wm_goto dX3_reckons_98 16 rfl ?_
        refine ih (s + 1) _ _ (by omega) (by omega) (by rw [r3 0 (by decide)]; exact hw) (hg.congr (r3 3 (by decide)) (r3 5 (by decide))) (fun m' s' a1 a2 a3 a4 => by rw [r2 _ (by omega)]; exact h1 m' s' a1 a2 a3 a4) (fun s' a3 a4 => ?_) (fun t' o e1 e2 e3 => K t' o e1 (fun a ha => by rw [e2 a ha, r3 a ha]) e3)
        by_cases e : s' = s
        · subst e; exact r1
        · rw [r2 _ (by omega)]; exact h2 s' a3 (by omega)
      refine wm_istore dX3_reckons_66 rfl ?_
      refine wm_aload_n dX3_reckons_68 rfl ?_
      refine wm_getA dX3_reckons_69 (kF3_28 rfl) rfl ?_
      refine wm_bipush dX3_reckons_72 (by decide) ?_
      refine wm_iload_n dX3_reckons_74 rfl ?_
      refine wm_imul dX3_reckons_75 ?_
      refine wm_iload dX3_reckons_76 rfl ?_
      refine wm_iadd dX3_reckons_78 ?_
      refine wm_iload dX3_reckons_79 rfl ?_
      refine wm_if dX3_reckons_81 (cB_ge ⟨by omega, by omega⟩ ⟨by omega, by omega⟩) 88 rfl (fun c81 => ?_) (fun c81 => ?_)
      ·
        refine wm_sipush dX3_reckons_88 (by decide) ?_
        refine wm_iload dX3_reckons_91 rfl ?_
        refine wm_isub dX3_reckons_93 ?_
        refine wm_iastore dX3_reckons_94 rfl ⟨by omega, by omega⟩ _ rfl ?_
        exact fin_ _ (by rw [wofF_dd, if_neg (by omega)])
      ·
        refine wm_iconst dX3_reckons_84 ?_
        refine wm_goto dX3_reckons_85 94 rfl ?_
        refine wm_iastore dX3_reckons_94 rfl ⟨by omega, by omega⟩ _ rfl ?_
        exact fin_ _ (by rw [wofF_dd, if_pos (by omega)])
    refine wm_iload dX3_reckons_16 rfl ?_
    refine wm_iload_n dX3_reckons_18 rfl ?_
    refine wm_icmp dX3_reckons_19 (cB_ge ⟨by omega, by omega⟩ ⟨by omega, by omega⟩) 101 rfl (fun c19 => ?_) (fun c19 => ?_)
    ·
      omega
    ·
      refine wm_aload_n dX3_reckons_22 rfl ?_
      refine wm_iload_n dX3_reckons_23 rfl ?_
      refine wm_callv dX3_reckons_24 (kV3_65 rfl) rfl (mc_isMember (by omega) (by rw [hw]; exact w0) (by rw [hw]; exact wr)) (by omega) rfl rfl ?_
      rintro _ _ ⟨rfl, ⟨h24, rfl⟩ | ⟨h24, rfl⟩⟩
      ·
        refine wm_ifF dX3_reckons_27 (by decide) 65 rfl ?_
        refine wm_iload_n dX3_reckons_30 rfl ?_
        refine wm_iload_n dX3_reckons_31 rfl ?_
        refine wm_icmp dX3_reckons_32 (cB_eq ⟨by omega, by omega⟩ ⟨by omega, by omega⟩) 65 rfl (fun c32 => ?_) (fun c32 => ?_)
        ·
          refine wm_iconst dX3_reckons_65 ?_
          exact h66 _ (by rw [ddF, if_neg (fun h => h.2.1 c32)])
        ·
          refine wm_aload_n dX3_reckons_35 rfl ?_
          refine wm_getA dX3_reckons_36 (kF3_19 rfl) rfl ?_
          refine wm_iload dX3_reckons_39 rfl ?_
          refine wm_iaload dX3_reckons_41 rfl ⟨by omega, by omega⟩ _ rfl ?_
          refine wm_if dX3_reckons_42 (cB_lt (by rw [hgs.1]; omega) ⟨by omega, by omega⟩) 65 rfl (fun c42 => ?_) (fun c42 => ?_)
          ·
            refine wm_iconst dX3_reckons_65 ?_
            rw [hgs.1] at c42
            exact h66 _ (by rw [ddF, if_neg (fun h => by have := h.2.2; omega)])
          ·
            refine wm_aload_n dX3_reckons_45 rfl ?_
            refine wm_getA dX3_reckons_46 (kF3_13 rfl) rfl ?_
            refine wm_bipush dX3_reckons_49 (by decide) ?_
            refine wm_iload dX3_reckons_51 rfl ?_
            refine wm_imul dX3_reckons_53 ?_
            refine wm_aload_n dX3_reckons_54 rfl ?_
            refine wm_iload_n dX3_reckons_55 rfl ?_
            refine wm_iconst dX3_reckons_56 ?_
            refine wm_callv dX3_reckons_57 (kV3_61 rfl) rfl (mc_of (by omega)) (by omega) rfl rfl ?_
            rintro _ _ ⟨rfl, rfl⟩
            refine wm_iadd dX3_reckons_60 ?_
            refine wm_iaload dX3_reckons_61 rfl (by rw [hw]; show 0 ≤ 120 * s + celF w m ∧ 120 * s + celF w m < 1440; rw [hw] at h24; have := h24.2; unfold celF at hwc ⊢; omega) _ rfl ?_
            refine wm_goto dX3_reckons_62 66 rfl ?_
            rw [hgs.1] at c42
            rw [hw] at h24 ⊢
            exact h66 _ (by rw [ddF, if_pos ⟨h24, c32, by omega⟩]; exact hgs.2 (by omega) (celF w m) (by have := h24.2; unfold celF; omega) hwc.2)
      ·
        refine wm_ifT dX3_reckons_27 (by decide) 65 rfl ?_
        refine wm_iconst dX3_reckons_65 ?_
        rw [hw] at h24
        exact h66 _ (by rw [ddF, if_neg (fun h => h24 h.1)])
theorem mc_reckons_7 {w : Nat → Int} (hd : 2 ≤ d) (hW : WG w) (hn : n = sltF w (w 3)) : ∀ (k : Nat) (m : Int) (t : MT) (o4 o5 : Option AV), m + k = 10 → 0 ≤ m → t.2 0 = w → GP w n t → (∀ m' s', 0 ≤ m' → m' < m → 0 ≤ s' → s' < n → t.2 10 (10 * m' + s').toNat = wofF w m' s') →
    (∀ t', t'.1 = t.1 → (∀ a, a ≠ 10 → t'.2 a = t.2 a) → GO (wofF w) n t' → Q none t') →
    Wm d rX3_reckons 7 [some (.inr 1), some (.inl n), some (.inl (ledF w)), some (.inl m), o4, o5] [] t Q := by
  have ws := hW.2.2.2.2.1
  intro k
  induction k with
  | zero =>
    intro m t o4 o5 hm h0 hw hg h1 K
    refine wm_iload_n dX3_reckons_7 rfl ?_
    refine wm_bipush dX3_reckons_8 (by decide) ?_
    refine wm_icmp dX3_reckons_10 (cB_ge ⟨by omega, by omega⟩ ⟨by omega, by omega⟩) 107 rfl (fun c10 => ?_) (fun c10 => ?_)
    ·
      refine wm_vreturn dX3_reckons_107 rfl ?_
      exact K t rfl (fun _ _ => rfl) (fun m' s' a1 a2 a3 a4 => h1 m' s' a1 (by omega) a3 a4)
    ·
      omega
  | succ k ih =>
    intro m t o4 o5 hm h0 hw hg h1 K
    refine wm_iload_n dX3_reckons_7 rfl ?_
    refine wm_bipush dX3_reckons_8 (by decide) ?_
    refine wm_icmp dX3_reckons_10 (cB_ge ⟨by omega, by omega⟩ ⟨by omega, by omega⟩) 107 rfl (fun c10 => ?_) (fun c10 => ?_)
    ·
      omega
    ·
      refine wm_iconst dX3_reckons_13 ?_
      refine wm_istore dX3_reckons_14 rfl ?_
      refine mc_reckons_16 (o5 := none) hd hW hn ⟨h0, by omega⟩ n.toNat 0 t _ (by omega) (by omega) hw hg h1 (fun s' a1 a2 => by omega) (fun t' o e1 e2 e3 => ?_)
      refine wm_iinc dX3_reckons_101 rfl ?_
      refine wm_goto dX3_reckons_104 7 rfl ?_
      exact ih (m + 1) t' _ _ (by omega) (by omega) (by rw [e2 0 (by decide)]; exact hw) (hg.congr (e2 3 (by decide)) (e2 5 (by decide))) e3 (fun t2 f1 f2 f3 => K t2 (by rw [f1, e1]) (fun a ha => by rw [f2 a ha, e2 a ha]) f3)
theorem mc_reckons {w : Nat → Int} (hW : WG w) (hn : n = sltF w (w 3)) (hw : τ.2 0 = w) (hg : GP w n τ) : Mt 3 rX3_reckons [.inr 1, .inl n] τ (fun v t => none = v ∧ t.1 = τ.1 ∧ (∀ a, a ≠ 10 → t.2 a = τ.2 a) ∧ GO (wofF w) n t) := by
  intro d hd
  refine wm_aload_n dX3_reckons_0 rfl ?_
  refine wm_callv dX3_reckons_1 (kV3_85 rfl) rfl (mc_leader (by rw [hw]; exact hW.1) (by rw [hw]; exact hW.2.1)) (by omega) rfl rfl ?_
  rintro _ _ ⟨rfl, rfl⟩
  refine wm_istore_n dX3_reckons_4 rfl ?_
  refine wm_iconst dX3_reckons_5 ?_
  refine wm_istore_n dX3_reckons_6 rfl ?_
  rw [hw]
  exact mc_reckons_7 (by omega) hW hn 10 0 τ _ _ (by omega) (by omega) hw hg (fun m' s' a1 a2 => by omega) (fun t' e1 e2 e3 => ⟨rfl, e1, e2, e3⟩)
end M6
