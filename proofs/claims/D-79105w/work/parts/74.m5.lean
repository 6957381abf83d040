/-! THE MODEL'S METHODS, 5: 'isFormed', 'leads' -/
set_option maxRecDepth 100000
theorem gr1F_rng {V : Int → Int → Int} {n k : Nat} {g : GS} (h : ∀ m, -1 ≤ g.2.2.2 m ∧ g.2.2.2 m < max n 1) : ∀ m, -1 ≤ (gr1F V n k g).2.2.2 m ∧ (gr1F V n k g).2.2.2 m < max n 1 := by
  intro m
  unfold gr1F
  split
  · exact h m
  · rename_i hn
    dsimp only
    split
    · rcases fstI_rng (pickF (V (9 - k)) (wthF V n k) g.1 (wthF V n (k + 1) g.1)) n 0 (by omega) with e | ⟨a1, a2, -⟩
      · omega
      · omega
    · exact h m
theorem grF_rng {V : Int → Int → Int} {n : Nat} : ∀ (k : Nat) (g : GS), (∀ m, -1 ≤ g.2.2.2 m ∧ g.2.2.2 m < max n 1) → ∀ m, -1 ≤ (grF V n k g).2.2.2 m ∧ (grF V n k g).2.2.2 m < max n 1 := by
  intro k
  induction k with
  | zero => intro g h; exact h
  | succ k ih => intro g h; exact ih _ (gr1F_rng h)
def slF (w : Nat → Int) (m : Int) : Int := (givF w).2.2.2 m
theorem gr1F_lt {V : Int → Int → Int} {n k : Nat} {g : GS} (h : ∀ m, g.2.2.2 m < n ∨ g.2.2.2 m = -1) : ∀ m, (gr1F V n k g).2.2.2 m < n ∨ (gr1F V n k g).2.2.2 m = -1 := by
  intro m
  unfold gr1F
  split
  · exact h m
  · rename_i hn
    dsimp only
    split
    · rcases fstI_rng (pickF (V (9 - k)) (wthF V n k) g.1 (wthF V n (k + 1) g.1)) n 0 (by omega) with e | ⟨a1, a2, -⟩ <;> omega
    · exact h m
theorem grF_lt {V : Int → Int → Int} {n : Nat} : ∀ (k : Nat) (g : GS), (∀ m, g.2.2.2 m < n ∨ g.2.2.2 m = -1) → ∀ m, (grF V n k g).2.2.2 m < n ∨ (grF V n k g).2.2.2 m = -1 := by
  intro k
  induction k with
  | zero => intro g h; exact h
  | succ k ih => intro g h; exact ih _ (gr1F_lt h)
theorem slF_rng (w : Nat → Int) (hs : 0 ≤ sltF w (w 3) ∧ sltF w (w 3) ≤ 10) (m : Int) : -1 ≤ slF w m ∧ (0 ≤ slF w m → slF w m < sltF w (w 3)) ∧ slF w m ≤ 9 := by
  have h1 := grF_rng (V := wofF w) (n := (sltF w (w 3)).toNat) 10 (lftF w (sltF w (w 3)).toNat 0 0, 0, 0, fun _ => -1) (fun m => by dsimp only; omega) m
  have h2 := grF_lt (V := wofF w) (n := (sltF w (w 3)).toNat) 10 (lftF w (sltF w (w 3)).toNat 0 0, 0, 0, fun _ => -1) (fun m => Or.inr rfl) m
  unfold slF givF
  omega
theorem gr1F_gv {V : Int → Int → Int} {n k : Nat} {g : GS} {C : Int} (h : 0 ≤ g.2.1 ∧ g.2.1 ≤ C) : 0 ≤ (gr1F V n k g).2.1 ∧ (gr1F V n k g).2.1 ≤ C + 1 := by
  unfold gr1F
  split
  · omega
  · dsimp only; omega
theorem grF_gv {V : Int → Int → Int} {n : Nat} : ∀ (k : Nat) (g : GS) (C : Int), 0 ≤ g.2.1 ∧ g.2.1 ≤ C → 0 ≤ (grF V n k g).2.1 ∧ (grF V n k g).2.1 ≤ C + k := by
  intro k
  induction k with
  | zero => intro g C h; show 0 ≤ g.2.1 ∧ g.2.1 ≤ _; omega
  | succ k ih =>
    intro g C h
    have := ih _ _ (gr1F_gv (V := V) (n := n) (k := k) h)
    show 0 ≤ (grF V n k (gr1F V n k g)).2.1 ∧ (grF V n k (gr1F V n k g)).2.1 ≤ _
    omega
theorem gv_rng {w : Nat → Int} (hs : 0 ≤ sltF w (w 3) ∧ sltF w (w 3) ≤ 10) : rng (givF w).2.1 := by
  have := grF_gv (V := wofF w) (n := (sltF w (w 3)).toNat) 10 (lftF w (sltF w (w 3)).toNat 0 0, 0, 0, fun _ => -1) 0 ⟨Int.le_refl _, Int.le_refl _⟩
  unfold givF
  omega
def okF (w : Nat → Int) (m : Int) : Prop := 0 ≤ slF w m → celF w m = pl0F w (slF w m)
def formF (w : Nat → Int) : Prop := 0 ≤ ledF w ∧ (¬ (givF w).2.1 = 0 ∨ sltF w (w 3) = 1) ∧ ∀ m, 0 ≤ m → m < 10 → okF w m
def lwayF (F : Int → Int) (w1 : Nat → Int) (m dd : Int) : Int → Bool := fun v => decide (0 ≤ besF (celF w1 m) v ∧ F (besF (celF w1 m) v) = dd - 1)
def lead1F (F : Int → Int) (w1 : Nat → Int) (m dd v : Int) : Nat → Int := if v < 0 then w1 else if onF w1 (besF (celF w1 m) v) < 0 then updW (cntW (goesF w1 m (besF (celF w1 m) v)) 1) (12 + 6 * m + 5).toNat 0 else updW (waitsF w1 m) (12 + 6 * m + 5).toNat 9
def leadF (w : Nat → Int) : Nat → Int :=
  if w 2 < 0 then updW w (12 + 6 * ledF w + 5).toNat 6 else if celF w (ledF w) = w 2 then updW w (12 + 6 * ledF w + 5).toNat 7 else
  if bfsF (blkF w) (w 2) (celF w (ledF w)) ≤ 0 then updW w (12 + 6 * ledF w + 5).toNat 8 else
  lead1F (bfsF (blkF w) (w 2)) (updW w (12 + 6 * ledF w + 5).toNat 8) (ledF w) (bfsF (blkF w) (w 2) (celF w (ledF w))) (wayF (lwayF (bfsF (blkF w) (w 2)) (updW w (12 + 6 * ledF w + 5).toNat 8) (ledF w) (bfsF (blkF w) (w 2) (celF w (ledF w)))))
section M9
variable {τ : MT} {m c v x y z b n dd : Int} {d : Nat} {Q : Option Int → MT → Prop}
theorem mc_isFormed_38 (hd : 2 ≤ d) {w : Nat → Int} {t : MT} {o1 : Option AV} (hW : WG w) (hv : GV w τ t) (hw : t.2 0 = w) (h1 : 0 ≤ ledF w) (h2 : ¬ (givF w).2.1 = 0 ∨ sltF w (w 3) = 1) : ∀ (k : Nat) (m : Int), m + k = 10 → 0 ≤ m → (∀ m', 0 ≤ m' → m' < m → okF w m') → Wm d rX3_isFormed 38 [some (.inr 1), o1, some (.inl m)] [] t (fun v t' => t = t' ∧ ((formF w ∧ some 1 = v) ∨ (¬ formF w ∧ some 0 = v))) := by
  obtain ⟨w0, wr, w3, wc, ws, wa, wk⟩ := hW
  intro k
  induction k with
  | zero =>
    intro m hm h0 hok
    refine wm_iload_n dX3_isFormed_38 rfl ?_
    refine wm_bipush dX3_isFormed_39 (by decide) ?_
    refine wm_icmp dX3_isFormed_41 (cB_ge ⟨by omega, by omega⟩ ⟨by omega, by omega⟩) 81 rfl (fun c41 => ?_) (fun c41 => ?_)
    ·
      refine wm_iconst dX3_isFormed_81 ?_
      refine wm_breturn dX3_isFormed_82 rfl (by omega) ?_
      exact ⟨rfl, Or.inl ⟨⟨h1, h2, fun m a1 a2 => hok m a1 (by omega)⟩, rfl⟩⟩
    ·
      omega
  | succ k ih =>
    intro m hm h0 hok
    have hs := hv.2.2.1 m h0 (by omega)
    have hsd : gsl t m = t.2 7 m.toNat := rfl
    have hsr := slF_rng w ws m
    have hsl : slF w m = (givF w).2.2.2 m := rfl
    have hpl := pl0F_rng w (slF w m)
    have hcm := wc m h0 (by omega)
    have hcd : celF w m = w (12 + 6 * m + 0).toNat := rfl
    have hgp : 0 ≤ slF w m → t.2 5 (t.2 7 m.toNat).toNat = pl0F w (slF w m) := fun h => by
      rw [show t.2 7 m.toNat = slF w m by omega]
      exact (hv.2.1 (slF w m) h (hsr.2.1 h)).1
    refine wm_iload_n dX3_isFormed_38 rfl ?_
    refine wm_bipush dX3_isFormed_39 (by decide) ?_
    refine wm_icmp dX3_isFormed_41 (cB_ge ⟨by omega, by omega⟩ ⟨by omega, by omega⟩) 81 rfl (fun c41 => ?_) (fun c41 => ?_)
    ·
      omega
    ·
      refine wm_aload_n dX3_isFormed_44 rfl ?_
      refine wm_getA dX3_isFormed_45 (kF3_25 rfl) rfl ?_
      refine wm_iload_n dX3_isFormed_48 rfl ?_
      refine wm_iaload dX3_isFormed_49 rfl ⟨by omega, by omega⟩ _ rfl ?_
      refine wm_if dX3_isFormed_50 (cB_lt (by omega) ⟨by omega, by omega⟩) 75 rfl (fun c50 => ?_) (fun c50 => ?_)
      ·
        refine wm_iinc dX3_isFormed_75 rfl ?_
        refine wm_goto dX3_isFormed_78 38 rfl ?_
        exact ih (m + 1) (by omega) (by omega) (fun m' a1 a2 => by
          by_cases e : m' = m
          · subst e; exact fun h => by omega
          · exact hok m' a1 (by omega))
      ·
        refine wm_aload_n dX3_isFormed_53 rfl ?_
        refine wm_iload_n dX3_isFormed_54 rfl ?_
        refine wm_iconst dX3_isFormed_55 ?_
        refine wm_callv dX3_isFormed_56 (kV3_61 rfl) rfl (mc_of (by omega)) (by omega) rfl rfl ?_
        rintro _ _ ⟨rfl, rfl⟩
        refine wm_aload_n dX3_isFormed_59 rfl ?_
        refine wm_getA dX3_isFormed_60 (kF3_19 rfl) rfl ?_
        refine wm_aload_n dX3_isFormed_63 rfl ?_
        refine wm_getA dX3_isFormed_64 (kF3_25 rfl) rfl ?_
        refine wm_iload_n dX3_isFormed_67 rfl ?_
        refine wm_iaload dX3_isFormed_68 rfl ⟨by omega, by omega⟩ _ rfl ?_
        refine wm_iaload dX3_isFormed_69 rfl ⟨by omega, by omega⟩ _ rfl ?_
        refine wm_icmp dX3_isFormed_70 (cB_eq (by rw [hw]; omega) (by rw [hgp (by omega)]; omega)) 75 rfl (fun c70 => ?_) (fun c70 => ?_)
        ·
          refine wm_iinc dX3_isFormed_75 rfl ?_
          refine wm_goto dX3_isFormed_78 38 rfl ?_
          rw [hgp (by omega), hw] at c70
          exact ih (m + 1) (by omega) (by omega) (fun m' a1 a2 => by
            by_cases e : m' = m
            · subst e; exact fun h => c70
            · exact hok m' a1 (by omega))
        ·
          refine wm_iconst dX3_isFormed_73 ?_
          refine wm_breturn dX3_isFormed_74 rfl (by omega) ?_
          rw [hgp (by omega), hw] at c70
          exact ⟨rfl, Or.inr ⟨fun h => c70 (h.2.2 m h0 (by omega) (by omega)), rfl⟩⟩
theorem mc_isFormed (hW : WG (τ.2 0)) (hf : HF τ) : Mt 6 rX3_isFormed [.inr 1] τ (fun v t => GV (τ.2 0) τ t ∧ ((formF (τ.2 0) ∧ some 1 = v) ∨ (¬ formF (τ.2 0) ∧ some 0 = v))) := by
  intro d hd
  have hl := ledF_rng (τ.2 0) hW.1.2
  have hs := hW.2.2.2.2.1
  refine wm_aload_n dX3_isFormed_0 rfl ?_
  refine wm_callv dX3_isFormed_1 (kV3_111 rfl) rfl (mc_gives hW hf) (by omega) rfl rfl ?_
  rintro _ _ ⟨rfl, g⟩
  rename_i t
  have hw := g.1.w
  have hg8 := g.2.2.2.1
  refine wm_aload_n dX3_isFormed_4 rfl ?_
  refine wm_getA dX3_isFormed_5 (kF3_9 rfl) rfl ?_
  refine wm_iconst dX3_isFormed_8 ?_
  refine wm_iaload dX3_isFormed_9 rfl ⟨by omega, by omega⟩ 3 rfl ?_
  refine wm_istore_n dX3_isFormed_10 rfl ?_
  refine wm_aload_n dX3_isFormed_11 rfl ?_
  refine wm_callv dX3_isFormed_12 (kV3_85 rfl) rfl (mc_leader (by rw [hw]; exact hW.1) (by rw [hw]; exact hW.2.1)) (by omega) rfl rfl ?_
  rintro _ _ ⟨rfl, rfl⟩
  rw [hw]
  refine wm_if dX3_isFormed_15 (cB_lt ⟨by omega, by omega⟩ ⟨by omega, by omega⟩) 34 rfl (fun c15 => ?_) (fun c15 => ?_)
  ·
    refine wm_iconst dX3_isFormed_34 ?_
    refine wm_breturn dX3_isFormed_35 rfl (by omega) ?_
    exact ⟨g, Or.inr ⟨fun h => by have := h.1; omega, rfl⟩⟩
  ·
    refine wm_aload_n dX3_isFormed_18 rfl ?_
    refine wm_getI dX3_isFormed_19 (kF3_95 rfl) rfl rfl ?_
    refine wm_if dX3_isFormed_22 (cB_ne (by rw [hg8]; exact gv_rng hs) ⟨by omega, by omega⟩) 36 rfl (fun c22 => ?_) (fun c22 => ?_)
    ·
      refine wm_iconst dX3_isFormed_36 ?_
      refine wm_istore_n dX3_isFormed_37 rfl ?_
      refine (mc_isFormed_38 (by omega) hW g hw (by omega) ?_ 10 0 (by omega) (by omega) (fun m a1 a2 => by omega)).mono (fun v t' h => ⟨h.1 ▸ g, h.2⟩)
      first | exact Or.inl (by rw [← hg8]; assumption) | exact Or.inr (by assumption)
    ·
      refine wm_aload_n dX3_isFormed_25 rfl ?_
      refine wm_iload_n dX3_isFormed_26 rfl ?_
      refine wm_callv dX3_isFormed_27 (kV3_101 rfl) rfl (mc_slots hW.2.2.1) (by omega) rfl rfl ?_
      rintro _ _ ⟨rfl, rfl⟩
      rw [hw]
      refine wm_iconst dX3_isFormed_30 ?_
      refine wm_icmp dX3_isFormed_31 (cB_eq ⟨by omega, by omega⟩ ⟨by omega, by omega⟩) 36 rfl (fun c31 => ?_) (fun c31 => ?_)
      ·
        refine wm_iconst dX3_isFormed_36 ?_
        refine wm_istore_n dX3_isFormed_37 rfl ?_
        refine (mc_isFormed_38 (by omega) hW g hw (by omega) ?_ 10 0 (by omega) (by omega) (fun m a1 a2 => by omega)).mono (fun v t' h => ⟨h.1 ▸ g, h.2⟩)
        first | exact Or.inl (by rw [← hg8]; assumption) | exact Or.inr (by assumption)
      ·
        refine wm_iconst dX3_isFormed_34 ?_
        refine wm_breturn dX3_isFormed_35 rfl (by omega) ?_
        exact ⟨g, Or.inr ⟨fun h => by rcases h.2.1 with q | q; exact q (by rw [← hg8]; exact Classical.not_not.mp c22); exact c31 q, rfl⟩⟩
theorem mc_leads_93 {f : Int → Int} {q : Nat → Int} {w : Nat → Int} (hm : 0 ≤ m ∧ m ≤ 9) (hc : 0 ≤ celF w m ∧ celF w m < 120) (h0 : 0 ≤ w 0 ∧ w 0 ≤ 10) (hr : ∀ i, rng (w i)) (hf : ∀ x, -1 ≤ f x ∧ f x ≤ 1000) (hdd : 0 < dd ∧ dd ≤ 1000) (hd : 3 ≤ d) : ∀ (n : Nat) (i : Int) (o5 : Option AV), i + n = 4 → 0 ≤ i → Wm d rX3_leads 93 [some (.inr 1), some (.inl m), some (.inl 1200), some (.inl dd), some (.inl i), o5] [] (setW (flR τ 1200 f q) w) (fun v t => none = v ∧ setW (flR τ 1200 f q) (lead1F f w m dd (fstI (lwayF f w m dd) n i)) = t) := by
  intro n
  induction n with
  | zero =>
    intro i o5 hi hi0
    refine wm_iload dX3_leads_93 rfl ?_
    refine wm_iconst dX3_leads_95 ?_
    refine wm_icmp dX3_leads_96 (cB_ge ⟨by omega, by omega⟩ ⟨by omega, by omega⟩) 191 rfl (fun c96 => ?_) (fun c96 => ?_)
    ·
      refine wm_vreturn dX3_leads_191 rfl ?_
      exact ⟨rfl, by rw [fstI, lead1F, if_pos (by decide)]⟩
    ·
      omega
  | succ n ih =>
    intro i o5 hi hi0
    have hbs := besF_rng (celF w m) i
    have hon := onF_rng w (besF (celF w m) i)
    have hfr : 0 ≤ besF (celF w m) i → (setW (flR τ 1200 f q) w).2 3 (1200 + besF (celF w m) i).toNat = f (besF (celF w m) i) := fun h => flR_f τ f q (by omega) ⟨h, hbs.2⟩
    have hfx := hf (besF (celF w m) i)
    have hno : lwayF f w m dd i = false → ∀ o5, Wm d rX3_leads 93 [some (.inr 1), some (.inl m), some (.inl 1200), some (.inl dd), some (.inl (i + 1)), o5] [] (setW (flR τ 1200 f q) w) (fun v t => none = v ∧ setW (flR τ 1200 f q) (lead1F f w m dd (fstI (lwayF f w m dd) (n + 1) i)) = t) := fun h o5 => by
      rw [fstI, if_neg (by rw [h]; decide)]
      exact ih (i + 1) o5 (by omega) (by omega)
    refine wm_iload dX3_leads_93 rfl ?_
    refine wm_iconst dX3_leads_95 ?_
    refine wm_icmp dX3_leads_96 (cB_ge ⟨by omega, by omega⟩ ⟨by omega, by omega⟩) 191 rfl (fun c96 => ?_) (fun c96 => ?_)
    ·
      omega
    ·
      refine wm_iload_n dX3_leads_99 rfl ?_
      refine wm_if dX3_leads_100 (cB_le ⟨by omega, by omega⟩ ⟨by omega, by omega⟩) 191 rfl (fun c100 => ?_) (fun c100 => ?_)
      ·
        omega
      ·
        refine wm_aload_n dX3_leads_103 rfl ?_
        refine wm_iload_n dX3_leads_104 rfl ?_
        refine wm_iconst dX3_leads_105 ?_
        refine wm_callv dX3_leads_106 (kV3_61 rfl) rfl (mc_of (by omega)) (by omega) rfl rfl ?_
        rintro _ _ ⟨rfl, rfl⟩
        refine wm_iload dX3_leads_109 rfl ?_
        refine wm_calls dX3_leads_111 (kS3_72 rfl) (kSn3_72 rfl) (mc_beside (c := celF w m) hc (by omega)) (by omega) rfl rfl ?_
        rintro _ _ ⟨rfl, rfl⟩
        refine wm_istore dX3_leads_114 rfl ?_
        refine wm_iload dX3_leads_116 rfl ?_
        refine wm_if dX3_leads_118 (cB_lt ⟨by omega, by omega⟩ ⟨by omega, by omega⟩) 185 rfl (fun c118 => ?_) (fun c118 => ?_)
        ·
          refine wm_iinc dX3_leads_185 rfl ?_
          refine wm_goto dX3_leads_188 93 rfl ?_
          exact hno (by unfold lwayF; rw [decide_eq_false_iff_not]; exact fun h => by have := h.1; omega) _
        ·
          refine wm_aload_n dX3_leads_121 rfl ?_
          refine wm_getA dX3_leads_122 (kF3_13 rfl) rfl ?_
          refine wm_iload_n dX3_leads_125 rfl ?_
          refine wm_iload dX3_leads_126 rfl ?_
          refine wm_iadd dX3_leads_128 ?_
          refine wm_iaload dX3_leads_129 rfl ⟨by omega, by omega⟩ _ rfl ?_
          refine wm_iload_n dX3_leads_130 rfl ?_
          refine wm_iconst dX3_leads_131 ?_
          refine wm_isub dX3_leads_132 ?_
          refine wm_icmp dX3_leads_133 (cB_eq (by rw [hfr (by omega)]; omega) ⟨by omega, by omega⟩) 139 rfl (fun c133 => ?_) (fun c133 => ?_)
          ·
            refine wm_aload_n dX3_leads_139 rfl ?_
            refine wm_iload dX3_leads_140 rfl ?_
            refine wm_callv dX3_leads_142 (kV3_121 rfl) rfl (mc_on (τ := setW (flR τ 1200 f q) w) (by omega) h0 hr) (by omega) rfl rfl ?_
            rintro _ _ ⟨rfl, rfl⟩
            refine wm_if dX3_leads_145 (cB_lt (show rng (onF w (besF (celF w m) i)) by omega) ⟨by omega, by omega⟩) 164 rfl (fun c145 => ?_) (fun c145 => ?_)
            ·
              refine wm_aload_n dX3_leads_164 rfl ?_
              refine wm_iload_n dX3_leads_165 rfl ?_
              refine wm_iload dX3_leads_166 rfl ?_
              refine wm_callv dX3_leads_168 (kV3_127 rfl) rfl (mc_goes hm) (by omega) rfl rfl ?_
              rintro _ _ ⟨rfl, rfl⟩
              refine wm_aload_n dX3_leads_171 rfl ?_
              refine wm_iconst dX3_leads_172 ?_
              refine wm_iconst dX3_leads_173 ?_
              refine wm_callv dX3_leads_174 (kV3_118 rfl) rfl (mc_countW (by omega)) (by omega) rfl rfl ?_
              rintro _ _ ⟨rfl, rfl⟩
              refine wm_aload_n dX3_leads_177 rfl ?_
              refine wm_iload_n dX3_leads_178 rfl ?_
              refine wm_iconst dX3_leads_179 ?_
              refine wm_iconst dX3_leads_180 ?_
              refine wm_callv dX3_leads_181 (kV3_114 rfl) rfl (mc_layW (by omega)) (by omega) rfl rfl ?_
              rintro _ _ ⟨rfl, rfl⟩
              refine wm_vreturn dX3_leads_184 rfl ?_
              rw [hfr (by omega)] at c133
              have hy : lwayF f w m dd i = true := by
                unfold lwayF
                rw [decide_eq_true_eq]
                exact ⟨by omega, c133⟩
              have c145' := c145
              first
                | (have c145' : onF w (besF (celF w m) i) < 0 := c145; exact ⟨rfl, by rw [fstI, if_pos hy, lead1F, if_neg (by omega), if_pos c145']; rfl⟩)
                | (have c145' : ¬ onF w (besF (celF w m) i) < 0 := c145; exact ⟨rfl, by rw [fstI, if_pos hy, lead1F, if_neg (by omega), if_neg c145']; rfl⟩)
            ·
              refine wm_aload_n dX3_leads_148 rfl ?_
              refine wm_iload_n dX3_leads_149 rfl ?_
              refine wm_callv dX3_leads_150 (kV3_124 rfl) rfl (mc_waits hm) (by omega) rfl rfl ?_
              rintro _ _ ⟨rfl, rfl⟩
              refine wm_aload_n dX3_leads_153 rfl ?_
              refine wm_iload_n dX3_leads_154 rfl ?_
              refine wm_iconst dX3_leads_155 ?_
              refine wm_bipush dX3_leads_156 (by decide) ?_
              refine wm_callv dX3_leads_158 (kV3_114 rfl) rfl (mc_layW (by omega)) (by omega) rfl rfl ?_
              rintro _ _ ⟨rfl, rfl⟩
              refine wm_goto dX3_leads_161 184 rfl ?_
              refine wm_vreturn dX3_leads_184 rfl ?_
              rw [hfr (by omega)] at c133
              have hy : lwayF f w m dd i = true := by
                unfold lwayF
                rw [decide_eq_true_eq]
                exact ⟨by omega, c133⟩
              have c145' := c145
              first
                | (have c145' : onF w (besF (celF w m) i) < 0 := c145; exact ⟨rfl, by rw [fstI, if_pos hy, lead1F, if_neg (by omega), if_pos c145']; rfl⟩)
                | (have c145' : ¬ onF w (besF (celF w m) i) < 0 := c145; exact ⟨rfl, by rw [fstI, if_pos hy, lead1F, if_neg (by omega), if_neg c145']; rfl⟩)
          ·
            refine wm_goto dX3_leads_136 185 rfl ?_
            refine wm_iinc dX3_leads_185 rfl ?_
            refine wm_goto dX3_leads_188 93 rfl ?_
            rw [hfr (by omega)] at c133
            exact hno (by unfold lwayF; rw [decide_eq_false_iff_not]; exact fun h => c133 h.2) _
/-- what 'leads' leaves: the row, the distances from the target -/
def LD (τ t : MT) (w : Nat → Int) : Prop := ∃ f q, t = setW (flR τ 1200 f q) w ∧ ∀ x, -1 ≤ f x ∧ f x ≤ 1000
theorem mc_leads (hd : 0 ≤ ledF (τ.2 0)) (h0 : 0 ≤ τ.2 0 0 ∧ τ.2 0 0 ≤ 10) (hr : ∀ i, rng (τ.2 0 i)) (hc : celF (τ.2 0) (ledF (τ.2 0)) < 120) (ht : τ.2 0 2 < 120) (hu : ∀ i, rng (updW (τ.2 0) (12 + 6 * ledF (τ.2 0) + 5).toNat 8 i)) (hf : HF τ) : Mt 4 rX3_leads [.inr 1] τ (fun v t => none = v ∧ LD τ t (leadF (τ.2 0))) := by
  intro d hdd
  have hl := ledF_rng (τ.2 0) h0.2
  have hcg := (hl.2.2 hd).2
  have hcd : celF (τ.2 0) (ledF (τ.2 0)) = τ.2 0 (12 + 6 * ledF (τ.2 0) + 0).toNat := rfl
  have hid : flR τ 1200 (fun i => τ.2 3 (1200 + i).toNat) (τ.2 4) = τ := flR_id τ 1200 (by omega)
  have hff : ∀ x : Int, -1 ≤ τ.2 3 (1200 + x).toNat ∧ τ.2 3 (1200 + x).toNat ≤ 1000 := fun x => hf _
  refine wm_aload_n dX3_leads_0 rfl ?_
  refine wm_callv dX3_leads_1 (kV3_85 rfl) rfl (mc_leader h0 hr) (by omega) rfl rfl ?_
  rintro _ _ ⟨rfl, rfl⟩
  refine wm_istore_n dX3_leads_4 rfl ?_
  refine wm_aload_n dX3_leads_5 rfl ?_
  refine wm_getA dX3_leads_6 (kF3_9 rfl) rfl ?_
  refine wm_iconst dX3_leads_9 ?_
  refine wm_iaload dX3_leads_10 rfl ⟨by omega, by omega⟩ 2 rfl ?_
  refine wm_if dX3_leads_11 (cB_lt (hr _) ⟨by omega, by omega⟩) 29 rfl (fun c11 => ?_) (fun c11 => ?_)
  ·
    refine wm_aload_n dX3_leads_29 rfl ?_
    refine wm_iload_n dX3_leads_30 rfl ?_
    refine wm_iconst dX3_leads_31 ?_
    refine wm_aload_n dX3_leads_32 rfl ?_
    refine wm_getA dX3_leads_33 (kF3_9 rfl) rfl ?_
    refine wm_iconst dX3_leads_36 ?_
    refine wm_iaload dX3_leads_37 rfl ⟨by omega, by omega⟩ 2 rfl ?_
    refine wm_if dX3_leads_38 (cB_ge (hr _) ⟨by omega, by omega⟩) 46 rfl (fun c38 => ?_) (fun c38 => ?_)
    ·
      refine wm_bipush dX3_leads_46 (by decide) ?_
      refine wm_callv dX3_leads_48 (kV3_114 rfl) rfl (mc_layW (by omega)) (by omega) rfl rfl ?_
      rintro _ _ ⟨rfl, rfl⟩
      refine wm_vreturn dX3_leads_51 rfl ?_
      omega
    ·
      refine wm_bipush dX3_leads_41 (by decide) ?_
      refine wm_goto dX3_leads_43 48 rfl ?_
      refine wm_callv dX3_leads_48 (kV3_114 rfl) rfl (mc_layW (by omega)) (by omega) rfl rfl ?_
      rintro _ _ ⟨rfl, rfl⟩
      refine wm_vreturn dX3_leads_51 rfl ?_
      exact ⟨rfl, _, _, by rw [hid, leadF, if_pos c11], hff⟩
  ·
    refine wm_aload_n dX3_leads_14 rfl ?_
    refine wm_iload_n dX3_leads_15 rfl ?_
    refine wm_iconst dX3_leads_16 ?_
    refine wm_callv dX3_leads_17 (kV3_61 rfl) rfl (mc_of (by omega)) (by omega) rfl rfl ?_
    rintro _ _ ⟨rfl, rfl⟩
    refine wm_aload_n dX3_leads_20 rfl ?_
    refine wm_getA dX3_leads_21 (kF3_9 rfl) rfl ?_
    refine wm_iconst dX3_leads_24 ?_
    refine wm_iaload dX3_leads_25 rfl ⟨by omega, by omega⟩ 2 rfl ?_
    refine wm_icmp dX3_leads_26 (cB_ne (hr _) (hr _)) 52 rfl (fun c26 => ?_) (fun c26 => ?_)
    ·
      refine wm_aload_n dX3_leads_52 rfl ?_
      refine wm_bipush dX3_leads_53 (by decide) ?_
      refine wm_aload_n dX3_leads_55 rfl ?_
      refine wm_getA dX3_leads_56 (kF3_9 rfl) rfl ?_
      refine wm_iconst dX3_leads_59 ?_
      refine wm_iaload dX3_leads_60 rfl ⟨by omega, by omega⟩ 2 rfl ?_
      refine wm_callv dX3_leads_61 (kV3_75 rfl) rfl (mc_floods (x := 10) (by omega) (by omega) hr) (by omega) rfl rfl ?_
      rintro _ _ ⟨rfl, q, rfl⟩
      rw [show (120 * (10 : Int)) = 1200 from rfl]
      refine wm_sipush dX3_leads_64 (by decide) ?_
      refine wm_istore_n dX3_leads_67 rfl ?_
      refine wm_aload_n dX3_leads_68 rfl ?_
      refine wm_getA dX3_leads_69 (kF3_13 rfl) rfl ?_
      refine wm_iload_n dX3_leads_72 rfl ?_
      refine wm_aload_n dX3_leads_73 rfl ?_
      refine wm_iload_n dX3_leads_74 rfl ?_
      refine wm_iconst dX3_leads_75 ?_
      refine wm_callv dX3_leads_76 (kV3_61 rfl) rfl (mc_of (by omega)) (by omega) rfl rfl ?_
      rintro _ _ ⟨rfl, rfl⟩
      rw [flR_o τ _ _ (by decide) (by decide), ← hcd]
      refine wm_iadd dX3_leads_79 ?_
      refine wm_iaload dX3_leads_80 rfl ⟨by omega, by omega⟩ _ rfl ?_
      rw [flR_f τ _ _ (by omega) ⟨by omega, hc⟩]
      refine wm_istore_n dX3_leads_81 rfl ?_
      refine wm_aload_n dX3_leads_82 rfl ?_
      refine wm_iload_n dX3_leads_83 rfl ?_
      refine wm_iconst dX3_leads_84 ?_
      refine wm_bipush dX3_leads_85 (by decide) ?_
      refine wm_callv dX3_leads_87 (kV3_114 rfl) rfl (mc_layW (by omega)) (by omega) rfl rfl ?_
      rintro _ _ ⟨rfl, rfl⟩
      refine wm_iconst dX3_leads_90 ?_
      refine wm_istore dX3_leads_91 rfl ?_
      have hce : celF (updW (τ.2 0) (12 + 6 * ledF (τ.2 0) + 5).toNat 8) (ledF (τ.2 0)) = celF (τ.2 0) (ledF (τ.2 0)) := by
        unfold celF updW
        rw [if_neg (by omega)]
      have hbf := bfsF_rng (blkF (τ.2 0)) (c := τ.2 0 2) ⟨by omega, ht⟩
      have hff2 : ∀ x, -1 ≤ bfsF (blkF (τ.2 0)) (τ.2 0 2) x ∧ bfsF (blkF (τ.2 0)) (τ.2 0 2) x ≤ 1000 := fun x => by have := hbf x; omega
      have hb1 := hbf (celF (τ.2 0) (ledF (τ.2 0)))
      by_cases hdp : 0 < bfsF (blkF (τ.2 0)) (τ.2 0 2) (celF (τ.2 0) (ledF (τ.2 0)))
      · refine (mc_leads_93 (w := updW (τ.2 0) (12 + 6 * ledF (τ.2 0) + 5).toNat 8) (m := ledF (τ.2 0)) ⟨hd, hl.2.1⟩ (by rw [hce]; omega) (by unfold updW; rw [if_neg (by omega)]; exact h0) hu hff2 ⟨hdp, by omega⟩ (by omega) 4 0 _ (by omega) (by omega)).mono (fun v t h => ⟨h.1, bfsF (blkF (τ.2 0)) (τ.2 0 2), q, by rw [leadF, if_neg c11, if_neg (by omega), if_neg (by omega)]; exact h.2.symm, hff2⟩)
      ·
        refine wm_iload dX3_leads_93 rfl ?_
        refine wm_iconst dX3_leads_95 ?_
        refine wm_icmp dX3_leads_96 (cB_ge ⟨by omega, by omega⟩ ⟨by omega, by omega⟩) 191 rfl (fun c96 => ?_) (fun c96 => ?_)
        ·
          omega
        ·
          refine wm_iload_n dX3_leads_99 rfl ?_
          refine wm_if dX3_leads_100 (cB_le ⟨by omega, by omega⟩ ⟨by omega, by omega⟩) 191 rfl (fun c100 => ?_) (fun c100 => ?_)
          ·
            refine wm_vreturn dX3_leads_191 rfl ?_
            exact ⟨rfl, bfsF (blkF (τ.2 0)) (τ.2 0 2), q, by rw [leadF, if_neg c11, if_neg (by omega), if_pos (by omega)]; rfl, hff2⟩
          ·
            omega
    ·
      refine wm_aload_n dX3_leads_29 rfl ?_
      refine wm_iload_n dX3_leads_30 rfl ?_
      refine wm_iconst dX3_leads_31 ?_
      refine wm_aload_n dX3_leads_32 rfl ?_
      refine wm_getA dX3_leads_33 (kF3_9 rfl) rfl ?_
      refine wm_iconst dX3_leads_36 ?_
      refine wm_iaload dX3_leads_37 rfl ⟨by omega, by omega⟩ 2 rfl ?_
      refine wm_if dX3_leads_38 (cB_ge (hr _) ⟨by omega, by omega⟩) 46 rfl (fun c38 => ?_) (fun c38 => ?_)
      ·
        refine wm_bipush dX3_leads_46 (by decide) ?_
        refine wm_callv dX3_leads_48 (kV3_114 rfl) rfl (mc_layW (by omega)) (by omega) rfl rfl ?_
        rintro _ _ ⟨rfl, rfl⟩
        refine wm_vreturn dX3_leads_51 rfl ?_
        exact ⟨rfl, _, _, by rw [hid, leadF, if_neg (by omega), if_pos (by omega)], hff⟩
      ·
        refine wm_bipush dX3_leads_41 (by decide) ?_
        refine wm_goto dX3_leads_43 48 rfl ?_
        refine wm_callv dX3_leads_48 (kV3_114 rfl) rfl (mc_layW (by omega)) (by omega) rfl rfl ?_
        rintro _ _ ⟨rfl, rfl⟩
        refine wm_vreturn dX3_leads_51 rfl ?_
        omega
end M9
