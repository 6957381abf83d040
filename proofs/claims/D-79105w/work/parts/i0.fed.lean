/-! THE CLASS'S METHODS, 57: feed -/
set_option maxRecDepth 100000
theorem fb_i2b : ∀ k : Fin 128, (cI (k.val : Int)).toInt8.toInt32 = cI (k.val : Int) := by decide +kernel
theorem fb_nar : ∀ k : Fin 128, vp_nar .byte (cI (k.val : Int)) = cI (k.val : Int) := by decide +kernel
/-- names are new, nothing old is touched -/
def FrE (t u : CT) : Prop := n0C u = n0C t ∧ (nvC t ≤ nvC u) ∧ ∀ y, y < nvC t → u.2.1 y = t.2.1 y ∧ sg u y = sg t y
section QFED
variable {T : Nat → Option CK} {w w' : Nat → Int} {R : Nat → Nat → Int} {τ t u : CT} {m c v C x y s f e A P n a1 a2 a3 a4 a5 : Int} {d i j k a b z pc : Nat} {Q : Option AV → CT → Prop} {M : MRec} {ls : AL} {st : List AV}
theorem wc_i2b {Q : CO → CT → Prop} (hd : decode (rC M) pc = .ok (.i2b, 1)) (ha : 0 ≤ e ∧ e ≤ 127) (K : Wc T d M (pc + 1) ls (.inl e :: st) τ Q) : Wc T d M pc ls (.inl e :: st) τ Q := fun E h R => wp_next hd rfl (by
  show mNx _ _ (.inl (cI e).toInt8.toInt32 :: _) _ = _
  have h := fb_i2b ⟨e.toNat, by omega⟩
  rw [show (((⟨e.toNat, by omega⟩ : Fin 128).val : Nat) : Int) = e from Int.toNat_of_nonneg ha.1] at h
  rw [h]
  rfl) (K E h R)
theorem nar_b (ha : 0 ≤ e ∧ e ≤ 127) : vp_nar .byte (cI e) = cI e := by
  have h := fb_nar ⟨e.toNat, by omega⟩
  rw [show (((⟨e.toNat, by omega⟩ : Fin 128).val : Nat) : Int) = e from Int.toNat_of_nonneg ha.1] at h
  exact h
theorem FrE.rf : FrE t t := ⟨rfl, Nat.le_refl _, fun _ _ => ⟨rfl, rfl⟩⟩
theorem FrE.tr (h : FrE τ t) (g : FrE t u) : FrE τ u := ⟨g.1.trans h.1, Nat.le_trans h.2.1 g.2.1, fun y hy => by
  have a := h.2.2 y hy
  have b := g.2.2 y (Nat.lt_of_lt_of_le hy h.2.1)
  exact ⟨b.1.trans a.1, b.2.trans a.2⟩⟩
theorem FrE.new {kk : CK} {q : Nat} {f : Nat → Int} : FrE t (newC t kk q f) := ⟨rfl, Nat.le_succ _, fun y hy => ⟨if_neg (Nat.ne_of_lt hy), sg_new (Nat.ne_of_lt hy)⟩⟩
theorem FrE.frs (g : FrE t u) (hn : 1000 ≤ n0C t ∧ n0C t ≤ nvC t) : FrS t u := ⟨⟨g.1, g.2.1⟩, fun v hv => (g.2.2 v (by omega)).2, fun j _ _ => by rw [(g.2.2 10 (by omega)).2], fun y y1 y2 => ⟨(g.2.2 y y2).1, fun _ => (g.2.2 y y2).2⟩, (g.2.2 18 (by omega)).2, fun y y1 y2 => g.2.2 y (by omega)⟩
/-- an array of five new ints -/
def arr5 (t : CT) (q : Nat) (p : Int → Int) : Prop := (1000 ≤ q ∧ q < nvC t ∧ n0C t ≤ q) ∧ t.2.1 q = some (ckI 0 5) ∧ ∀ i : Int, 0 ≤ i → i < 5 → sg t q i.toNat = p i
theorem arr5_new (hn : 1000 ≤ n0C t ∧ n0C t ≤ nvC t) : FrE t (stC (stC (stC (stC (stC (newC t (ckI 0 5) 5 (fun _ => 0)) (nvC t) 0 a1) (nvC t) 1 a2) (nvC t) 2 a3) (nvC t) 3 a4) (nvC t) 4 a5) ∧ arr5 (stC (stC (stC (stC (stC (newC t (ckI 0 5) 5 (fun _ => 0)) (nvC t) 0 a1) (nvC t) 1 a2) (nvC t) 2 a3) (nvC t) 3 a4) (nvC t) 4 a5) (nvC t) (pkS a1 a2 a3 a4 a5) := by
  refine ⟨⟨rfl, Nat.le_succ _, fun y hy => ⟨if_neg (Nat.ne_of_lt hy), ?_⟩⟩, ⟨by omega, by show nvC t < nvC t + 1; omega, hn.2⟩, if_pos rfl, fun i i0 i1 => ?_⟩
  · rw [sg_st' (by omega), sg_st' (by omega), sg_st' (by omega), sg_st' (by omega), sg_st' (by omega), sg_new (by omega)]
  · rcases (show i = 0 ∨ i = 1 ∨ i = 2 ∨ i = 3 ∨ i = 4 by omega) with e | e | e | e | e <;> subst e
    · rw [sg_st, if_neg (by decide), sg_st, if_neg (by decide), sg_st, if_neg (by decide), sg_st, if_neg (by decide), sg_st, if_pos (by decide)]; rfl
    · rw [sg_st, if_neg (by decide), sg_st, if_neg (by decide), sg_st, if_neg (by decide), sg_st, if_pos (by decide)]; rfl
    · rw [sg_st, if_neg (by decide), sg_st, if_neg (by decide), sg_st, if_pos (by decide)]; rfl
    · rw [sg_st, if_neg (by decide), sg_st, if_pos (by decide)]; rfl
    · rw [sg_st, if_pos (by decide)]; rfl
theorem cc_areSigns_7 {q : Nat} {p : Int → Int} (hq : arr5 t q p) (hp : ∀ i, 0 ≤ i → i < 5 → rng (p i)) (hd : 1 ≤ d) : ∀ (k : Nat) (i : Int) (o : Option AV), i + k = 5 → 0 ≤ i → (∀ e, 0 ≤ e → e < i → 0 ≤ p e ∧ p e ≤ 127) → Wc T d rX0_areSigns 7 [some (.inr q), some (.inr q), some (.inl 5), some (.inl i), o] [] t (nQ (fun v u => t = u ∧ (((∀ i, 0 ≤ i → i < 5 → 0 ≤ p i ∧ p i ≤ 127) ∧ some (.inl 1) = v) ∨ (¬ (∀ i, 0 ≤ i → i < 5 → 0 ≤ p i ∧ p i ≤ 127) ∧ some (.inl 0) = v)))) := by
  have kq : kd T t q = some (ckI 0 5) := kd_dyn (by have := hq.1; omega) hq.2.1
  intro k
  induction k with
  | zero =>
    intro i o hi h0 hok
    refine wc_iload_n dX0_areSigns_7 rfl ?_
    refine wc_iload_n dX0_areSigns_8 rfl ?_
    refine wc_icmp dX0_areSigns_9 (cB_ge ⟨by omega, by omega⟩ ⟨by omega, by omega⟩) 36 rfl (fun c9 => ?_) (fun c9 => ?_)
    ·
      refine wc_iconst dX0_areSigns_36 ?_
      refine wc_breturn dX0_areSigns_37 rfl (by omega) ?_
      exact ⟨rfl, Or.inl ⟨fun e a b => hok e a (by omega), rfl⟩⟩
    ·
      omega
  | succ k ih =>
    intro i o hi h0 hok
    have hpi := hp i h0 (by omega)
    refine wc_iload_n dX0_areSigns_7 rfl ?_
    refine wc_iload_n dX0_areSigns_8 rfl ?_
    refine wc_icmp dX0_areSigns_9 (cB_ge ⟨by omega, by omega⟩ ⟨by omega, by omega⟩) 36 rfl (fun c9 => ?_) (fun c9 => ?_)
    ·
      omega
    ·
      refine wc_aload_n dX0_areSigns_12 rfl ?_
      refine wc_iload_n dX0_areSigns_13 rfl ?_
      refine wc_iaload dX0_areSigns_14 kq rfl rfl ⟨by omega, by omega⟩ _ rfl ?_
      rw [hq.2.2 i h0 (by omega)]
      refine wc_istore dX0_areSigns_15 rfl ?_
      refine wc_iload dX0_areSigns_17 rfl ?_
      refine wc_iconst dX0_areSigns_19 ?_
      refine wc_bipush dX0_areSigns_20 (by decide) ?_
      refine wc_call dX0_areSigns_22 rfl (cc_in hpi (by omega) (by omega)) (by omega) (hx_S (kS0_3 rfl) (kSn0_3 rfl) rfl rfl) ?_
      rintro _ _ ⟨rfl, ⟨h22, rfl⟩ | ⟨h22, rfl⟩⟩
      ·
        refine wc_ifT dX0_areSigns_25 (by decide) 30 rfl ?_
        refine wc_iinc dX0_areSigns_30 rfl ?_
        refine wc_goto dX0_areSigns_33 7 rfl ?_
        refine ih (i + 1) _ (by omega) (by omega) (fun e a b => ?_)
        by_cases r : e = i
        · rw [r]; exact h22
        · exact hok e a (by omega)
      ·
        refine wc_ifF dX0_areSigns_25 (by decide) 30 rfl ?_
        refine wc_iconst dX0_areSigns_28 ?_
        refine wc_breturn dX0_areSigns_29 rfl (by omega) ?_
        exact ⟨rfl, Or.inr ⟨fun r => h22 (r i h0 (by omega)), rfl⟩⟩
theorem cc_areSigns {q : Nat} {p : Int → Int} (hq : arr5 t q p) (hp : ∀ i, 0 ≤ i → i < 5 → rng (p i)) : Cb T 1 rX0_areSigns [.inr q] t (∀ i, 0 ≤ i → i < 5 → 0 ≤ p i ∧ p i ≤ 127) := by
  intro d hd
  have kq : kd T t q = some (ckI 0 5) := kd_dyn (by have := hq.1; omega) hq.2.1
  refine wc_aload_n dX0_areSigns_0 rfl ?_
  refine wc_astore_n dX0_areSigns_1 rfl ?_
  refine wc_aload_n dX0_areSigns_2 rfl ?_
  refine wc_alenI dX0_areSigns_3 kq ?_
  refine wc_istore_n dX0_areSigns_4 rfl ?_
  refine wc_iconst dX0_areSigns_5 ?_
  refine wc_istore_n dX0_areSigns_6 rfl ?_
  exact cc_areSigns_7 hq hp hd 5 0 _ (by omega) (by omega) (fun e a b => by omega)
theorem pkS_all : (∀ i, 0 ≤ i → i < 5 → 0 ≤ pkS a1 a2 a3 a4 a5 i ∧ pkS a1 a2 a3 a4 a5 i ≤ 127) ↔ ((0 ≤ a1 ∧ a1 ≤ 127) ∧ (0 ≤ a2 ∧ a2 ≤ 127) ∧ (0 ≤ a3 ∧ a3 ≤ 127) ∧ (0 ≤ a4 ∧ a4 ≤ 127) ∧ 0 ≤ a5 ∧ a5 ≤ 127) := by
  constructor
  · intro h
    exact ⟨h 0 (by omega) (by omega), h 1 (by omega) (by omega), h 2 (by omega) (by omega), h 3 (by omega) (by omega), h 4 (by omega) (by omega)⟩
  · intro ⟨h1, h2, h3, h4, h5⟩ i i0 i1
    rcases (show i = 0 ∨ i = 1 ∨ i = 2 ∨ i = 3 ∨ i = 4 by omega) with e | e | e | e | e <;> subst e
    · exact h1
    · exact h2
    · exact h3
    · exact h4
    · exact h5
/-- the tape with n signs more -/
def FdP (p : Int → Int) (n : Int) (t u : CT) : Prop := n0C u = n0C t ∧ nvC t ≤ nvC u ∧ (∀ y, y < nvC t → u.2.1 y = t.2.1 y ∧ (y ≠ 10 → y ≠ 21 → sg u y = sg t y)) ∧ (∀ j, sg u 10 j = if j = 14 then sg t 10 14 + n else sg t 10 j) ∧ ∀ i : Nat, sg u 21 i = if sg t 10 14 ≤ (i : Int) ∧ (i : Int) < sg t 10 14 + n then p ((i : Int) - sg t 10 14) else sg t 21 i
theorem cc_feed_92 {q : Nat} {p : Int → Int} {o2 o3 o4 o5 o6 : Option AV} (hp : ∀ i, 0 ≤ i → i < 5 → 0 ≤ p i ∧ p i ≤ 127) (hn : 1 ≤ n ∧ n ≤ 5) (hT : 0 ≤ sg τ 10 14 ∧ sg τ 10 14 + n ≤ 60) (hnv : 1000 ≤ nvC τ) (hd : 1 ≤ d) : ∀ (k : Nat) (i : Int) (t : CT), i + k = n → 0 ≤ i → FdP p i τ t → arr5 t q p → (n0C t = n0C τ) → (nvC t = z ∧ uC t = j) → Wc kap d rX0_feed 92 [some (.inr 10), some (.inl n), o2, o3, o4, o5, o6, some (.inr q), some (.inl i)] [] t (nQ (fun v u => some (.inl (sg τ 10 14 + n)) = v ∧ FdP p n τ u ∧ nvC u = z ∧ uC u = j)) := by
  intro k
  induction k with
  | zero =>
    intro i t hi h0 hF hq hq2 hz
    have e : i = n := by omega
    subst e
    have e14 : sg t 10 14 = sg τ 10 14 + i := by rw [hF.2.2.2.1, if_pos rfl]
    refine wc_iload dX0_feed_92 rfl ?_
    refine wc_iload_n dX0_feed_94 rfl ?_
    refine wc_icmp dX0_feed_95 (cB_ge ⟨by omega, by omega⟩ ⟨by omega, by omega⟩) 129 rfl (fun c95 => ?_) (fun c95 => ?_)
    ·
      refine wc_aload_n dX0_feed_129 rfl ?_
      refine wc_getI dX0_feed_130 (kF0_322 rfl) rfl rfl ?_
      refine wc_ireturn dX0_feed_133 rfl ?_
      exact ⟨by rw [e14], hF, hz⟩
    ·
      omega
  | succ k ih =>
    intro i t hi h0 hF hq hq2 hz
    have e14 : sg t 10 14 = sg τ 10 14 + i := by rw [hF.2.2.2.1, if_pos rfl]
    have kq : kd kap t q = some (ckI 0 5) := kd_dyn (by have := hq.1; omega) hq.2.1
    have hpi := hp i h0 (by omega)
    refine wc_iload dX0_feed_92 rfl ?_
    refine wc_iload_n dX0_feed_94 rfl ?_
    refine wc_icmp dX0_feed_95 (cB_ge ⟨by omega, by omega⟩ ⟨by omega, by omega⟩) 129 rfl (fun c95 => ?_) (fun c95 => ?_)
    ·
      omega
    ·
      refine wc_aload_n dX0_feed_98 rfl ?_
      refine wc_getC dX0_feed_99 (kF0_262 rfl) rfl rfl ?_
      refine wc_aload_n dX0_feed_102 rfl ?_
      refine wc_getI dX0_feed_103 (kF0_322 rfl) rfl rfl ?_
      rw [e14]
      refine wc_aload dX0_feed_106 rfl ?_
      refine wc_iload dX0_feed_108 rfl ?_
      refine wc_iaload dX0_feed_110 kq rfl rfl ⟨by omega, by omega⟩ _ rfl ?_
      rw [hq.2.2 i h0 (by omega)]
      refine wc_i2b dX0_feed_111 hpi ?_
      refine wc_bastore2 dX0_feed_112 rfl ⟨by decide, Or.inl (by decide)⟩ rfl ⟨by omega, by omega⟩ (nar_b hpi) _ rfl ?_
      refine wc_aload_n dX0_feed_113 rfl ?_
      refine wc_dup dX0_feed_114 ?_
      refine wc_getI dX0_feed_115 (kF0_322 rfl) rfl rfl ?_
      rw [sg_st' (by decide), e14]
      refine wc_iconst dX0_feed_118 ?_
      refine wc_iadd dX0_feed_119 ?_
      refine wc_putI dX0_feed_120 (kF0_322 rfl) rfl rfl rfl ⟨by decide, Or.inl (by decide)⟩ (Or.inl rfl) ?_
      refine wc_iinc dX0_feed_123 rfl ?_
      refine wc_goto dX0_feed_126 92 rfl ?_
      refine ih (i + 1) _ (by omega) (by omega) ?_ ?_ hq2 hz
      · obtain ⟨f1, f2, f3, f4, f5⟩ := hF
        refine ⟨f1, f2, fun y hy => ⟨(f3 y hy).1, fun y1 y2 => by rw [sg_st' y1, sg_st' y2]; exact (f3 y hy).2 y1 y2⟩, fun j => ?_, fun a => ?_⟩
        · rw [sg_st]
          by_cases r : j = 14
          · rw [if_pos r, if_pos r]; omega
          · rw [if_neg r, if_neg r, sg_st' (by decide), f4 j, if_neg r]
        · rw [sg_st' (by decide), sg_st]
          by_cases r : a = (sg τ 10 14 + i).toNat
          · rw [if_pos r, if_pos (by omega)]
            exact congrArg p (by omega)
          · rw [if_neg r, f5 a]
            by_cases r2 : sg τ 10 14 ≤ (a : Int) ∧ (a : Int) < sg τ 10 14 + i
            · rw [if_pos r2, if_pos (by omega)]
            · rw [if_neg r2, if_neg (by omega)]
      · have h9 : 1000 ≤ q := hq.1.1
        refine ⟨hq.1, hq.2.1, fun a a0 a1 => ?_⟩
        rw [sg_st' (by omega), sg_st' (by omega)]
        exact hq.2.2 a a0 a1
theorem FdP.fre {p : Int → Int} (h : FrE τ t) (hn : 1000 ≤ nvC τ) (g : FdP p n t u) : FdP p n τ u := by
  obtain ⟨g1, g2, g3, g4, g5⟩ := g
  have e10 := (h.2.2 10 (by omega)).2
  have e21 := (h.2.2 21 (by omega)).2
  rw [e10] at g4 g5
  rw [e21] at g5
  exact ⟨g1.trans h.1, Nat.le_trans h.2.1 g2, fun y hy => ⟨(g3 y (Nat.lt_of_lt_of_le hy h.2.1)).1.trans (h.2.2 y hy).1, fun y1 y2 => ((g3 y (Nat.lt_of_lt_of_le hy h.2.1)).2 y1 y2).trans (h.2.2 y hy).2⟩, g4, g5⟩
theorem cc_feed_44 {QQ : Prop} (hQ : QQ) (hnv : 1000 ≤ n0C t ∧ n0C t ≤ nvC t) (hn : 1 ≤ n ∧ n ≤ 5) (hp : ∀ i, 0 ≤ i → i < 5 → 0 ≤ pkS a1 a2 a3 a4 a5 i ∧ pkS a1 a2 a3 a4 a5 i ≤ 127) (hT : 0 ≤ sg t 10 14 ∧ sg t 10 14 ≤ 60) (hd : 2 ≤ d) : Wc kap d rX0_feed 44 [some (.inr 10), some (.inl n), some (.inl a1), some (.inl a2), some (.inl a3), some (.inl a4), some (.inl a5), none, none] [] t (nQ (fun v u => ((¬ QQ ∧ some (.inl (-2)) = v ∧ FrE t u) ∨ (QQ ∧ ((60 < sg t 10 14 + n ∧ some (.inl (-4)) = v ∧ FrE t u) ∨ (sg t 10 14 + n ≤ 60 ∧ some (.inl (sg t 10 14 + n)) = v ∧ FdP (pkS a1 a2 a3 a4 a5) n t u)))) ∧ nvC u ≤ nvC t + 1 ∧ uC u ≤ uC t + 5)) := by
  obtain ⟨n1, n2⟩ := arr5_new (a1 := a1) (a2 := a2) (a3 := a3) (a4 := a4) (a5 := a5) hnv
  have hw : wrC t (nvC t) := ⟨by omega, Or.inr hnv.2⟩
  have hk0 : kd kap (newC t (ckI 0 5) 5 (fun _ => 0)) (nvC t) = some (ckI 0 5) := kd_nw (by omega)
  refine wc_aload_n dX0_feed_44 rfl ?_
  refine wc_getI dX0_feed_45 (kF0_322 rfl) rfl rfl ?_
  refine wc_iload_n dX0_feed_48 rfl ?_
  refine wc_iadd dX0_feed_49 ?_
  refine wc_bipush dX0_feed_50 (by decide) ?_
  refine wc_icmp dX0_feed_52 (cB_le (show rng _ by omega) ⟨by omega, by omega⟩) 58 rfl (fun c52 => ?_) (fun c52 => ?_)
  ·
    refine wc_iconst dX0_feed_58 ?_
    refine wc_newI 0 (Or.inl ⟨rfl, rfl⟩) dX0_feed_59 ⟨by omega, by omega⟩ 5 rfl ?_
    refine wc_dup dX0_feed_61 ?_
    refine wc_iconst dX0_feed_62 ?_
    refine wc_iload_n dX0_feed_63 rfl ?_
    refine wc_iastore dX0_feed_64 hk0 hw rfl ⟨by omega, by omega⟩ _ rfl ?_
    refine wc_dup dX0_feed_65 ?_
    refine wc_iconst dX0_feed_66 ?_
    refine wc_iload_n dX0_feed_67 rfl ?_
    refine wc_iastore dX0_feed_68 hk0 hw rfl ⟨by omega, by omega⟩ _ rfl ?_
    refine wc_dup dX0_feed_69 ?_
    refine wc_iconst dX0_feed_70 ?_
    refine wc_iload dX0_feed_71 rfl ?_
    refine wc_iastore dX0_feed_73 hk0 hw rfl ⟨by omega, by omega⟩ _ rfl ?_
    refine wc_dup dX0_feed_74 ?_
    refine wc_iconst dX0_feed_75 ?_
    refine wc_iload dX0_feed_76 rfl ?_
    refine wc_iastore dX0_feed_78 hk0 hw rfl ⟨by omega, by omega⟩ _ rfl ?_
    refine wc_dup dX0_feed_79 ?_
    refine wc_iconst dX0_feed_80 ?_
    refine wc_iload dX0_feed_81 rfl ?_
    refine wc_iastore dX0_feed_83 hk0 hw rfl ⟨by omega, by omega⟩ _ rfl ?_
    refine wc_call dX0_feed_84 rfl (cc_row) (by omega) (hx_S (kS0_325 rfl) (kSn0_325 rfl) rfl rfl) ?_
    rintro _ _ ⟨rfl, rfl⟩
    refine wc_astore dX0_feed_87 rfl ?_
    refine wc_iconst dX0_feed_89 ?_
    refine wc_istore dX0_feed_90 rfl ?_
    have e10 := (n1.2.2 10 (by omega)).2
    refine (cc_feed_92 (τ := stC (stC (stC (stC (stC (newC t (ckI 0 5) 5 (fun _ => 0)) (nvC t) 0 a1) (nvC t) 1 a2) (nvC t) 2 a3) (nvC t) 3 a4) (nvC t) 4 a5) hp hn (by rw [e10]; omega) (by show 1000 ≤ nvC t + 1; omega) (by omega) n.toNat 0 _ (by omega) (by omega) ⟨rfl, Nat.le_refl _, fun y hy => ⟨rfl, fun _ _ => rfl⟩, fun j => ?_, fun i => by rw [if_neg (by omega)]⟩ n2 rfl ⟨rfl, rfl⟩).mn (fun v u q => ?_)
    · rw [e10]
      split
      · rename_i r; rw [r]; omega
      · rfl
    · obtain ⟨q1, q2, q3, q4⟩ := q
      rw [e10] at q1
      exact ⟨Or.inr ⟨hQ, Or.inr ⟨by omega, q1, q2.fre n1 (by omega)⟩⟩, by rw [q3]; show nvC t + 1 ≤ _; omega, by rw [q4]; show uC t + 5 ≤ _; omega⟩
  ·
    refine wc_bipush dX0_feed_55 (by decide) ?_
    refine wc_ireturn dX0_feed_57 rfl ?_
    exact ⟨Or.inr ⟨hQ, Or.inl ⟨by omega, rfl, FrE.rf⟩⟩, by omega, by omega⟩
theorem cc_feed (hn : rng n) (r1 : rng a1) (r2 : rng a2) (r3 : rng a3) (r4 : rng a4) (r5 : rng a5) (hT : 0 ≤ sg t 10 14 ∧ sg t 10 14 ≤ 60) : Ct kap 2 rX0_feed [.inr 10, .inl n, .inl a1, .inl a2, .inl a3, .inl a4, .inl a5] t (fun v u => ((¬ ((1 ≤ n ∧ n ≤ 5) ∧ (0 ≤ a1 ∧ a1 ≤ 127) ∧ (0 ≤ a2 ∧ a2 ≤ 127) ∧ (0 ≤ a3 ∧ a3 ≤ 127) ∧ (0 ≤ a4 ∧ a4 ≤ 127) ∧ 0 ≤ a5 ∧ a5 ≤ 127) ∧ some (.inl (-2)) = v ∧ FrE t u) ∨ (((1 ≤ n ∧ n ≤ 5) ∧ (0 ≤ a1 ∧ a1 ≤ 127) ∧ (0 ≤ a2 ∧ a2 ≤ 127) ∧ (0 ≤ a3 ∧ a3 ≤ 127) ∧ (0 ≤ a4 ∧ a4 ≤ 127) ∧ 0 ≤ a5 ∧ a5 ≤ 127) ∧ ((60 < sg t 10 14 + n ∧ some (.inl (-4)) = v ∧ FrE t u) ∨ (sg t 10 14 + n ≤ 60 ∧ some (.inl (sg t 10 14 + n)) = v ∧ FdP (pkS a1 a2 a3 a4 a5) n t u)))) ∧ nvC u ≤ nvC t + 2 ∧ uC u ≤ uC t + 10) := by
  intro d hd
  refine Wc.rp (fun ⟨hnv, hlt⟩ => ?_)
  obtain ⟨n1, n2⟩ := arr5_new (a1 := a1) (a2 := a2) (a3 := a3) (a4 := a4) (a5 := a5) hnv
  have hp : ∀ i, 0 ≤ i → i < 5 → rng (pkS a1 a2 a3 a4 a5 i) := fun i i0 i1 => by unfold pkS; split <;> (try split) <;> (try split) <;> (try split) <;> assumption
  have kn : ∀ (t : CT), (1000 ≤ nvC t) → kd kap (newC t (ckI 0 5) 5 (fun _ => 0)) (nvC t) = some (ckI 0 5) := fun t h => kd_nw (by omega)
  have hw : wrC t (nvC t) := ⟨by omega, Or.inr hnv.2⟩
  have hk0 := kn t (by omega)
  refine wc_iload_n dX0_feed_0 rfl ?_
  refine wc_iconst dX0_feed_1 ?_
  refine wc_iconst dX0_feed_2 ?_
  refine wc_call dX0_feed_3 rfl (cc_in hn (by omega) (by omega)) (by omega) (hx_S (kS0_3 rfl) (kSn0_3 rfl) rfl rfl) ?_
  rintro _ _ ⟨rfl, ⟨h3, rfl⟩ | ⟨h3, rfl⟩⟩
  ·
    refine wc_ifF dX0_feed_6 (by decide) 41 rfl ?_
    refine wc_iconst dX0_feed_9 ?_
    refine wc_newI 0 (Or.inl ⟨rfl, rfl⟩) dX0_feed_10 ⟨by omega, by omega⟩ 5 rfl ?_
    refine wc_dup dX0_feed_12 ?_
    refine wc_iconst dX0_feed_13 ?_
    refine wc_iload_n dX0_feed_14 rfl ?_
    refine wc_iastore dX0_feed_15 hk0 hw rfl ⟨by omega, by omega⟩ _ rfl ?_
    refine wc_dup dX0_feed_16 ?_
    refine wc_iconst dX0_feed_17 ?_
    refine wc_iload_n dX0_feed_18 rfl ?_
    refine wc_iastore dX0_feed_19 hk0 hw rfl ⟨by omega, by omega⟩ _ rfl ?_
    refine wc_dup dX0_feed_20 ?_
    refine wc_iconst dX0_feed_21 ?_
    refine wc_iload dX0_feed_22 rfl ?_
    refine wc_iastore dX0_feed_24 hk0 hw rfl ⟨by omega, by omega⟩ _ rfl ?_
    refine wc_dup dX0_feed_25 ?_
    refine wc_iconst dX0_feed_26 ?_
    refine wc_iload dX0_feed_27 rfl ?_
    refine wc_iastore dX0_feed_29 hk0 hw rfl ⟨by omega, by omega⟩ _ rfl ?_
    refine wc_dup dX0_feed_30 ?_
    refine wc_iconst dX0_feed_31 ?_
    refine wc_iload dX0_feed_32 rfl ?_
    refine wc_iastore dX0_feed_34 hk0 hw rfl ⟨by omega, by omega⟩ _ rfl ?_
    refine wc_call dX0_feed_35 rfl (cc_areSigns n2 hp) (by omega) (hx_S (kS0_318 rfl) (kSn0_318 rfl) rfl rfl) ?_
    rintro _ _ ⟨rfl, ⟨h35, rfl⟩ | ⟨h35, rfl⟩⟩
    ·
      refine wc_ifT dX0_feed_38 (by decide) 44 rfl ?_
      have e10 := (n1.2.2 10 (by omega)).2
      have K := cc_feed_44 (QQ := (1 ≤ n ∧ n ≤ 5) ∧ (0 ≤ a1 ∧ a1 ≤ 127) ∧ (0 ≤ a2 ∧ a2 ≤ 127) ∧ (0 ≤ a3 ∧ a3 ≤ 127) ∧ (0 ≤ a4 ∧ a4 ≤ 127) ∧ 0 ≤ a5 ∧ a5 ≤ 127) (t := stC (stC (stC (stC (stC (newC t (ckI 0 5) 5 (fun _ => 0)) (nvC t) 0 a1) (nvC t) 1 a2) (nvC t) 2 a3) (nvC t) 3 a4) (nvC t) 4 a5) ⟨h3, pkS_all.mp h35⟩ ⟨hnv.1, by show n0C t ≤ nvC t + 1; omega⟩ h3 h35 (by rw [e10]; exact hT) hd
      rw [e10] at K
      refine K.mn (fun v u q => ?_)
      obtain ⟨q1, q2, q3⟩ := q
      refine ⟨?_, by have : nvC u ≤ nvC t + 1 + 1 := q2; omega, by have : uC u ≤ uC t + 5 + 5 := q3; omega⟩
      rcases q1 with ⟨r1, r2, r3⟩ | ⟨r1, ⟨r2, r3, r4⟩ | ⟨r2, r3, r4⟩⟩
      · exact Or.inl ⟨r1, r2, n1.tr r3⟩
      · exact Or.inr ⟨r1, Or.inl ⟨r2, r3, n1.tr r4⟩⟩
      · exact Or.inr ⟨r1, Or.inr ⟨r2, r3, r4.fre n1 (by omega)⟩⟩
    ·
      refine wc_ifF dX0_feed_38 (by decide) 44 rfl ?_
      refine wc_bipush dX0_feed_41 (by decide) ?_
      refine wc_ireturn dX0_feed_43 rfl ?_
      exact ⟨Or.inl ⟨fun q => h35 (pkS_all.mpr q.2), rfl, n1⟩, by show nvC t + 1 ≤ _; omega, by show uC t + 5 ≤ _; omega⟩
  ·
    refine wc_ifT dX0_feed_6 (by decide) 41 rfl ?_
    refine wc_bipush dX0_feed_41 (by decide) ?_
    refine wc_ireturn dX0_feed_43 rfl ?_
    exact ⟨Or.inl ⟨fun q => h3 q.1, rfl, FrE.rf⟩, by omega, by omega⟩
end QFED
