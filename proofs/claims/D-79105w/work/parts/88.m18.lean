/-! THE MODEL'S METHODS, 18: an order read -/
set_option maxRecDepth 100000
def setO (τ : MT) (p f k : Int) (o : Nat → Int) : MT := (fun j => if j = 16 then p else if j = 17 then f else if j = 20 then k else τ.1 j, fun a i => if a = 19 then o i else τ.2 a i)
theorem setO_p (τ : MT) (p f k q : Int) (o : Nat → Int) : stI (setO τ p f k o) 16 q = setO τ q f k o := by
  unfold stI setO
  refine Prod.ext (funext fun j => ?_) rfl
  dsimp only
  by_cases h : j = 16
  · simp [h]
  · simp [h]
theorem setO_f (τ : MT) (p f k q : Int) (o : Nat → Int) : stI (setO τ p f k o) 17 q = setO τ p q k o := by
  unfold stI setO
  refine Prod.ext (funext fun j => ?_) rfl
  dsimp only
  by_cases h : j = 17
  · subst h; rfl
  · simp [h]
theorem setO_k (τ : MT) (p f k q : Int) (o : Nat → Int) : stI (setO τ p f k o) 20 q = setO τ p f q o := by
  unfold stI setO
  refine Prod.ext (funext fun j => ?_) rfl
  dsimp only
  by_cases h : j = 20
  · subst h; rfl
  · simp [h]
theorem setO_o (τ : MT) (p f k v : Int) (o : Nat → Int) (i : Nat) : stA (setO τ p f k o) 19 i v = setO τ p f k (updW o i v) := by
  unfold stA setO updW
  refine Prod.ext rfl (funext fun a => funext fun j => ?_)
  dsimp only
  by_cases h : a = 19
  · subst h
    by_cases h2 : j = i
    · simp [h2]
    · simp [h2]
  · simp [h]
theorem setO_af (τ : MT) (p f k q g : Int) (o : Nat → Int) : setAF (setO τ p f k o) q g = setO τ q g k o := by
  unfold setAF setO
  refine Prod.ext (funext fun j => ?_) rfl
  dsimp only
  by_cases h : j = 16
  · simp [h]
  · by_cases h2 : j = 17
    · simp [h2]
    · simp [h, h2]
theorem setO_19 (τ : MT) (p f k : Int) (o : Nat → Int) : (setO τ p f k o).2 19 = o := by
  funext i
  simp [setO]
theorem setO_a (τ : MT) (p f k : Int) (o : Nat → Int) {a : Nat} (ha : a ≠ 19) : (setO τ p f k o).2 a = τ.2 a := by
  funext i
  simp [setO, ha]
def ordL (c : Int) : Prop := c = 97 ∨ c = 111 ∨ c = 116 ∨ c = 108 ∨ c = 120 ∨ c = 103
def ordT (c : Int) : Prop := c = 97 ∨ c = 111 ∨ c = 116
section M22
variable {τ : MT} {m c v x y z b n dd a l p f k : Int} {d : Nat} {Q : Option Int → MT → Prop} {o : Nat → Int}
theorem mc_hereO (hp : 0 ≤ p ∧ p < 100000) (hT : 0 ≤ τ.1 15 ∧ τ.1 15 ≤ 60) : Mf 0 rX3_here [.inr 1] (setO τ p f k o) (some (heF (τ.2 14) (τ.1 15) p)) (setO τ p f k o) := by
  have := mc_here (τ := setO τ p f k o) hp hT
  rw [setO_a τ p f k o (by decide)] at this
  exact this
theorem mc_numberO (hT : 0 ≤ τ.1 15 ∧ τ.1 15 ≤ 60) (ht : ∀ i, 0 ≤ τ.2 14 i ∧ τ.2 14 i ≤ 127) (hf : -1000 ≤ f ∧ f < 0) (hp : 0 ≤ p ∧ p < 900) : Mf 1 rX3_number [.inr 1] (setO τ p f k o) (some (numF (τ.2 14) (τ.1 15) f p).1) (setO τ (numF (τ.2 14) (τ.1 15) f p).2.1 (numF (τ.2 14) (τ.1 15) f p).2.2 k o) := by
  have := mc_number (τ := setO τ p f k o) (p := p) (f := f) hT (by rw [setO_a τ p f k o (by decide)]; exact ht) hf hp
  rw [setO_a τ p f k o (by decide), setO_af, setO_af] at this
  exact this
theorem numF_rng {tp : Nat → Int} {T f p : Int} (ht : ∀ i, 0 ≤ tp i ∧ tp i ≤ 127) (hf : -1000 ≤ f ∧ f < 0) (hp : 0 ≤ p ∧ p < 900) : (0 ≤ (numF tp T f p).1 ∧ (numF tp T f p).1 ≤ 99) ∧ (p ≤ (numF tp T f p).2.1 ∧ (numF tp T f p).2.1 ≤ p + 2) ∧ ((numF tp T f p).2.2 = f ∧ p + 1 ≤ (numF tp T f p).2.1 ∨ (numF tp T f p).2.2 = p) := by
  unfold numF
  split
  · dsimp only; omega
  · split
    · dsimp only; omega
    · rename_i h1 h2
      have h1 := Classical.not_not.mp h1
      have h2 := Classical.not_not.mp h2
      dsimp only
      omega
/-- what an order leaves: its place, a fault or the order in the row -/
def OrdP (tp : Nat → Int) (T f p k : Int) (o : Nat → Int) (p' f' k' : Int) (o' : Nat → Int) : Prop :=
  (¬ ordL (heF tp T p) ∧ f' = p ∧ p' = p ∧ k' = k ∧ o' = o) ∨
  (ordL (heF tp T p) ∧ (∀ i : Nat, (i : Int) < 3 * k → o' i = o i) ∧ (∀ i, (0 ≤ o i ∧ o i ≤ 1000) → (0 ≤ o' i ∧ o' i ≤ 1000)) ∧
    ((¬ ordT (heF tp T p) ∧ k' = k + 1 ∧ p' = (numF tp T f (p + 1)).2.1 ∧ f' = (numF tp T f (p + 1)).2.2 ∧ o' (3 * k).toNat = heF tp T p ∧ o' (3 * k + 1).toNat = (numF tp T f (p + 1)).1) ∨
     (ordT (heF tp T p) ∧ 0 ≤ (numF tp T f (p + 1)).2.2 ∧ f' = (numF tp T f (p + 1)).2.2) ∨
     (ordT (heF tp T p) ∧ (numF tp T f (p + 1)).2.2 < 0 ∧ ¬ heF tp T (numF tp T f (p + 1)).2.1 = 44 ∧ f' = (numF tp T f (p + 1)).2.1) ∨
     (ordT (heF tp T p) ∧ (numF tp T f (p + 1)).2.2 < 0 ∧ heF tp T (numF tp T f (p + 1)).2.1 = 44 ∧ k' = k + 1 ∧ p' = (numF tp T f ((numF tp T f (p + 1)).2.1 + 1)).2.1 ∧ f' = (numF tp T f ((numF tp T f (p + 1)).2.1 + 1)).2.2 ∧ o' (3 * k).toNat = heF tp T p ∧ o' (3 * k + 1).toNat = (numF tp T f (p + 1)).1 ∧ o' (3 * k + 2).toNat = (numF tp T f ((numF tp T f (p + 1)).2.1 + 1)).1)))
theorem setO_16 : (setO τ p f k o).1 16 = p := rfl
theorem setO_17 : (setO τ p f k o).1 17 = f := rfl
theorem setO_20 : (setO τ p f k o).1 20 = k := rfl
theorem mc_order_60b (hT : 0 ≤ τ.1 15 ∧ τ.1 15 ≤ 60) (ht : ∀ i, 0 ≤ τ.2 14 i ∧ τ.2 14 i ≤ 127) (hf : -1000 ≤ f ∧ f < 0) (hp : 0 ≤ p ∧ p < 800) (hk : 0 ≤ k ∧ k ≤ 58) (hd : 2 ≤ d) (hc : c = heF (τ.2 14) (τ.1 15) p) (hL : ordL c) (hN : ¬ ordT c) : Wm d rX3_order 60 [some (.inr 1), some (.inl c), some (.inl 0)] [] (setO τ p f k o) (fun v t => none = v ∧ ∃ p' f' k' o', t = setO τ p' f' k' o' ∧ OrdP (τ.2 14) (τ.1 15) f p k o p' f' k' o') := by
  have hn := numF_rng (T := τ.1 15) (p := p + 1) ht hf (by omega)
  have hcr : 0 ≤ c ∧ c ≤ 127 := by rcases hL with e | e | e | e | e | e <;> omega
  refine wm_aload_n dX3_order_60 rfl ?_
  refine wm_dup dX3_order_61 ?_
  refine wm_getI dX3_order_62 (kF3_175 rfl) rfl rfl ?_
  refine wm_iconst dX3_order_65 ?_
  refine wm_iadd dX3_order_66 ?_
  rw [setO_16]
  refine wm_putI dX3_order_67 (kF3_175 rfl) rfl rfl (Or.inl rfl) ?_
  rw [setO_p]
  refine wm_aload_n dX3_order_70 rfl ?_
  refine wm_getA dX3_order_71 (kF3_46 rfl) rfl ?_
  refine wm_iconst dX3_order_74 ?_
  refine wm_aload_n dX3_order_75 rfl ?_
  refine wm_getI dX3_order_76 (kF3_187 rfl) rfl rfl ?_
  rw [setO_20]
  refine wm_imul dX3_order_79 ?_
  refine wm_iload_n dX3_order_80 rfl ?_
  refine wm_iastore dX3_order_81 rfl ⟨by omega, by omega⟩ _ rfl ?_
  rw [setO_o]
  refine wm_aload_n dX3_order_82 rfl ?_
  refine wm_getA dX3_order_83 (kF3_46 rfl) rfl ?_
  refine wm_iconst dX3_order_86 ?_
  refine wm_aload_n dX3_order_87 rfl ?_
  refine wm_getI dX3_order_88 (kF3_187 rfl) rfl rfl ?_
  rw [setO_20]
  refine wm_imul dX3_order_91 ?_
  refine wm_iconst dX3_order_92 ?_
  refine wm_iadd dX3_order_93 ?_
  refine wm_aload_n dX3_order_94 rfl ?_
  refine wm_callv dX3_order_95 (kV3_190 rfl) rfl (mc_numberO hT ht hf (by omega)) (by omega) rfl rfl ?_
  rintro _ _ ⟨rfl, rfl⟩
  refine wm_iastore dX3_order_98 rfl ⟨by omega, by omega⟩ _ rfl ?_
  rw [setO_o]
  refine wm_iload_n dX3_order_99 rfl ?_
  refine wm_if dX3_order_100 (cB_eq ⟨by omega, by omega⟩ ⟨by omega, by omega⟩) 162 rfl (fun c100 => ?_) (fun c100 => ?_)
  ·
    refine wm_aload_n dX3_order_162 rfl ?_
    refine wm_dup dX3_order_163 ?_
    refine wm_getI dX3_order_164 (kF3_187 rfl) rfl rfl ?_
    refine wm_iconst dX3_order_167 ?_
    refine wm_iadd dX3_order_168 ?_
    refine wm_putI dX3_order_169 (kF3_187 rfl) rfl rfl (Or.inl rfl) ?_
    rw [setO_k]
    refine wm_vreturn dX3_order_172 rfl ?_
    refine ⟨rfl, _, _, _, _, rfl, Or.inr ⟨by rw [← hc]; exact hL, fun i hi => ?_, fun i hi => ?_, Or.inl ⟨by rw [← hc]; exact hN, rfl, rfl, rfl, ?_, ?_⟩⟩⟩
    · rw [upd_ne (by omega), upd_ne (by omega)]
    · unfold updW
      split
      · omega
      · split
        · omega
        · exact hi
    · rw [upd_ne (by omega), ← hc]
      exact if_pos rfl
    · exact if_pos rfl
  ·
    omega
theorem mc_order_60a (hT : 0 ≤ τ.1 15 ∧ τ.1 15 ≤ 60) (ht : ∀ i, 0 ≤ τ.2 14 i ∧ τ.2 14 i ≤ 127) (hf : -1000 ≤ f ∧ f < 0) (hp : 0 ≤ p ∧ p < 800) (hk : 0 ≤ k ∧ k ≤ 58) (hd : 2 ≤ d) (hc : c = heF (τ.2 14) (τ.1 15) p) (hL : ordL c) (hN : ordT c) : Wm d rX3_order 60 [some (.inr 1), some (.inl c), some (.inl 1)] [] (setO τ p f k o) (fun v t => none = v ∧ ∃ p' f' k' o', t = setO τ p' f' k' o' ∧ OrdP (τ.2 14) (τ.1 15) f p k o p' f' k' o') := by
  have hn := numF_rng (T := τ.1 15) (p := p + 1) ht hf (by omega)
  have hcr : 0 ≤ c ∧ c ≤ 127 := by rcases hL with e | e | e | e | e | e <;> omega
  have hh := heF_rng (T := τ.1 15) (p := (numF (τ.2 14) (τ.1 15) f (p + 1)).2.1) ht
  have u1 : ∀ u v, ∀ i : Nat, (i : Int) < 3 * k → updW (updW o (3 * k).toNat u) (3 * k + 1).toNat v i = o i := fun u v i hi => by rw [upd_ne (by omega), upd_ne (by omega)]
  have u2 : ∀ u v, (0 ≤ u ∧ u ≤ 1000) → (0 ≤ v ∧ v ≤ 1000) → ∀ i, (0 ≤ o i ∧ o i ≤ 1000) → (0 ≤ updW (updW o (3 * k).toNat u) (3 * k + 1).toNat v i ∧ updW (updW o (3 * k).toNat u) (3 * k + 1).toNat v i ≤ 1000) := fun u v hu hv i hi => by
    unfold updW
    split
    · exact hv
    · split
      · exact hu
      · exact hi
  refine wm_aload_n dX3_order_60 rfl ?_
  refine wm_dup dX3_order_61 ?_
  refine wm_getI dX3_order_62 (kF3_175 rfl) rfl rfl ?_
  refine wm_iconst dX3_order_65 ?_
  refine wm_iadd dX3_order_66 ?_
  rw [setO_16]
  refine wm_putI dX3_order_67 (kF3_175 rfl) rfl rfl (Or.inl rfl) ?_
  rw [setO_p]
  refine wm_aload_n dX3_order_70 rfl ?_
  refine wm_getA dX3_order_71 (kF3_46 rfl) rfl ?_
  refine wm_iconst dX3_order_74 ?_
  refine wm_aload_n dX3_order_75 rfl ?_
  refine wm_getI dX3_order_76 (kF3_187 rfl) rfl rfl ?_
  rw [setO_20]
  refine wm_imul dX3_order_79 ?_
  refine wm_iload_n dX3_order_80 rfl ?_
  refine wm_iastore dX3_order_81 rfl ⟨by omega, by omega⟩ _ rfl ?_
  rw [setO_o]
  refine wm_aload_n dX3_order_82 rfl ?_
  refine wm_getA dX3_order_83 (kF3_46 rfl) rfl ?_
  refine wm_iconst dX3_order_86 ?_
  refine wm_aload_n dX3_order_87 rfl ?_
  refine wm_getI dX3_order_88 (kF3_187 rfl) rfl rfl ?_
  rw [setO_20]
  refine wm_imul dX3_order_91 ?_
  refine wm_iconst dX3_order_92 ?_
  refine wm_iadd dX3_order_93 ?_
  refine wm_aload_n dX3_order_94 rfl ?_
  refine wm_callv dX3_order_95 (kV3_190 rfl) rfl (mc_numberO hT ht hf (by omega)) (by omega) rfl rfl ?_
  rintro _ _ ⟨rfl, rfl⟩
  refine wm_iastore dX3_order_98 rfl ⟨by omega, by omega⟩ _ rfl ?_
  rw [setO_o]
  refine wm_iload_n dX3_order_99 rfl ?_
  refine wm_if dX3_order_100 (cB_eq ⟨by omega, by omega⟩ ⟨by omega, by omega⟩) 162 rfl (fun c100 => ?_) (fun c100 => ?_)
  ·
    omega
  ·
    refine wm_aload_n dX3_order_103 rfl ?_
    refine wm_getI dX3_order_104 (kF3_178 rfl) rfl rfl ?_
    rw [setO_17]
    refine wm_if dX3_order_107 (cB_ge ⟨by omega, by omega⟩ ⟨by omega, by omega⟩) 127 rfl (fun c107 => ?_) (fun c107 => ?_)
    ·
      refine wm_aload_n dX3_order_127 rfl ?_
      refine wm_getI dX3_order_128 (kF3_178 rfl) rfl rfl ?_
      rw [setO_17]
      refine wm_if dX3_order_131 (cB_lt ⟨by omega, by omega⟩ ⟨by omega, by omega⟩) 135 rfl (fun c131 => ?_) (fun c131 => ?_)
      ·
        omega
      ·
        refine wm_vreturn dX3_order_134 rfl ?_
        exact ⟨rfl, _, _, _, _, rfl, Or.inr ⟨by rw [← hc]; exact hL, u1 _ _, u2 _ _ (by omega) (by omega), Or.inr (Or.inl ⟨by rw [← hc]; exact hN, c107, rfl⟩)⟩⟩
    ·
      refine wm_aload_n dX3_order_110 rfl ?_
      refine wm_callv dX3_order_111 (kV3_181 rfl) rfl (mc_hereO (by omega) hT) (by omega) rfl rfl ?_
      rintro _ _ ⟨rfl, rfl⟩
      refine wm_bipush dX3_order_114 (by decide) ?_
      refine wm_icmp dX3_order_116 (cB_eq ⟨by omega, by omega⟩ ⟨by omega, by omega⟩) 127 rfl (fun c116 => ?_) (fun c116 => ?_)
      ·
        refine wm_aload_n dX3_order_127 rfl ?_
        refine wm_getI dX3_order_128 (kF3_178 rfl) rfl rfl ?_
        rw [setO_17]
        refine wm_if dX3_order_131 (cB_lt ⟨by omega, by omega⟩ ⟨by omega, by omega⟩) 135 rfl (fun c131 => ?_) (fun c131 => ?_)
        ·
          refine wm_aload_n dX3_order_135 rfl ?_
          refine wm_dup dX3_order_136 ?_
          refine wm_getI dX3_order_137 (kF3_175 rfl) rfl rfl ?_
          refine wm_iconst dX3_order_140 ?_
          rw [setO_16]
          refine wm_iadd dX3_order_141 ?_
          refine wm_putI dX3_order_142 (kF3_175 rfl) rfl rfl (Or.inl rfl) ?_
          rw [setO_p]
          refine wm_aload_n dX3_order_145 rfl ?_
          refine wm_getA dX3_order_146 (kF3_46 rfl) rfl ?_
          refine wm_iconst dX3_order_149 ?_
          refine wm_aload_n dX3_order_150 rfl ?_
          refine wm_getI dX3_order_151 (kF3_187 rfl) rfl rfl ?_
          rw [setO_20]
          refine wm_imul dX3_order_154 ?_
          refine wm_iconst dX3_order_155 ?_
          refine wm_iadd dX3_order_156 ?_
          refine wm_aload_n dX3_order_157 rfl ?_
          refine wm_callv dX3_order_158 (kV3_190 rfl) rfl (mc_numberO hT ht (by omega) (by omega)) (by omega) rfl rfl ?_
          rintro _ _ ⟨rfl, rfl⟩
          have hn2 := numF_rng (T := τ.1 15) (f := (numF (τ.2 14) (τ.1 15) f (p + 1)).2.2) (p := (numF (τ.2 14) (τ.1 15) f (p + 1)).2.1 + 1) ht (by omega) (by omega)
          refine wm_iastore dX3_order_161 rfl ⟨by omega, by omega⟩ _ rfl ?_
          rw [setO_o]
          refine wm_aload_n dX3_order_162 rfl ?_
          refine wm_dup dX3_order_163 ?_
          refine wm_getI dX3_order_164 (kF3_187 rfl) rfl rfl ?_
          refine wm_iconst dX3_order_167 ?_
          refine wm_iadd dX3_order_168 ?_
          refine wm_putI dX3_order_169 (kF3_187 rfl) rfl rfl (Or.inl rfl) ?_
          rw [setO_k]
          refine wm_vreturn dX3_order_172 rfl ?_
          have hf1 : (numF (τ.2 14) (τ.1 15) f (p + 1)).2.2 = f := by omega
          rw [hf1] at hn2
          refine ⟨rfl, _, _, _, _, rfl, Or.inr ⟨by rw [← hc]; exact hL, fun i hi => ?_, fun i hi => ?_, Or.inr (Or.inr (Or.inr ⟨by rw [← hc]; exact hN, by omega, c116, rfl, by rw [hf1], by rw [hf1], ?_, ?_, ?_⟩))⟩⟩
          · rw [upd_ne (by omega)]; exact u1 _ _ i hi
          · have := u2 c (numF (τ.2 14) (τ.1 15) f (p + 1)).1 (by omega) (by omega) i hi
            rw [hf1]
            by_cases e : i = (3 * k + 2).toNat
            · subst e
              rw [show ∀ (w : Nat → Int) v, updW w (3 * k + 2).toNat v (3 * k + 2).toNat = v from fun w v => if_pos rfl]
              omega
            · rw [upd_ne e]; exact this
          · rw [upd_ne (by omega), upd_ne (by omega), ← hc]
            exact if_pos rfl
          · rw [upd_ne (by omega)]
            exact if_pos rfl
          · rw [hf1]; exact if_pos rfl
        ·
          omega
      ·
        refine wm_aload_n dX3_order_119 rfl ?_
        refine wm_aload_n dX3_order_120 rfl ?_
        refine wm_getI dX3_order_121 (kF3_175 rfl) rfl rfl ?_
        rw [setO_16]
        refine wm_putI dX3_order_124 (kF3_178 rfl) rfl rfl (Or.inl rfl) ?_
        rw [setO_f]
        refine wm_aload_n dX3_order_127 rfl ?_
        refine wm_getI dX3_order_128 (kF3_178 rfl) rfl rfl ?_
        rw [setO_17]
        refine wm_if dX3_order_131 (cB_lt ⟨by omega, by omega⟩ ⟨by omega, by omega⟩) 135 rfl (fun c131 => ?_) (fun c131 => ?_)
        ·
          omega
        ·
          refine wm_vreturn dX3_order_134 rfl ?_
          exact ⟨rfl, _, _, _, _, rfl, Or.inr ⟨by rw [← hc]; exact hL, u1 _ _, u2 _ _ (by omega) (by omega), Or.inr (Or.inr (Or.inl ⟨by rw [← hc]; exact hN, by omega, c116, rfl⟩))⟩⟩
theorem mc_order (hT : 0 ≤ τ.1 15 ∧ τ.1 15 ≤ 60) (ht : ∀ i, 0 ≤ τ.2 14 i ∧ τ.2 14 i ≤ 127) (hf : -1000 ≤ f ∧ f < 0) (hp : 0 ≤ p ∧ p < 800) (hk : 0 ≤ k ∧ k ≤ 58) : Mt 2 rX3_order [.inr 1] (setO τ p f k o) (fun v t => none = v ∧ ∃ p' f' k' o', t = setO τ p' f' k' o' ∧ OrdP (τ.2 14) (τ.1 15) f p k o p' f' k' o') := by
  intro d hd
  have hh := heF_rng (T := τ.1 15) (p := p) ht
  refine wm_aload_n dX3_order_0 rfl ?_
  refine wm_callv dX3_order_1 (kV3_181 rfl) rfl (mc_hereO (by omega) hT) (by omega) rfl rfl ?_
  rintro _ _ ⟨rfl, rfl⟩
  refine wm_istore_n dX3_order_4 rfl ?_
  refine wm_iload_n dX3_order_5 rfl ?_
  refine wm_bipush dX3_order_6 (by decide) ?_
  refine wm_icmp dX3_order_8 (cB_eq ⟨by omega, by omega⟩ ⟨by omega, by omega⟩) 23 rfl (fun c8 => ?_) (fun c8 => ?_)
  ·
    refine wm_iconst dX3_order_23 ?_
    refine wm_goto dX3_order_24 28 rfl ?_
    refine wm_istore_n dX3_order_28 rfl ?_
    refine wm_iload_n dX3_order_29 rfl ?_
    refine wm_if dX3_order_30 (cB_ne ⟨by omega, by omega⟩ ⟨by omega, by omega⟩) 60 rfl (fun c30 => ?_) (fun c30 => ?_)
    ·
      exact mc_order_60a hT ht hf hp hk hd rfl (by unfold ordL; omega) (by unfold ordT; omega)
    ·
      omega
  ·
    refine wm_iload_n dX3_order_11 rfl ?_
    refine wm_bipush dX3_order_12 (by decide) ?_
    refine wm_icmp dX3_order_14 (cB_eq ⟨by omega, by omega⟩ ⟨by omega, by omega⟩) 23 rfl (fun c14 => ?_) (fun c14 => ?_)
    ·
      refine wm_iconst dX3_order_23 ?_
      refine wm_goto dX3_order_24 28 rfl ?_
      refine wm_istore_n dX3_order_28 rfl ?_
      refine wm_iload_n dX3_order_29 rfl ?_
      refine wm_if dX3_order_30 (cB_ne ⟨by omega, by omega⟩ ⟨by omega, by omega⟩) 60 rfl (fun c30 => ?_) (fun c30 => ?_)
      ·
        exact mc_order_60a hT ht hf hp hk hd rfl (by unfold ordL; omega) (by unfold ordT; omega)
      ·
        omega
    ·
      refine wm_iload_n dX3_order_17 rfl ?_
      refine wm_bipush dX3_order_18 (by decide) ?_
      refine wm_icmp dX3_order_20 (cB_ne ⟨by omega, by omega⟩ ⟨by omega, by omega⟩) 27 rfl (fun c20 => ?_) (fun c20 => ?_)
      ·
        refine wm_iconst dX3_order_27 ?_
        refine wm_istore_n dX3_order_28 rfl ?_
        refine wm_iload_n dX3_order_29 rfl ?_
        refine wm_if dX3_order_30 (cB_ne ⟨by omega, by omega⟩ ⟨by omega, by omega⟩) 60 rfl (fun c30 => ?_) (fun c30 => ?_)
        ·
          omega
        ·
          refine wm_iload_n dX3_order_33 rfl ?_
          refine wm_bipush dX3_order_34 (by decide) ?_
          refine wm_icmp dX3_order_36 (cB_eq ⟨by omega, by omega⟩ ⟨by omega, by omega⟩) 60 rfl (fun c36 => ?_) (fun c36 => ?_)
          ·
            exact mc_order_60b hT ht hf hp hk hd rfl (by unfold ordL; omega) (by unfold ordT; omega)
          ·
            refine wm_iload_n dX3_order_39 rfl ?_
            refine wm_bipush dX3_order_40 (by decide) ?_
            refine wm_icmp dX3_order_42 (cB_eq ⟨by omega, by omega⟩ ⟨by omega, by omega⟩) 60 rfl (fun c42 => ?_) (fun c42 => ?_)
            ·
              exact mc_order_60b hT ht hf hp hk hd rfl (by unfold ordL; omega) (by unfold ordT; omega)
            ·
              refine wm_iload_n dX3_order_45 rfl ?_
              refine wm_bipush dX3_order_46 (by decide) ?_
              refine wm_icmp dX3_order_48 (cB_eq ⟨by omega, by omega⟩ ⟨by omega, by omega⟩) 60 rfl (fun c48 => ?_) (fun c48 => ?_)
              ·
                exact mc_order_60b hT ht hf hp hk hd rfl (by unfold ordL; omega) (by unfold ordT; omega)
              ·
                refine wm_aload_n dX3_order_51 rfl ?_
                refine wm_aload_n dX3_order_52 rfl ?_
                refine wm_getI dX3_order_53 (kF3_175 rfl) rfl rfl ?_
                rw [setO_16]
                refine wm_putI dX3_order_56 (kF3_178 rfl) rfl rfl (Or.inl rfl) ?_
                rw [setO_f]
                refine wm_vreturn dX3_order_59 rfl ?_
                exact ⟨rfl, _, _, _, _, rfl, Or.inl ⟨by unfold ordL; omega, rfl, rfl, rfl, rfl⟩⟩
      ·
        refine wm_iconst dX3_order_23 ?_
        refine wm_goto dX3_order_24 28 rfl ?_
        refine wm_istore_n dX3_order_28 rfl ?_
        refine wm_iload_n dX3_order_29 rfl ?_
        refine wm_if dX3_order_30 (cB_ne ⟨by omega, by omega⟩ ⟨by omega, by omega⟩) 60 rfl (fun c30 => ?_) (fun c30 => ?_)
        ·
          exact mc_order_60a hT ht hf hp hk hd rfl (by unfold ordL; omega) (by unfold ordT; omega)
        ·
          omega
end M22
