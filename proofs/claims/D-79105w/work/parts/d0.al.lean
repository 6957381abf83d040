/-! ArrayList -/
set_option maxRecDepth 100000
/-- a list: object a, array x of n places, s elements of class ci -/
def ALs (T : Nat → Option CK) (t : CT) (a x n s ci : Nat) : Prop := (kd T t a = some alK ∧ wrC t a) ∧ (sg t a 1 = (x : Int) ∧ sg t a 2 = (s : Int) ∧ s ≤ n ∧ n ≤ 10 + 2 * s ∧ s ≤ 200) ∧ ((x = 3 ∧ n = 0 ∧ ∃ g, kd T t 3 = some (ckRc 4 0 g)) ∨ (0 < n ∧ kd T t x = some (ckR 0 n) ∧ wrC t x ∧ x ≠ a)) ∧ (∀ i, i < s → ∃ fs, kd T t (sg t x i).toNat = some (ckO ci fs))
theorem ALs.weak {T : Nat → Option CK} {t : CT} {a x n s ci : Nat} (h : ALs T t a x n s ci) : ALw T t a x n s := ⟨h.1, h.2.1, h.2.2.1⟩
theorem ALw.nil {T : Nat → Option CK} {t : CT} {a x n ci : Nat} (h : ALw T t a x n 0) : ALs T t a x n 0 ci := ⟨h.1, h.2.1, h.2.2, fun i hi => absurd hi (Nat.not_lt_zero i)⟩
theorem Wc.rp {T : Nat → Option CK} {d : Nat} {M : MRec} {pc : Nat} {ls : AL} {st : List AV} {τ : CT} {Q : CO → CT → Prop} (K : (1000 ≤ n0C τ ∧ n0C τ ≤ nvC τ) ∧ (∀ y k, kd T τ y = some k → y < nvC τ) → Wc T d M pc ls st τ Q) : Wc T d M pc ls st τ Q := fun E h R => K ⟨R.2.1, fun y k hk => (R.2.2.2.2.1 y k hk).1⟩ E h R
section AL
variable {T : Nat → Option CK} {τ t u : CT} {a x n s ci y k d : Nat} {v c e : Int} {Q : Option AV → CT → Prop}
theorem cc_newLength (h1 : 0 ≤ v ∧ v ≤ 1000) (h2 : 1 ≤ c ∧ c ≤ 1000) (h3 : 0 ≤ e ∧ e ≤ 1000) : Cf T 0 rJ3_newLength [.inl v, .inl c, .inl e] t (some (.inl (v + (if c < e then e else c)))) t := by
  intro d hd
  refine wc_iload_n dJ3_newLength_0 rfl ?_
  refine wc_iload_n dJ3_newLength_1 rfl ?_
  refine wc_iload_n dJ3_newLength_2 rfl ?_
  refine wc_max dJ3_newLength_3 rfl rfl ⟨by omega, by omega⟩ ⟨by omega, by omega⟩ rfl ?_
  refine wc_iadd dJ3_newLength_6 ?_
  refine wc_istore_n dJ3_newLength_7 rfl ?_
  refine wc_iconst dJ3_newLength_8 ?_
  refine wc_iload_n dJ3_newLength_9 rfl ?_
  refine wc_icmp dJ3_newLength_10 (cB_ge (show rng _ by omega) (show rng _ by split <;> omega)) 21 rfl (fun c10 => ?_) (fun c10 => ?_)
  ·
    exfalso; split at c10 <;> omega
  ·
    refine wc_iload_n dJ3_newLength_13 rfl ?_
    refine wc_ldcN 2147483639 dJ3_newLength_14 (kK23_200 rfl) (by decide) ?_
    refine wc_icmp dJ3_newLength_16 (cB_gt (show rng _ by split <;> omega) (by decide)) 21 rfl (fun c16 => ?_) (fun c16 => ?_)
    ·
      exfalso; split at c16 <;> omega
    ·
      refine wc_iload_n dJ3_newLength_19 rfl ?_
      refine wc_ireturn dJ3_newLength_20 rfl ?_
      exact ⟨rfl, rfl⟩
/-- a longer array with the same entries -/
def cpyC (t : CT) (x n n' : Nat) : CT := cpC (newC t (ckR 0 n') n' (fun _ => 0)) x (nvC t) 0 0 n
theorem cc_copyOf {n' : Nat} (hx : kd T t x = some (ckR 0 n)) (hn : n ≤ n' ∧ n' ≤ 2000) (hci : (mFit 0 ci && (ci == 1 || ci == 4 || ci == 7 || ci == 9)) = true) (hel : ∀ i, i < n → (sg t x i).toNat = 0 ∨ ∃ fs, kd T t (sg t x i).toNat = some (ckO ci fs)) (hlt : ∀ y k, kd T t y = some k → y < nvC t) (h1000 : 1000 ≤ n0C t ∧ n0C t ≤ nvC t) : Cf T 1 rJ5_copyOf [.inr x, .inl (n' : Int)] t (some (.inr (nvC t))) (cpyC t x n n') := by
  have hx2 : kd T (newC t (ckR 0 n') n' (fun _ => 0)) x = some (ckR 0 n) := by rw [kd_new (by have := hlt _ _ hx; omega)]; exact hx
  have h2 : Cf T 0 rJ5_copyOf_2 [.inr x, .inl (n' : Int), .inr 4] t (some (.inr (nvC t))) (cpyC t x n n') := by
    intro d hd
    have e1 : (n' : Int).toNat = n' := Int.toNat_natCast n'
    have em : (if (n' : Int) < (n : Int) then (n' : Int) else (n : Int)) = (n : Int) := by split <;> omega
    refine wc_aload_n dJ5_copyOf_2_0 rfl ?_
    refine wc_ldcM dJ5_copyOf_2_1 rfl ⟨rfl, rfl⟩ ?_
    refine wc_acmpne dJ5_copyOf_2_3 rfl ?_
    refine wc_iload_n dJ5_copyOf_2_6 rfl ?_
    refine wc_newR dJ5_copyOf_2_7 (kA25_2 rfl) ⟨by omega, by omega⟩ _ rfl ?_
    refine wc_goto dJ5_copyOf_2_10 24 rfl ?_
    rw [e1]
    refine wc_astore_n dJ5_copyOf_2_24 rfl ?_
    refine wc_aload_n dJ5_copyOf_2_25 rfl ?_
    refine wc_iconst dJ5_copyOf_2_26 ?_
    refine wc_aload_n dJ5_copyOf_2_27 rfl ?_
    refine wc_iconst dJ5_copyOf_2_28 ?_
    refine wc_aload_n dJ5_copyOf_2_29 rfl ?_
    refine wc_alenR dJ5_copyOf_2_30 hx2 ?_
    refine wc_iload_n dJ5_copyOf_2_31 rfl ?_
    refine wc_min dJ5_copyOf_2_32 rfl rfl (show rng _ by omega) (show rng _ by omega) rfl ?_
    rw [em]
    refine wc_cpyR dJ5_copyOf_2_35 rfl hx2 (kd_nw (by omega)) ⟨by omega, Or.inr h1000.2⟩ ci hci (fun j hj => by rw [sg_new (by have := hlt _ _ hx; omega)]; rcases hel j (by omega) with q | ⟨fs, q⟩; exact Or.inl (by rw [Int.toNat_zero, Nat.zero_add]; exact q); exact Or.inr ⟨fs, by rw [Int.toNat_zero, Nat.zero_add, kd_new (by have := hlt _ _ q; omega)]; exact q⟩) rfl (by omega) (by omega) (by omega) (by omega) (by omega) ⟨by omega, by omega⟩ ?_
    refine wc_aload_n dJ5_copyOf_2_38 rfl ?_
    refine wc_areturn dJ5_copyOf_2_39 rfl ?_
    refine ⟨rfl, ?_⟩
    unfold cpyC
    rw [Int.toNat_natCast]
    rfl
  intro d hd
  refine wc_aload_n dJ5_copyOf_0 rfl ?_
  refine wc_iload_n dJ5_copyOf_1 rfl ?_
  refine wc_aload_n dJ5_copyOf_2 rfl ?_
  refine wc_getClass dJ5_copyOf_3 ⟨rfl, rfl⟩ hx rfl ?_
  refine wc_call dJ5_copyOf_6 rfl (h2) (by omega) (hx_S (kS25_300 rfl) (kSn25_300 rfl) rfl rfl) ?_
  rintro _ _ ⟨rfl, rfl⟩
  refine wc_areturn dJ5_copyOf_9 rfl ?_
  exact ⟨rfl, rfl⟩
/-- what a list's change leaves alone -/
def FrL (a x : Nat) (t u : CT) : Prop := n0C u = n0C t ∧ (nvC t ≤ nvC u ∧ nvC u ≤ nvC t + 1) ∧ (∀ v, v < nvC t → u.2.1 v = t.2.1 v) ∧ (∀ v, v < nvC t → v ≠ a → v ≠ x → sg u v = sg t v)
/-- one more element -/
def AddP (T : Nat → Option CK) (a x n s ci : Nat) (y : Int) (t u : CT) : Prop := ∃ x' n', ALs T u a x' n' (s + 1) ci ∧ (∀ i, i < s → sg u x' i = sg t x i) ∧ sg u x' s = y ∧ ((x' = x ∧ n' = n ∧ s < n ∧ nvC u = nvC t ∧ uC u = uC t) ∨ (x' = nvC t ∧ s = n ∧ n' ≤ 10 + 2 * s ∧ (s = 0 → n' = 10) ∧ nvC u = nvC t + 1)) ∧ FrL a x t u ∧ uC u ≤ uC t + (10 + 2 * s)
theorem kd_lt {v : Nat} (hv : v < nvC t) (h : u.2.1 v = t.2.1 v) : kd T u v = kd T t v := by
  unfold kd
  rw [h]
theorem cc_grow (hA : ALs T t a x n s ci) (he : s = n) (hci : (mFit 0 ci && (ci == 1 || ci == 4 || ci == 7 || ci == 9)) = true) (hs : s < 200) : Ct T 3 rJ2_grow [.inr a] t (fun v u => ∃ n', some (.inr (nvC t)) = v ∧ (s < n' ∧ n' ≤ 10 + 2 * s ∧ (s = 0 → n' = 10)) ∧ u.2.1 (nvC t) = some (ckR 0 n') ∧ (∀ i, i < s → sg u (nvC t) i = sg t x i) ∧ (∀ i, s ≤ i → i < n' → sg u (nvC t) i = 0) ∧ sg u a 1 = (nvC t : Int) ∧ (∀ j, j ≠ 1 → sg u a j = sg t a j) ∧ (n0C u = n0C t ∧ nvC u = nvC t + 1 ∧ uC u = uC t + n') ∧ (∀ v, v < nvC t → u.2.1 v = t.2.1 v) ∧ (∀ v, v < nvC t → v ≠ a → sg u v = sg t v)) := by
  obtain ⟨⟨ka, wa⟩, ⟨e1, e2, e3, e4, e5⟩, hx, hel⟩ := hA
  subst he
  have hx1 : (sg t a 1).toNat = x := by rw [e1]; exact Int.toNat_natCast x
  intro d hd
  refine Wc.rp (fun ⟨hnv, hlt⟩ => ?_)
  have han := hlt _ _ ka
  have h2 : Ct T 2 rJ2_grow_2 [.inr a, .inl ((s : Int) + 1)] t (fun v u => ∃ n', some (.inr (nvC t)) = v ∧ (s < n' ∧ n' ≤ 10 + 2 * s ∧ (s = 0 → n' = 10)) ∧ u.2.1 (nvC t) = some (ckR 0 n') ∧ (∀ i, i < s → sg u (nvC t) i = sg t x i) ∧ (∀ i, s ≤ i → i < n' → sg u (nvC t) i = 0) ∧ sg u a 1 = (nvC t : Int) ∧ (∀ j, j ≠ 1 → sg u a j = sg t a j) ∧ (n0C u = n0C t ∧ nvC u = nvC t + 1 ∧ uC u = uC t + n') ∧ (∀ v, v < nvC t → u.2.1 v = t.2.1 v) ∧ (∀ v, v < nvC t → v ≠ a → sg u v = sg t v)) := by
    intro d hd
    rcases hx with ⟨rfl, h0, g, k3⟩ | ⟨h0, kx, wx, hxa⟩
    · subst h0
      have kn : ∀ s' f, kd T (newC t (ckR 0 10) s' f) a = some alK := fun s' f => by rw [kd_new (by omega)]; exact ka
      refine wc_aload_n dJ2_grow_2_0 rfl ?_
      refine wc_getR (y := 3) dJ2_grow_2_1 (kF22_9 rfl) ka rfl hx1 ?_
      refine wc_alenR dJ2_grow_2_4 k3 ?_
      refine wc_istore_n dJ2_grow_2_5 rfl ?_
      refine wc_iload_n dJ2_grow_2_6 rfl ?_
      refine wc_if dJ2_grow_2_7 (cB_gt (by omega) ⟨by omega, by omega⟩) 20 rfl (fun c7 => ?_) (fun c7 => ?_)
      ·
        omega
      ·
        refine wc_aload_n dJ2_grow_2_10 rfl ?_
        refine wc_getR (y := 3) dJ2_grow_2_11 (kF22_9 rfl) ka rfl hx1 ?_
        refine wc_getstatic dJ2_grow_2_14 (kT22_39 rfl) rfl ?_
        refine wc_acmpeq dJ2_grow_2_17 45 rfl ?_
        refine wc_aload_n dJ2_grow_2_45 rfl ?_
        refine wc_bipush dJ2_grow_2_46 (by decide) ?_
        refine wc_iload_n dJ2_grow_2_48 rfl ?_
        refine wc_max dJ2_grow_2_49 rfl rfl (by omega) (show rng _ by omega) rfl ?_
        rw [if_neg (by omega)]
        refine wc_newR dJ2_grow_2_52 (kA22_7 rfl) ⟨by omega, by omega⟩ _ rfl ?_
        refine wc_dup_x1 dJ2_grow_2_55 ?_
        refine wc_putR dJ2_grow_2_56 (kF22_9 rfl) rfl (kn _ _) rfl wa rfl ?_
        refine wc_areturn dJ2_grow_2_59 rfl ?_
        refine ⟨10, rfl, ⟨by omega, by omega, fun _ => rfl⟩, ?_, fun i hi => by omega, fun i h1 h2 => ?_, ?_, fun j hj => ?_, ⟨rfl, rfl, rfl⟩, fun v hv => ?_, fun v hv hva => ?_⟩
        · show (if nvC t = nvC t then some _ else _) = _
          rw [if_pos rfl]
          rfl
        · rw [sg_st' (by omega), sg_nw]
        · rw [sg_st, if_pos rfl]
        · rw [sg_st, if_neg hj, sg_new (by omega)]
        · show (if v = nvC t then some _ else _) = _
          rw [if_neg (by omega)]
        · rw [sg_st' hva, sg_new (by omega)]
    · have hxn := hlt _ _ kx
      have kn : ∀ n', kd T (cpyC t x s n') a = some alK := fun n' => by
        show kd T (newC t (ckR 0 n') n' (fun _ => 0)) a = _
        rw [kd_new (by omega)]; exact ka
      have hsg : ∀ n' v, v ≠ nvC t → sg (cpyC t x s n') v = sg t v := fun n' v hv => by
        unfold cpyC cpC
        funext j
        show (if v = nvC t ∧ _ then _ else _) = _
        rw [if_neg (fun q => hv q.1)]
        exact congrFun (sg_new hv) j
      have hsn : ∀ n' i, sg (cpyC t x s n') (nvC t) i = if i < s then sg t x i else 0 := fun n' i => by
        unfold cpyC cpC
        show (if nvC t = nvC t ∧ 0 ≤ i ∧ i < 0 + s then sg (newC t (ckR 0 n') n' (fun _ => 0)) x (0 + (i - 0)) else sg (newC t (ckR 0 n') n' (fun _ => 0)) (nvC t) i) = _
        by_cases hi : i < s
        · rw [if_pos ⟨rfl, by omega, by omega⟩, if_pos hi, sg_new (by omega), Nat.zero_add, Nat.sub_zero]
        · rw [if_neg (by omega), if_neg hi, sg_nw]
      have hn' : ∃ n' : Nat, (s : Int) + (if (s : Int) + 1 - s < (s : Int) / 2 ^ (1 : Int).toNat then (s : Int) / 2 ^ (1 : Int).toNat else (s : Int) + 1 - s) = (n' : Int) ∧ s < n' ∧ n' ≤ 10 + 2 * s := by
        have e2p : (2 : Int) ^ (1 : Int).toNat = 2 := rfl
        rw [e2p]
        split
        · exact ⟨s + s / 2, by omega, by omega, by omega⟩
        · exact ⟨s + 1, by omega, by omega, by omega⟩
      obtain ⟨n', en, hn1, hn2⟩ := hn'
      refine wc_aload_n dJ2_grow_2_0 rfl ?_
      refine wc_getR (y := x) dJ2_grow_2_1 (kF22_9 rfl) ka rfl hx1 ?_
      refine wc_alenR dJ2_grow_2_4 kx ?_
      refine wc_istore_n dJ2_grow_2_5 rfl ?_
      refine wc_iload_n dJ2_grow_2_6 rfl ?_
      refine wc_if dJ2_grow_2_7 (cB_gt (by omega) ⟨by omega, by omega⟩) 20 rfl (fun c7 => ?_) (fun c7 => ?_)
      ·
        refine wc_iload_n dJ2_grow_2_20 rfl ?_
        refine wc_iload_n dJ2_grow_2_21 rfl ?_
        refine wc_iload_n dJ2_grow_2_22 rfl ?_
        refine wc_isub dJ2_grow_2_23 ?_
        refine wc_iload_n dJ2_grow_2_24 rfl ?_
        refine wc_iconst dJ2_grow_2_25 ?_
        refine wc_shr dJ2_grow_2_26 ⟨by omega, by omega⟩ ⟨by omega, by omega⟩ ?_
        refine wc_call dJ2_grow_2_27 rfl (cc_newLength (by omega) (by omega) (by rw [show (2 : Int) ^ (1 : Int).toNat = 2 from rfl]; omega)) (by omega) (hx_S (kS22_73 rfl) (kSn22_73 rfl) rfl rfl) ?_
        rintro _ _ ⟨rfl, rfl⟩
        rw [en]
        refine wc_istore_n dJ2_grow_2_30 rfl ?_
        refine wc_aload_n dJ2_grow_2_31 rfl ?_
        refine wc_aload_n dJ2_grow_2_32 rfl ?_
        refine wc_getR (y := x) dJ2_grow_2_33 (kF22_9 rfl) ka rfl hx1 ?_
        refine wc_iload_n dJ2_grow_2_36 rfl ?_
        refine wc_call dJ2_grow_2_37 rfl (cc_copyOf (n := s) kx ⟨by omega, by omega⟩ hci (fun i hi => Or.inr (hel i hi)) hlt hnv) (by omega) (hx_S (kS22_66 rfl) (kSn22_66 rfl) rfl rfl) ?_
        rintro _ _ ⟨rfl, rfl⟩
        refine wc_dup_x1 dJ2_grow_2_40 ?_
        refine wc_putR dJ2_grow_2_41 (kF22_9 rfl) rfl (kn _) rfl wa rfl ?_
        refine wc_areturn dJ2_grow_2_44 rfl ?_
        refine ⟨n', rfl, ⟨hn1, hn2, fun q => by omega⟩, ?_, fun i hi => ?_, fun i h1 h2 => ?_, ?_, fun j hj => ?_, ⟨rfl, rfl, rfl⟩, fun v hv => ?_, fun v hv hva => ?_⟩
        · show (if nvC t = nvC t then some _ else _) = _
          rw [if_pos rfl]
        · rw [sg_st' (by omega), hsn, if_pos hi]
        · rw [sg_st' (by omega), hsn, if_neg (by omega)]
        · rw [sg_st, if_pos rfl]
        · rw [sg_st, if_neg hj, hsg _ _ (by omega)]
        · show (if v = nvC t then some _ else _) = _
          rw [if_neg (by omega)]
        · rw [sg_st' hva, hsg _ _ (by omega)]
      ·
        omega
  refine wc_aload_n dJ2_grow_0 rfl ?_
  refine wc_aload_n dJ2_grow_1 rfl ?_
  refine wc_getI dJ2_grow_2 (kF22_48 rfl) ka rfl ?_
  rw [e2]
  refine wc_iconst dJ2_grow_5 ?_
  refine wc_iadd dJ2_grow_6 ?_
  refine wc_call dJ2_grow_7 rfl (h2) (by omega) (hx_V (kV22_69 rfl) rfl ka rfl rfl) ?_
  rintro _ _ ⟨n2, rfl, hq⟩
  refine wc_areturn dJ2_grow_10 rfl ?_
  exact ⟨n2, rfl, hq⟩
end AL
