/-! PriorityQueue, 1: the order, sifting -/
set_option maxRecDepth 100000
theorem fb_shlk : ∀ A : Fin 1024, (cI (A.val : Int) <<< (cI 1 &&& 31)).toInt = 2 * (A.val : Int) := by decide +kernel
theorem fb_ushr : ∀ A : Fin 1024, ((cI (A.val : Int)).toUInt32 >>> ((cI 1).toUInt32 &&& Int32.toUInt32 31)).toInt32.toInt = (A.val : Int) / 2 := by decide +kernel
section SHK
variable {T : Nat → Option CK} {d : Nat} {M : MRec} {pc : Nat} {ls : AL} {st : List AV} {τ : CT} {Q : CO → CT → Prop} {a : Int}
theorem wc_shlk (hd : decode (rC M) pc = .ok (.ishl, 1)) (ha : 0 ≤ a ∧ a < 1024) (K : Wc T d M (pc + 1) ls (.inl (2 * a) :: st) τ Q) : Wc T d M pc ls (.inl 1 :: .inl a :: st) τ Q := wc_bits (f := fun x y => x <<< (y &&& 31)) hd rfl (fun _ _ _ => rfl) (by
  obtain ⟨A, rfl⟩ := b_fin (n := 1024) ha
  rw [fb_shlk A]
  exact K)
theorem wc_ushr1 (hd : decode (rC M) pc = .ok (.iushr, 1)) (ha : 0 ≤ a ∧ a < 1024) (K : Wc T d M (pc + 1) ls (.inl (a / 2) :: st) τ Q) : Wc T d M pc ls (.inl 1 :: .inl a :: st) τ Q := wc_bits (f := fun x y => (x.toUInt32 >>> (y.toUInt32 &&& Int32.toUInt32 31)).toInt32) hd rfl (fun _ _ _ => rfl) (by
  obtain ⟨A, rfl⟩ := b_fin (n := 1024) ha
  rw [fb_ushr A]
  exact K)
end SHK
def cmpF (D : Int → Int) (a b : Int) : Int := if D a ≠ D b then D b - D a else a - b
/-- a key that orders as the comparator does -/
def keyF (D : Int → Int) (a : Int) : Int := a - 16 * D a
theorem cmp_lt {D : Int → Int} {a b : Int} (ha : 0 ≤ a ∧ a ≤ 9) (hb : 0 ≤ b ∧ b ≤ 9) : (cmpF D a b < 0 ↔ keyF D a < keyF D b) ∧ (0 < cmpF D a b ↔ keyF D b < keyF D a) := by
  unfold cmpF keyF
  split <;> omega
theorem key_inj {D : Int → Int} {a b : Int} (ha : 0 ≤ a ∧ a ≤ 9) (hb : 0 ≤ b ∧ b ≤ 9) (h : keyF D a = keyF D b) : a = b := by
  unfold keyF at h
  omega
def swF2 (e : Nat → Int) (k p : Nat) : Nat → Int := fun i => if i = k then e p else if i = p then e k else e i
/-- the same elements -/
def SmS (n : Nat) (e f : Nat → Int) : Prop := (∀ i, i < n → ∃ j, j < n ∧ f i = e j) ∧ (∀ j, j < n → ∃ i, i < n ∧ e j = f i) ∧ ((∀ i j, i < n → j < n → e i = e j → i = j) → ∀ i j, i < n → j < n → f i = f j → i = j)
theorem SmS.rf {n : Nat} {e : Nat → Int} : SmS n e e := ⟨fun i h => ⟨i, h, rfl⟩, fun i h => ⟨i, h, rfl⟩, fun h => h⟩
theorem SmS.tr {n : Nat} {e f g : Nat → Int} (h : SmS n e f) (k : SmS n f g) : SmS n e g := ⟨fun i hi => by
  obtain ⟨j, hj, e1⟩ := k.1 i hi
  obtain ⟨l, hl, e2⟩ := h.1 j hj
  exact ⟨l, hl, e1.trans e2⟩, fun i hi => by
  obtain ⟨j, hj, e1⟩ := h.2.1 i hi
  obtain ⟨l, hl, e2⟩ := k.2.1 j hj
  exact ⟨l, hl, e1.trans e2⟩, fun q => k.2.2 (h.2.2 q)⟩
theorem SmS.sw {n k p : Nat} {e : Nat → Int} (hk : k < n) (hp : p < n) : SmS n e (swF2 e k p) := by
  have hinv : ∀ i, swF2 e k p (if i = k then p else if i = p then k else i) = e i := fun i => by
    unfold swF2
    by_cases h1 : i = k
    · rw [if_pos h1]
      by_cases h2 : p = k
      · rw [if_pos h2, h1, h2]
      · rw [if_neg h2, if_pos rfl, h1]
    · rw [if_neg h1]
      by_cases h2 : i = p
      · rw [if_pos h2, if_pos rfl, h2]
      · rw [if_neg h2, if_neg h1, if_neg h2]
  have hin : ∀ i, swF2 e k p i = e (if i = k then p else if i = p then k else i) := fun i => by
    unfold swF2
    by_cases h1 : i = k
    · rw [if_pos h1, if_pos h1]
    · rw [if_neg h1, if_neg h1]
      by_cases h2 : i = p
      · rw [if_pos h2, if_pos h2]
      · rw [if_neg h2, if_neg h2]
  refine ⟨fun i hi => ⟨_, ?_, hin i⟩, fun i hi => ⟨_, ?_, (hinv i).symm⟩, fun q i j hi hj he => ?_⟩
  · split
    · exact hp
    · split
      · exact hk
      · exact hi
  · split
    · exact hp
    · split
      · exact hk
      · exact hi
  · rw [hin, hin] at he
    have := q _ _ (by split; exact hp; split; exact hk; exact hi) (by split; exact hp; split; exact hk; exact hj) he
    revert this
    split <;> split <;> (try split) <;> (try split) <;> omega
abbrev parN (i : Nat) : Nat := (i - 1) / 2
/-- in order but for place k, from below -/
def HU (K : Int → Int) (e : Nat → Int) (n k : Nat) : Prop := (∀ i, 0 < i → i < n → i ≠ k → K (e (parN i)) ≤ K (e i)) ∧ (0 < k → ∀ c, 0 < c → c < n → parN c = k → K (e (parN k)) ≤ K (e c))
def HpQ (K : Int → Int) (e : Nat → Int) (n : Nat) : Prop := ∀ i, 0 < i → i < n → K (e (parN i)) ≤ K (e i)
theorem HU.step {K : Int → Int} {e : Nat → Int} {n k : Nat} (h : HU K e n k) (hk : 0 < k) (hkn : k < n) (hx : K (e k) < K (e (parN k))) : HU K (swF2 e k (parN k)) n (parN k) := by
  have hpk : parN k < k := by unfold parN; omega
  have e1 : ∀ i, i ≠ k → i ≠ parN k → swF2 e k (parN k) i = e i := fun i a b => by unfold swF2; rw [if_neg a, if_neg b]
  have ek : swF2 e k (parN k) k = e (parN k) := by unfold swF2; rw [if_pos rfl]
  have ep : swF2 e k (parN k) (parN k) = e k := by unfold swF2; rw [if_neg (by omega), if_pos rfl]
  refine ⟨fun i i0 i1 hi => ?_, fun hp c c0 c1 hc => ?_⟩
  · by_cases q : i = k
    · subst q
      rw [ep, ek]; omega
    · rw [e1 i q hi]
      by_cases q1 : parN i = k
      · rw [q1, ek]
        exact h.2 hk i i0 i1 q1
      · by_cases q2 : parN i = parN k
        · rw [q2, ep]
          have := h.1 i i0 i1 q
          rw [q2] at this
          omega
        · rw [e1 _ q1 q2]
          exact h.1 i i0 i1 q
  · have hpp : parN (parN k) < parN k := by unfold parN at *; omega
    rw [e1 (parN (parN k)) (by omega) (by omega)]
    have hb := h.1 (parN k) hp (by omega) (by omega)
    by_cases q : c = k
    · rw [q, ek]; exact hb
    · rw [e1 c q (by unfold parN at *; omega)]
      have := h.1 c c0 c1 q
      rw [hc] at this
      omega
theorem HU.done {K : Int → Int} {e : Nat → Int} {n k : Nat} (h : HU K e n k) (hx : 0 < k → K (e (parN k)) ≤ K (e k)) : HpQ K e n := fun i i0 i1 => by
  by_cases q : i = k
  · rw [q]; exact hx (by omega)
  · exact h.1 i i0 i1 q
/-- in order but for place k, from above -/
def HD (K : Int → Int) (e : Nat → Int) (n k : Nat) : Prop := (∀ i, 0 < i → i < n → parN i ≠ k → K (e (parN i)) ≤ K (e i)) ∧ (0 < k → ∀ c, 0 < c → c < n → parN c = k → K (e (parN k)) ≤ K (e c))
theorem HD.step {K : Int → Int} {e : Nat → Int} {n k c : Nat} (h : HD K e n k) (hkn : k < n) (hc : 0 < c ∧ c < n ∧ parN c = k) (hx : K (e c) ≤ K (e k)) (hm : ∀ i, 0 < i → i < n → parN i = k → K (e c) ≤ K (e i)) : HD K (swF2 e k c) n c := by
  have hkc : k < c := by obtain ⟨a, b, r⟩ := hc; unfold parN at r; omega
  have e1 : ∀ i, i ≠ k → i ≠ c → swF2 e k c i = e i := fun i a b => by unfold swF2; rw [if_neg a, if_neg b]
  have ek : swF2 e k c k = e c := by unfold swF2; rw [if_pos rfl]
  have ec : swF2 e k c c = e k := by unfold swF2; rw [if_neg (by omega), if_pos rfl]
  refine ⟨fun i i0 i1 hi => ?_, fun _ j j0 j1 hj => ?_⟩
  · by_cases q : parN i = k
    · rw [q, ek]
      by_cases q2 : i = c
      · rw [q2, ec]; exact hx
      · rw [e1 i (by unfold parN at *; omega) q2]
        exact hm i i0 i1 q
    · rw [e1 (parN i) q hi]
      by_cases q2 : i = k
      · rw [q2, ek]
        exact h.2 (by omega) c hc.1 hc.2.1 hc.2.2
      · rw [e1 i q2 (fun r => q (by rw [r]; exact hc.2.2))]
        exact h.1 i i0 i1 q
  · rw [hc.2.2, ek, e1 j (by unfold parN at *; omega) (by unfold parN at *; omega)]
    have := h.1 j j0 j1 (by rw [hj]; omega)
    rw [hj] at this
    exact this
theorem HD.done {K : Int → Int} {e : Nat → Int} {n k : Nat} (h : HD K e n k) (hx : ∀ i, 0 < i → i < n → parN i = k → K (e k) ≤ K (e i)) : HpQ K e n := fun i i0 i1 => by
  by_cases q : parN i = k
  · rw [q]; exact hx i i0 i1 q
  · exact h.1 i i0 i1 q
/-- the root is least -/
theorem HpQ.root {K : Int → Int} {e : Nat → Int} {n : Nat} (h : HpQ K e n) : ∀ i, i < n → K (e 0) ≤ K (e i) := by
  intro i
  induction i using Nat.strongRecOn with
  | _ i ih =>
    intro hi
    by_cases q : i = 0
    · rw [q]; exact Int.le_refl _
    · have a := ih (parN i) (by unfold parN; omega) (by unfold parN; omega)
      have b := h i (by omega) hi
      omega
section CMP
variable {w w0 : Nat → Int} {t u : CT} {a b : Int} {d : Nat}
theorem cc_compare (hS : WS w0) (hG : Gd w0 t) (h : Wd w t) (hI : IR w) (ha : isM w a) (hb : isM w b) : Cf kap 2 rX2_compare [.inr 19, .inr (mnC t a), .inr (mnC t b)] t (some (.inl (cmpF (dsF w0 w) a b))) t := by
  have h0 := hI.1.2
  have hra := isM_le ha h0
  have hrb := isM_le hb h0
  have hA := h.mem h0 ha
  have hB := h.mem h0 hb
  have hka := hA.kd (T := kap)
  have hkb := hB.kd (T := kap)
  have hca := hI.2.2.2 a hra.1 hra.2
  have hcb := hI.2.2.2 b hrb.1 hrb.2
  have ra := dsF_r (w0 := w0) (w := w) (m := a)
  have rb := dsF_r (w0 := w0) (w := w) (m := b)
  have h2 : Cf kap 1 rX2_compare_2 [.inr 19, .inr (mnC t a), .inr (mnC t b)] t (some (.inl (cmpF (dsF w0 w) a b))) t := by
    intro d hd
    refine wc_aload_n dX2_compare_2_0 rfl ?_
    refine wc_getC dX2_compare_2_1 (kF2_1 rfl) rfl rfl ?_
    refine wc_aload_n dX2_compare_2_4 rfl ?_
    refine wc_call dX2_compare_2_5 rfl (cc_distanceOf hS hG h h0 ha hca) (by omega) (hx_V (kV2_13 rfl) rfl rfl rfl rfl) ?_
    rintro _ _ ⟨rfl, rfl⟩
    refine wc_aload_n dX2_compare_2_8 rfl ?_
    refine wc_getC dX2_compare_2_9 (kF2_1 rfl) rfl rfl ?_
    refine wc_aload_n dX2_compare_2_12 rfl ?_
    refine wc_call dX2_compare_2_13 rfl (cc_distanceOf hS hG h h0 hb hcb) (by omega) (hx_V (kV2_13 rfl) rfl rfl rfl rfl) ?_
    rintro _ _ ⟨rfl, rfl⟩
    refine wc_icmp dX2_compare_2_16 (cB_eq (show rng _ by omega) (show rng _ by omega)) 39 rfl (fun c16 => ?_) (fun c16 => ?_)
    ·
      refine wc_aload_n dX2_compare_2_39 rfl ?_
      refine wc_getI dX2_compare_2_40 (kF2_19 rfl) hka rfl ?_
      rw [hA.2.1]
      refine wc_aload_n dX2_compare_2_43 rfl ?_
      refine wc_getI dX2_compare_2_44 (kF2_19 rfl) hkb rfl ?_
      rw [hB.2.1]
      refine wc_isub dX2_compare_2_47 ?_
      refine wc_ireturn dX2_compare_2_48 rfl ?_
      exact ⟨by unfold cmpF; rw [if_neg (fun q => q c16)], rfl⟩
    ·
      refine wc_aload_n dX2_compare_2_19 rfl ?_
      refine wc_getC dX2_compare_2_20 (kF2_1 rfl) rfl rfl ?_
      refine wc_aload_n dX2_compare_2_23 rfl ?_
      refine wc_call dX2_compare_2_24 rfl (cc_distanceOf hS hG h h0 hb hcb) (by omega) (hx_V (kV2_13 rfl) rfl rfl rfl rfl) ?_
      rintro _ _ ⟨rfl, rfl⟩
      refine wc_aload_n dX2_compare_2_27 rfl ?_
      refine wc_getC dX2_compare_2_28 (kF2_1 rfl) rfl rfl ?_
      refine wc_aload_n dX2_compare_2_31 rfl ?_
      refine wc_call dX2_compare_2_32 rfl (cc_distanceOf hS hG h h0 ha hca) (by omega) (hx_V (kV2_13 rfl) rfl rfl rfl rfl) ?_
      rintro _ _ ⟨rfl, rfl⟩
      refine wc_isub dX2_compare_2_35 ?_
      refine wc_goto dX2_compare_2_36 48 rfl ?_
      refine wc_ireturn dX2_compare_2_48 rfl ?_
      exact ⟨by unfold cmpF; rw [if_pos c16], rfl⟩
  intro d hd
  refine wc_aload_n dX2_compare_0 rfl ?_
  refine wc_aload_n dX2_compare_1 rfl ?_
  refine wc_cast dX2_compare_2 (kX2_20 rfl) (Or.inr ⟨_, hka⟩) ?_
  refine wc_aload_n dX2_compare_5 rfl ?_
  refine wc_cast dX2_compare_6 (kX2_20 rfl) (Or.inr ⟨_, hkb⟩) ?_
  refine wc_call dX2_compare_9 rfl (h2) (by omega) (hx_V (kV2_25 rfl) rfl rfl rfl rfl) ?_
  rintro _ _ ⟨rfl, rfl⟩
  refine wc_ireturn dX2_compare_12 rfl ?_
  exact ⟨rfl, rfl⟩
end CMP
