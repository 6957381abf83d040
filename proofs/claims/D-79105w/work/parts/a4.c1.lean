/-! THE CLASS'S METHODS, 1: the names of the planner's cells, the smallest methods -/
set_option maxRecDepth 100000
abbrev memK : CK := ckO 4 [none, none, none, none, none, none, none]
abbrev alK : CK := ckO 10 [none, some none, none]
abbrev plK : CK := ckO 0 [some (some 11), some (some 100), some (some 12), some (some 13), some (some 14), some (some 15), none, none, some (some 16), some (some 17), some (some 18), some (some 19), some (some 20), some (some 21), none, some (some 22), none, none, some (some 23), some (some 24), some none]
abbrev woK : CK := ckO 1 [some (some 101), some (some 102), some (some 103), some (some 104), some (some 105), none, none, none]
def kapL : List (Nat × CK) := [(1, ckIc 3 4 (fun i => eaF i)), (2, ckIc 3 4 (fun i => soF i)), (3, ckRc 4 0 (fun _ => 0)), (10, plK), (100, woK), (101, ckI 1 120), (102, ckI 0 120), (103, ckR 1 10), (104, ckR 2 3), (105, ckI 0 8),
  (11, ckI 0 120), (12, ckRc 3 10 (fun i => if i < 10 then 30 + i else 0)), (13, ckI 0 10), (14, ckRc 3 10 (fun i => if i < 10 then 40 + i else 0)), (15, ckI 0 10), (16, ckI 0 120), (17, ckI 1 10), (18, alK), (19, ckO 2 [some (some 10)]), (20, alK), (21, ckI 2 60), (22, ckI 0 10), (23, ckI 0 1024), (24, ckI 0 1024)]
/-- kinds of the names below 110: 1 EAST, 2 SOUTH, 3 the empty Object[], 10 the planner, 11 queue, 12 sums (rows 30..39), 13 places, 14 fromPlace (rows 40..49), 15 slotOf, 16 fromTarget, 17 hasActed, 18 turns, 19 byDistance, 20 kept, 21 tape, 22 cellsWere, 23 bySlots, 24 bySlotsThen, 100 now, 101 isObstacle, 102 memberAt, 103 members, 104 shapes, 105 accounts -/
def kap (v : Nat) : Option CK := if 30 ≤ v ∧ v < 40 then some (ckI 0 1024) else if 40 ≤ v ∧ v < 50 then some (ckI 0 120) else tLk kapL v
theorem kap_sums {τ : CT} {i : Nat} (h : i < 10) : kd kap τ (30 + i) = some (ckI 0 1024) := by
  unfold kd kap
  rw [if_pos (by omega), if_pos (by omega)]
theorem kap_from {τ : CT} {i : Nat} (h : i < 10) : kd kap τ (40 + i) = some (ckI 0 120) := by
  unfold kd kap
  rw [if_pos (by omega), if_neg (by omega), if_pos (by omega)]
theorem kd_dyn {T : Nat → Option CK} {τ : CT} {y : Nat} {k : CK} (h : 110 ≤ y) (hk : τ.2.1 y = some k) : kd T τ y = some k := by
  unfold kd
  rw [if_neg (by omega)]
  exact hk
theorem Wc.mn {T : Nat → Option CK} {d : Nat} {M : MRec} {pc : Nat} {ls : AL} {st : List AV} {τ : CT} {Q Q' : Option AV → CT → Prop} (h : Wc T d M pc ls st τ (nQ Q')) (w : ∀ v t, Q' v t → Q v t) : Wc T d M pc ls st τ (nQ Q) := h.mono (fun v t q => by
  rcases v with v | v
  · exact w v t q
  · exact q)
section C1
variable {T : Nat → Option CK} {τ : CT} {c v x y z m : Int}
theorem cc_in (h1 : rng x) (h2 : rng y) (h3 : rng z) : Cb T 0 rX0_in [.inl x, .inl y, .inl z] τ (y ≤ x ∧ x ≤ z) := by
  intro d hd
  refine wc_iload_n dX0_in_0 rfl ?_
  refine wc_iload_n dX0_in_1 rfl ?_
  refine wc_icmp dX0_in_2 (cB_lt ⟨by omega, by omega⟩ ⟨by omega, by omega⟩) 14 rfl (fun c2 => ?_) (fun c2 => ?_)
  ·
    refine wc_iconst dX0_in_14 ?_
    refine wc_breturn dX0_in_15 rfl (by omega) ?_
    first | exact ⟨rfl, Or.inl ⟨by omega, rfl⟩⟩ | exact ⟨rfl, Or.inr ⟨by omega, rfl⟩⟩
  ·
    refine wc_iload_n dX0_in_5 rfl ?_
    refine wc_iload_n dX0_in_6 rfl ?_
    refine wc_icmp dX0_in_7 (cB_gt ⟨by omega, by omega⟩ ⟨by omega, by omega⟩) 14 rfl (fun c7 => ?_) (fun c7 => ?_)
    ·
      refine wc_iconst dX0_in_14 ?_
      refine wc_breturn dX0_in_15 rfl (by omega) ?_
      first | exact ⟨rfl, Or.inl ⟨by omega, rfl⟩⟩ | exact ⟨rfl, Or.inr ⟨by omega, rfl⟩⟩
    ·
      refine wc_iconst dX0_in_10 ?_
      refine wc_goto dX0_in_11 15 rfl ?_
      refine wc_breturn dX0_in_15 rfl (by omega) ?_
      first | exact ⟨rfl, Or.inl ⟨by omega, rfl⟩⟩ | exact ⟨rfl, Or.inr ⟨by omega, rfl⟩⟩
theorem cc_bit (h : x = 0 ∨ x = 1) : Cf T 0 rX0_bit [.inl x] τ (some (.inl x)) τ := by
  intro d hd
  refine wc_iload_n dX0_bit_0 rfl ?_
  refine wc_if dX0_bit_1 (cB_eq (by rcases h with h | h <;> omega) ⟨by omega, by omega⟩) 8 rfl (fun c1 => ?_) (fun c1 => ?_)
  ·
    refine wc_iconst dX0_bit_8 ?_
    refine wc_ireturn dX0_bit_9 rfl ?_
    exact ⟨by rw [c1], rfl⟩
  ·
    refine wc_iconst dX0_bit_4 ?_
    refine wc_goto dX0_bit_5 9 rfl ?_
    refine wc_ireturn dX0_bit_9 rfl ?_
    exact ⟨by rw [show x = 1 by omega], rfl⟩
theorem cc_isCell (h : rng x) : Cb T 1 rX0_isCell [.inl x] τ (0 ≤ x ∧ x ≤ 119) := by
  intro d hd
  refine wc_iload_n dX0_isCell_0 rfl ?_
  refine wc_iconst dX0_isCell_1 ?_
  refine wc_bipush dX0_isCell_2 (by decide) ?_
  refine wc_call dX0_isCell_4 rfl (cc_in h (by omega) (by omega)) (by omega) (hx_S (kS0_3 rfl) (kSn0_3 rfl) rfl rfl) ?_
  rintro _ _ ⟨rfl, ⟨h4, rfl⟩ | ⟨h4, rfl⟩⟩
  ·
    refine wc_breturn dX0_isCell_7 rfl (by omega) ?_
    first | exact ⟨rfl, Or.inl ⟨by omega, rfl⟩⟩ | exact ⟨rfl, Or.inr ⟨by omega, rfl⟩⟩
  ·
    refine wc_breturn dX0_isCell_7 rfl (by omega) ?_
    first | exact ⟨rfl, Or.inl ⟨by omega, rfl⟩⟩ | exact ⟨rfl, Or.inr ⟨by omega, rfl⟩⟩
theorem cc_row {a : Nat} : Cf T 0 rX0_row [.inr a] τ (some (.inr a)) τ := by
  intro d hd
  refine wc_aload_n dX0_row_0 rfl ?_
  refine wc_areturn dX0_row_1 rfl ?_
  exact ⟨rfl, rfl⟩
theorem cc_shifted (hc : 0 ≤ c ∧ c < 120) (hx : -100000 ≤ x ∧ x ≤ 100000) (hy : -100000 ≤ y ∧ y ≤ 100000) : Cf T 1 rX0_shifted [.inl c, .inl x, .inl y] τ (some (.inl (xyF (c % 12 + x) (c / 12 + y)))) τ := by
  intro d hd
  refine wc_iload_n dX0_shifted_0 rfl ?_
  refine wc_bipush dX0_shifted_1 (by decide) ?_
  refine wc_irem dX0_shifted_3 ⟨by omega, by omega⟩ ⟨by omega, by omega⟩ ?_
  refine wc_iload_n dX0_shifted_4 rfl ?_
  refine wc_iadd dX0_shifted_5 ?_
  refine wc_istore_n dX0_shifted_6 rfl ?_
  refine wc_iload_n dX0_shifted_7 rfl ?_
  refine wc_bipush dX0_shifted_8 (by decide) ?_
  refine wc_idiv dX0_shifted_10 ⟨by omega, by omega⟩ ⟨by omega, by omega⟩ ?_
  refine wc_iload_n dX0_shifted_11 rfl ?_
  refine wc_iadd dX0_shifted_12 ?_
  refine wc_istore dX0_shifted_13 rfl ?_
  refine wc_iload_n dX0_shifted_15 rfl ?_
  refine wc_iconst dX0_shifted_16 ?_
  refine wc_bipush dX0_shifted_17 (by decide) ?_
  refine wc_call dX0_shifted_19 rfl (cc_in (by omega) (by omega) (by omega)) (by omega) (hx_S (kS0_3 rfl) (kSn0_3 rfl) rfl rfl) ?_
  rintro _ _ ⟨rfl, ⟨h19, rfl⟩ | ⟨h19, rfl⟩⟩
  ·
    refine wc_ifF dX0_shifted_22 (by decide) 46 rfl ?_
    refine wc_iload dX0_shifted_25 rfl ?_
    refine wc_iconst dX0_shifted_27 ?_
    refine wc_bipush dX0_shifted_28 (by decide) ?_
    refine wc_call dX0_shifted_30 rfl (cc_in (by omega) (by omega) (by omega)) (by omega) (hx_S (kS0_3 rfl) (kSn0_3 rfl) rfl rfl) ?_
    rintro _ _ ⟨rfl, ⟨h30, rfl⟩ | ⟨h30, rfl⟩⟩
    ·
      refine wc_ifF dX0_shifted_33 (by decide) 46 rfl ?_
      refine wc_bipush dX0_shifted_36 (by decide) ?_
      refine wc_iload dX0_shifted_38 rfl ?_
      refine wc_imul dX0_shifted_40 ?_
      refine wc_iload_n dX0_shifted_41 rfl ?_
      refine wc_iadd dX0_shifted_42 ?_
      refine wc_goto dX0_shifted_43 47 rfl ?_
      refine wc_ireturn dX0_shifted_47 rfl ?_
      exact ⟨by rw [xyF, if_pos ⟨h19, h30⟩], rfl⟩
    ·
      refine wc_ifT dX0_shifted_33 (by decide) 46 rfl ?_
      refine wc_iconst dX0_shifted_46 ?_
      refine wc_ireturn dX0_shifted_47 rfl ?_
      exact ⟨by rw [xyF, if_neg (fun h => h30 h.2)], rfl⟩
  ·
    refine wc_ifT dX0_shifted_22 (by decide) 46 rfl ?_
    refine wc_iconst dX0_shifted_46 ?_
    refine wc_ireturn dX0_shifted_47 rfl ?_
    exact ⟨by rw [xyF, if_neg (fun h => h19 h.1)], rfl⟩
theorem cc_neighbor (hc : 0 ≤ c ∧ c < 120) (hv : 0 ≤ v ∧ v < 4) : Cf kap 2 rX0_neighbor [.inl c, .inl v] τ (some (.inl (besF c v))) τ := by
  intro d hd
  have e1 : eaF (v.toNat : Int) = eaF v := by rw [Int.toNat_of_nonneg hv.1]
  have e2 : soF (v.toNat : Int) = soF v := by rw [Int.toNat_of_nonneg hv.1]
  have r1 : -1 ≤ eaF v ∧ eaF v ≤ 1 := by unfold eaF; split <;> (try split) <;> omega
  have r2 : -1 ≤ soF v ∧ soF v ≤ 1 := by unfold soF; split <;> (try split) <;> omega
  refine wc_iload_n dX0_neighbor_0 rfl ?_
  refine wc_getstatic dX0_neighbor_1 (kT0_7 rfl) rfl ?_
  refine wc_iload_n dX0_neighbor_4 rfl ?_
  refine wc_ialoadC dX0_neighbor_5 rfl rfl rfl ⟨by omega, by omega⟩ _ rfl ?_
  rw [e1]
  refine wc_getstatic dX0_neighbor_6 (kT0_11 rfl) rfl ?_
  refine wc_iload_n dX0_neighbor_9 rfl ?_
  refine wc_ialoadC dX0_neighbor_10 rfl rfl rfl ⟨by omega, by omega⟩ _ rfl ?_
  rw [e2]
  refine wc_call dX0_neighbor_11 rfl (cc_shifted hc (by omega) (by omega)) (by omega) (hx_S (kS0_14 rfl) (kSn0_14 rfl) rfl rfl) ?_
  rintro _ _ ⟨rfl, rfl⟩
  refine wc_ireturn dX0_neighbor_14 rfl ?_
  exact ⟨rfl, rfl⟩
end C1
