/-! NORMAL FORM: worlds stay -/
set_option maxRecDepth 100000
section NRM3
variable {w w1 : Nat → Int} {C : Int} {R : Nat → Nat → Int} {s x xa nT n N v y e1 z M : Nat} {f e : Nat → Nat} {u : CT} {E : CE} {h : MH} {m a : Int} {ρ ι : Nat → Nat} {k : CK}
/-- a name that stays -/
theorem nr_k (hv : 122 ≤ v) (hk : u.2.1 v = some k) (hc : ckN k = true) (hρ : ρ v = v) : (nrC u ρ ι).2.1 v = some k ∧ sg (nrC u ρ ι) v = pmS ι k (sg u v) := by
  have h1 : nrD u ρ v = some k := by
    unfold nrD
    rw [if_neg (by omega), hk]
    dsimp only
    rw [if_pos ⟨hρ, hc⟩]
  have h2 : nrK u ρ v = some k := by
    unfold nrK
    rw [if_neg (by omega)]
    exact h1
  exact ⟨h1, by rw [sg_nr h2, hρ]⟩
theorem pmS_ints {t n : Nat} {g : Option (Nat → Int)} (F : Nat → Int) : pmS ι (.inl (t, n, g)) F = F := funext fun i => pmS_i rfl
theorem pmV_id {ι : Nat → Nat} {z : Int} (h : ι z.toNat = z.toNat) : pmV ι z = z := if_pos h
theorem mem_sl (i : Nat) : rsl memK i = false := by
  rcases i with _ | _ | _ | _ | _ | _ | _ | i <;> rfl
theorem pmS_mem (F : Nat → Int) : pmS ι memK F = F := funext fun i => pmS_i (mem_sl i)
/-- what must stay of a shape at z -/
def ShF (ρ : Nat → Nat) (z : Nat) : Prop := ρ z = z ∧ ρ (z + 1) = z + 1 ∧ ρ (z + 2) = z + 2
theorem ShN.nr (h : ShN M u w1 a z) (hM : M ≤ nvC u) (hf : ShF ρ z) (hι : ∀ v, ρ v = v → ι v = v) : ShN (nvC u) (nrC u ρ ι) w1 a z := by
  obtain ⟨⟨h1, h2, h3⟩, ⟨h4, h5, h6⟩, ⟨h7, h8, h9⟩, ⟨g7, g8, g9⟩, hc⟩ := h
  rw [h5, Int.toNat_natCast] at h7 h8 h9 hc
  rw [h6, Int.toNat_natCast] at g7 g8 g9 hc
  obtain ⟨k1, s1⟩ := nr_k (ι := ι) (by omega) h3 rfl hf.1
  obtain ⟨k2, s2⟩ := nr_k (ι := ι) (by omega) h9 rfl hf.2.1
  obtain ⟨k3, s3⟩ := nr_k (ι := ι) (by omega) g9 rfl hf.2.2
  have e0 : sg (nrC u ρ ι) z 0 = ((z + 1 : Nat) : Int) := by rw [s1, pmS_r rfl, h5, pmV_id (by rw [Int.toNat_natCast]; exact hι _ hf.2.1)]
  have e1 : sg (nrC u ρ ι) z 1 = ((z + 2 : Nat) : Int) := by rw [s1, pmS_r rfl, h6, pmV_id (by rw [Int.toNat_natCast]; exact hι _ hf.2.2)]
  unfold ShN
  rw [e0, e1, Int.toNat_natCast, Int.toNat_natCast, s2, s3, pmS_ints, pmS_ints]
  exact ⟨⟨h1, by omega, k1⟩, ⟨by rw [s1, pmS_i rfl]; exact h4, rfl, rfl⟩, ⟨h7, by omega, k2⟩, ⟨g7, by omega, k3⟩, hc⟩
theorem WKn.nr (h : WKn M w1 u y e1) (hy : 1000 ≤ y ∧ y + 6 ≤ e1 ∧ e1 ≤ nvC u) (hn : M ≤ nvC u) (hf : ∀ j, j < 6 → ρ (y + j) = y + j) (hm : ∀ m : Int, 0 ≤ m → m < 10 → isM w1 m → ρ (sg u (y + 3) m.toNat).toNat = (sg u (y + 3) m.toNat).toNat) (hs : ∀ z, (∃ k, u.2.1 z = some k ∧ k = shK) → (∃ a : Int, (0 ≤ a ∧ a < 3) ∧ 0 < sltF w1 a ∧ ShN M u w1 a z) → ShF ρ z) (hι : ∀ v, ρ v = v → ι v = v) (h0 : ρ 0 = 0) : WK w1 (nrC u ρ ι) y e1 := by
  obtain ⟨k, r5, ⟨k1, k2, k3, k4, k5⟩, ⟨c1, c2, c3, c4, c5, c6⟩, hSh, hlt⟩ := h
  obtain ⟨d0, s0⟩ := nr_k (ι := ι) (v := y) (by omega) k rfl (hf 0 (by decide))
  obtain ⟨d1, s1⟩ := nr_k (ι := ι) (v := y + 1) (by omega) k1 rfl (hf 1 (by decide))
  obtain ⟨d2, s2⟩ := nr_k (ι := ι) (v := y + 2) (by omega) k2 rfl (hf 2 (by decide))
  obtain ⟨d3, s3⟩ := nr_k (ι := ι) (v := y + 3) (by omega) k3 rfl (hf 3 (by decide))
  obtain ⟨d4, s4⟩ := nr_k (ι := ι) (v := y + 4) (by omega) k4 rfl (hf 4 (by decide))
  obtain ⟨d5, s5⟩ := nr_k (ι := ι) (v := y + 5) (by omega) k5 rfl (hf 5 (by decide))
  rw [pmS_ints] at s1 s2 s5
  have hι0 : ι 0 = 0 := hι 0 h0
  have em : ∀ m : Int, 0 ≤ m → m < 10 → sg (nrC u ρ ι) (y + 3) m.toNat = sg u (y + 3) m.toNat := fun m m0 m1 => by
    rw [s3, pmS_r rfl]
    by_cases q : isM w1 m
    · exact pmV_id (hι _ (hm m m0 m1 q))
    · rw [(c2 m m0 m1).2 q]; exact pmV_id hι0
  refine ⟨d0, fun j hj => ?_, ⟨d1, d2, d3, d4, d5⟩, ⟨?_, fun m m0 m1 => ?_, ?_, ?_, ?_, ?_⟩, fun a a0 a1 => ?_, fun m m0 m1 q => ?_⟩
  · rw [s0, pmS_r (by rcases j with _ | _ | _ | _ | _ | j <;> first | rfl | omega), r5 j hj]
    refine pmV_id ?_
    rw [Int.toNat_natCast]
    exact hι _ (by rw [show y + 1 + j = y + (1 + j) by omega]; exact hf _ (by omega))
  · rw [s1, s2]; exact c1
  · rw [em m m0 m1]
    refine ⟨fun q => ?_, (c2 m m0 m1).2⟩
    obtain ⟨⟨p1, p2, p3⟩, p4⟩ := (c2 m m0 m1).1 q
    have hlm := hlt m m0 m1 q
    obtain ⟨dm, sm⟩ := nr_k (ι := ι) (by omega) p3 rfl (hm m m0 m1 q)
    rw [pmS_mem] at sm
    refine ⟨⟨p1, p2, dm⟩, ?_⟩
    rw [sm]
    exact p4
  · rw [s5]; exact c3
  · rw [s0, pmS_i rfl]; exact c4
  · rw [s0, pmS_i rfl]; exact c5
  · rw [s0, pmS_i rfl]; exact c6
  · have hA := hSh a a0 a1
    rw [s4, pmS_r rfl]
    by_cases q : 0 < sltF w1 a
    · have hC := hA.1 q
      have hF := hs _ ⟨shK, hC.1.2.2, rfl⟩ ⟨a, ⟨a0, a1⟩, q, hC⟩
      rw [pmV_id (hι _ hF.1)]
      exact ⟨fun _ => ShN.nr (M := M) hC hn hF hι, hA.2⟩
    · rw [hA.2 q]
      rw [pmV_id hι0]
      exact ⟨fun q' => absurd q' q, fun _ => rfl⟩
  · rw [em m m0 m1]; exact hlt m m0 m1 q
end NRM3
