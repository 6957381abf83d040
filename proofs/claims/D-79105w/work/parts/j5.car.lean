/-! THE CLASS'S METHODS, 68: carriesOut, preparations -/
set_option maxRecDepth 100000
/-- a list of commands at frozen names -/
def FzL (a xa : Nat) (L : OLs) (t : CT) : Prop := (1000 ≤ a ∧ a < n0C t ∧ t.2.1 a = some alK ∧ sg t a 1 = (xa : Int) ∧ sg t a 2 = (L.length : Int)) ∧ (L.length = 0 ∨ (1000 ≤ xa ∧ xa < n0C t ∧ ∃ n, t.2.1 xa = some (ckR 0 n) ∧ L.length ≤ n ∧ n ≤ 500)) ∧ ∀ i, i < L.length → (1000 ≤ (sg t xa i).toNat ∧ (sg t xa i).toNat < n0C t) ∧ CmC t (sg t xa i).toNat (L.getD i (0, 0, 0))
section CAR
variable {T : Nat → Option CK} {w w' : Nat → Int} {R R' : Nat → Nat → Int} {τ t u : CT} {m c v C f' A P p Y : Int} {i j k a b s x y z n N d xa ex : Nat} {f e : Nat → Nat} {L : OLs}
theorem FzL.fz (h : FzL a xa L t) (g : Fz t u) : FzL a xa L u := by
  obtain ⟨⟨h1, h2, h3, h4, h5⟩, h6, h7⟩ := h
  have ga := g.2 a h1 h2
  refine ⟨⟨h1, by rw [g.1]; exact h2, ga.1.trans h3, by rw [ga.2]; exact h4, by rw [ga.2]; exact h5⟩, ?_, fun i hi => ?_⟩
  · rcases h6 with q | ⟨q1, q2, n, q3, q4⟩
    · exact Or.inl q
    · exact Or.inr ⟨q1, by rw [g.1]; exact q2, n, (g.2 xa q1 q2).1.trans q3, q4⟩
  · rcases h6 with q | ⟨q1, q2, -⟩
    · omega
    · rw [(g.2 xa q1 q2).2, g.1]
      have h8 := h7 i hi
      refine ⟨h8.1, ?_⟩
      have gc := g.2 _ h8.1.1 h8.1.2
      unfold CmC
      rw [gc.1, gc.2]
      exact h8.2
theorem cc_sizeF (h : FzL a xa L t) : Cf T 0 rJ2_size [.inr a] t (some (.inl (L.length : Int))) t := by
  intro d hd
  have ka : kd T t a = some alK := kd_dyn (by have := h.1.1; omega) h.1.2.2.1
  refine wc_aload_n dJ2_size_0 rfl ?_
  refine wc_getI dJ2_size_1 (kF22_48 rfl) ka rfl ?_
  rw [h.1.2.2.2.2]
  refine wc_ireturn dJ2_size_4 rfl ?_
  exact ⟨rfl, rfl⟩
theorem cc_getF (h : FzL a xa L t) (hv : 0 ≤ v ∧ v < L.length) (hL : L.length ≤ 100) : Cf T 2 rJ2_get [.inr a, .inl v] t (some (.inr (sg t xa v.toNat).toNat)) t := by
  intro d hd
  have ka : kd T t a = some alK := kd_dyn (by have := h.1.1; omega) h.1.2.2.1
  have hb := h.1.2.2.2
  rcases h.2.1 with q | ⟨q1, q2, n, kx, q4, q5⟩
  · omega
  · have kx : kd T t xa = some (ckR 0 n) := kd_dyn (by omega) kx
    have h5 : Cf T 0 rJ2_elementData [.inr a, .inl v] t (some (.inr (sg t xa v.toNat).toNat)) t := by
      intro d hd
      refine wc_aload_n dJ2_elementData_0 rfl ?_
      refine wc_getR (y := xa) dJ2_elementData_1 (kF22_9 rfl) ka rfl (by rw [hb.1]; exact Int.toNat_natCast xa) ?_
      refine wc_iload_n dJ2_elementData_4 rfl ?_
      refine wc_aaload dJ2_elementData_5 kx rfl (decide_eq_true (by omega)) ⟨by omega, by omega⟩ rfl ?_
      refine wc_areturn dJ2_elementData_6 rfl ?_
      exact ⟨rfl, rfl⟩
    refine wc_iload_n dJ2_get_0 rfl ?_
    refine wc_aload_n dJ2_get_1 rfl ?_
    refine wc_getI dJ2_get_2 (kF22_48 rfl) ka rfl ?_
    rw [hb.2]
    refine wc_call dJ2_get_5 rfl (cc_checkIndex hv (by omega)) (by omega) (hx_S (kS22_118 rfl) (kSn22_118 rfl) rfl rfl) ?_
    rintro _ _ ⟨rfl, rfl⟩
    refine wc_pop dJ2_get_8 ?_
    refine wc_aload_n dJ2_get_9 rfl ?_
    refine wc_iload_n dJ2_get_10 rfl ?_
    refine wc_call dJ2_get_11 rfl (h5) (by omega) (hx_V (kV22_123 rfl) rfl ka rfl rfl) ?_
    rintro _ _ ⟨rfl, rfl⟩
    refine wc_areturn dJ2_get_14 rfl ?_
    exact ⟨rfl, rfl⟩
/-- a world at frozen names stays -/
theorem WK.fz (h : WK w τ x ex) (hx : 1000 ≤ x ∧ x + 6 ≤ ex ∧ ex ≤ n0C τ) (g : Fz τ t) (hn : n0C t ≤ nvC t) : WK w t x ex :=
  h.fr hx.2.1 (by have := g.1; omega) (fun y y1 y2 => g.2 y (by omega) (by omega)) g.1 g.2
/-- one more kept world, put into the list, the oldest taken away: what is left -/
theorem keep_end {u1 : CT} (hX : KpX R s N xa n f e t) (hW : WK w t x ex) (hx : N ≤ x ∧ x + 6 ≤ ex ∧ ex ≤ nvC t ∧ 1000 ≤ x) (hno : ∀ v, x ≤ v → v < ex → NoI t v) (hI : SI w' C t) (hs : s ≤ 8) (hnv : 1000 ≤ n0C t ∧ n0C t ≤ nvC t) (hwr : ∀ v, x ≤ v → v < ex → ¬ wrC t v) (g : AddP kap 20 xa n s 1 ((x : Nat) : Int) t u1) : ∃ x' f' e', KpX (addR R s w) (s + 1) (nvC u1) x' 10 f' e' u1 ∧ SI w' C u1 ∧ FrV t u1 ∧ sg u1 10 = sg t 10 := by
  have htl := hI.tlt hnv
  have hml : ∀ m : Int, 0 ≤ m → m < 10 → mnC t m < nvC t := fun m m0 m1 => by rcases hI.mlt m m0 m1 with q | q <;> omega
  have hnt : ∀ v, x ≤ v → v < ex → v ≠ tnC t ∧ ∀ m : Int, 0 ≤ m → m < 10 → v ≠ mnC t m := fun v v1 v2 => by
    have hw := hwr v v1 v2
    refine ⟨fun q => hw ?_, fun m m0 m1 q => hw ?_⟩
    · obtain ⟨n', s', ⟨-, -, h4⟩, -, -⟩ := hI.1.2.1
      rcases h4 with ⟨q1, -⟩ | ⟨-, -, q3, -⟩
      · omega
      · rw [q]; exact q3
    · by_cases hm : isM w' m
      · rw [q]; exact hI.1.1.2 m hm m0 m1
      · have hz : mnC t m = 0 := by unfold mnC; rw [hI.1.1.non hm ⟨m0, m1⟩]; rfl
        omega
  have hxw := hX.xw hnv
  have hX0 := hX
  obtain ⟨x', f', e', hX2⟩ := hX.add hW hx hno hnt hs htl hml hnv g
  obtain ⟨xb, nb, gA, -, -, g3, ⟨z0, ⟨z1, z1'⟩, z2, z3⟩, -⟩ := g
  have hx10 : 10 ≠ xa := by
    rcases hX0.2.1 with q | q
    · have := (hxw.2.2.2.2.2.1 q).2; omega
    · have := q.2.1; omega
  have hx21 : 21 ≠ xa := by
    rcases hX0.2.1 with q | q
    · have := (hxw.2.2.2.2.2.1 q).2; omega
    · have := q.2.1; omega
  refine ⟨x', f', e', hX2, ⟨hI.1.fr3 z0 z1 (fun v v1 v2 => z3 v (by omega) (by omega) (fun r => hxw.2.2.2.1 ⟨by omega, by omega⟩)) (z3 18 (by omega) (by decide) (Ne.symm hxw.2.1)) (fun y y1 y2 => z2 y y2) (fun m m0 m1 q => z3 _ ((hI.1.1.1.2.1 m m0 m1).1 q).1.2.1 (by have : 110 ≤ mnC t m := ((hI.1.1.1.2.1 m m0 m1).1 q).1.1; omega) (fun r => by have q5 : 110 ≤ mnC t m := ((hI.1.1.1.2.1 m m0 m1).1 q).1.1; rcases hX0.2.1 with q1 | q1; have := (hxw.2.2.2.2.2.1 q1).2; omega; exact q1.2.2.2.2 m m0 m1 r.symm)) (fun y y1 y2 => ⟨z2 y (by omega), z3 y (by omega) (by omega) (hxw.2.2.2.2.1 y y1 y2)⟩), hI.2⟩, ⟨⟨z0, z1⟩, fun j _ _ => by rw [z3 10 (by omega) (by decide) hx10], z3 21 (by omega) (by decide) hx21⟩, z3 10 (by omega) (by decide) hx10⟩
/-- the oldest taken away: what is left -/
theorem keep_rm {u1 : CT} (hX : KpX R 9 N xa 10 f e t) (hI : SI w' C t) (hnv : 1000 ≤ n0C t ∧ n0C t ≤ nvC t) (g : RmP kap 20 xa 10 9 1 t u1) : KpX (fun r => R (r + 1)) 8 N xa 10 (fun r => f (r + 1)) (fun r => e (r + 1)) u1 ∧ SI w' C u1 ∧ FrV t u1 ∧ sg u1 10 = sg t 10 := by
  have hw2 := hX.xw hnv
  have hx2 := hw2.2.2.2.2.2.2 rfl
  have hX3 := hX.rm hnv g
  obtain ⟨-, -, ⟨y0, y1, y1'⟩, y2, y3⟩ := g
  exact ⟨hX3, ⟨hI.1.fr3 y0 (by omega) (fun v v1 v2 => y3 v (by omega) (by omega)) (y3 18 (by decide) (by omega)) (fun y _ _ => y2 y) (fun m m0 m1 q => y3 _ (by have : 110 ≤ mnC t m := ((hI.1.1.1.2.1 m m0 m1).1 q).1.1; omega) (fun r => hx2.2.2.2 m m0 m1 r.symm)) (fun y q1 q2 => ⟨y2 y, y3 y (by omega) (hw2.2.2.2.2.1 y q1 q2)⟩), hI.2⟩, ⟨⟨y0, by omega⟩, fun j _ _ => by rw [y3 10 (by decide) (by omega)], y3 21 (by decide) (by omega)⟩, y3 10 (by decide) (by omega)⟩
end CAR
