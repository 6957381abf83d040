/-! SOUNDNESS OF A STEP: arrays -/
set_option maxRecDepth 100000
theorem mP1 {D : va_G} {cA : Nat → ClassId} {ro : Nat → MC → Prop} {h : MH} {H : Heap} {a : Nat} {c : MC} (hR : mHR D cA ro h H) (hg : hG h a = some c) (hn : roTag c = false := by rfl) : va_P D clM [(a, mCell cA c)] H := by
  intro k q hq
  match k, hq with
  | 0, hq =>
    cases hq
    rcases hR.2 a c hg with ⟨k0, k1, k2⟩ | ⟨k0, k1, k2⟩
    · exact k1
    · rw [hn] at k0; cases k0
  | k + 1, hq => simp at hq
theorem mAt1 {D : va_G} {cA : Nat → ClassId} {ro : Nat → MC → Prop} {h : MH} {H : Heap} {a : Nat} {c : MC} (hR : mHR D cA ro h H) (hg : hG h a = some c) (hn : roTag c = false := by rfl) : va_at D clM (a, mCell cA c) H := by
  rcases hR.2 a c hg with ⟨k0, k1, k2⟩ | ⟨k0, k1, k2⟩
  · exact k1
  · rw [hn] at k0; cases k0
theorem mOk1 {D : va_G} {cA : Nat → ClassId} {ro : Nat → MC → Prop} {h : MH} {H : Heap} {a : Nat} {c : MC} (hR : mHR D cA ro h H) (hg : hG h a = some c) (hn : roTag c = false := by rfl) : mOkC c := by
  rcases hR.2 a c hg with ⟨k0, k1, k2⟩ | ⟨k0, k1, k2⟩
  · exact k2
  · rw [hn] at k0; cases k0
theorem mRo1 {D : va_G} {cA : Nat → ClassId} {ro : Nat → MC → Prop} {h : MH} {H : Heap} {a : Nat} {c : MC} (hR : mHR D cA ro h H) (hg : hG h a = some c) (hn : roTag c = true) : ro a c := by
  rcases hR.2 a c hg with ⟨k0, k1, k2⟩ | ⟨k0, k1, k2⟩
  · rw [hn] at k0; cases k0
  · exact k1
theorem cell_upd_i (cI : ClassId) (n k : Nat) (f : Nat → Int32) (x : Int32) : (vp_cell cI (n, .inl f)).setSlot k (.int x) = vp_cell cI (n, .inl (upd f k x)) := by
  rw [vp_cell_i, vp_cell_i, arrV_store]
  congr 1
  funext q
  by_cases hq : q = k
  · subst hq; simp [updV, upd]
  · simp [updV, upd, hq]
theorem cell_upd_q (cI : ClassId) (n k : Nat) (f : Nat → Option Nat) (x : Option Nat) : (vp_cell cI (n, .inr (.inr (.inr (.inr f))))).setSlot k (va_rf x) = vp_cell cI (n, .inr (.inr (.inr (.inr (va_up f k x))))) := by
  rw [vp_cell_q, vp_cell_q, arrV_store]
  congr 1
  funext q
  by_cases hq : q = k
  · subst hq; simp [updV, va_up]
  · simp [updV, va_up, hq]
theorem nar_byte (x : Int32) : narrow .byte (.int x) = .int (vp_nar .byte x) := rfl
theorem nar_bool (x : Int32) : narrow .boolean (.int x) = .int (vp_nar .boolean x) := rfl
def elT : Nat → String
  | 0 => "java/lang/Object"
  | 1 => "SwarmPlanner$Member"
  | _ => "SwarmPlanner$Shape"
theorem tys_q {cA : Nat → ClassId} {t : Nat} (ht : t < 3) : (tysM cA)[3 + t]? = some (cA (3 + t), .object (elT t)) := by
  have : t = 0 ∨ t = 1 ∨ t = 2 := by omega
  rcases this with rfl | rfl | rfl <;> rfl
theorem nw_q {w : Cond} (h : w ∈ lw_tbl) (g : nwOK w = true) : w ∈ nwL := List.mem_filter.mpr ⟨List.mem_append_left _ h, g⟩
section HEAPK
variable {D : va_G} {cA : Nat → ClassId} {ro : Nat → MC → Prop} {sv : Nat → Option Nat} {B sl0 : Nat} {M : MRec} {p : Program} {l : Launch} {e : Env} {R : Room} {s : State} {m : MethodId} {args : Array Value} {below : List Frame} {meth : Method} {c : Code} {Q : State → Prop} {pc pc' : Nat} {ls ls' : ML} {st st' : List MV} {h h' : MH}
theorem fit_lt {t ci : Nat} (hf : mFit t ci = true) : t < 3 := by
  unfold mFit at hf
  simp only [Bool.or_eq_true, Bool.and_eq_true, beq_iff_eq] at hf
  omega
theorem fit_assign {A : Nat → Prop} (K : KS D cA ro sv A s) {t ci : Nat} (hf : mFit t ci = true) : ∃ r, clM[ci]? = some r ∧ ∀ comp cc : ClassId, s.vm.findClass (elT t) = some comp → s.vm.findClass r.1 = some cc → s.vm.assignable cc comp = true := by
  have key : ∀ {Cn E : String}, va_Nw (.castable Cn E) s → ∀ comp cc : ClassId, s.vm.findClass E = some comp → s.vm.findClass Cn = some cc → s.vm.assignable cc comp = true := by
    intro Cn E hw comp cc h1 h2
    obtain ⟨c0, t0, f1, f2, f3⟩ := Cond.castable_spec (va_Nw.use (A := #[]) rfl hw)
    cases h1.symm.trans f2
    cases h2.symm.trans f1
    exact f3
  have same : ∀ {i : Nat} {r : vw_C}, clM[i]? = some r → ∀ comp cc : ClassId, s.vm.findClass r.1 = some comp → s.vm.findClass r.1 = some cc → s.vm.assignable cc comp = true := by
    intro i r hr comp cc h1 h2
    have hc := (K.1.1 i r hr).2
    cases h1.symm.trans h2
    cases h1.symm.trans hc.1
    exact va_assign hc
  unfold mFit at hf
  simp only [Bool.or_eq_true, Bool.and_eq_true, beq_iff_eq] at hf
  have hcase : (t = 0 ∧ ci = 1) ∨ (t = 0 ∧ ci = 4) ∨ (t = 0 ∧ ci = 9) ∨ (t = 1 ∧ ci = 4) ∨ (t = 2 ∧ ci = 7) := by omega
  rcases hcase with ⟨rfl, rfl⟩ | ⟨rfl, rfl⟩ | ⟨rfl, rfl⟩ | ⟨rfl, rfl⟩ | ⟨rfl, rfl⟩
  · exact ⟨_, rfl, key (K.2.1 _ (nw_q q1486 rfl))⟩
  · exact ⟨_, rfl, key (K.2.1 _ (nw_q q1483 rfl))⟩
  · exact ⟨_, rfl, key (K.2.1 _ (nw_q q1494 rfl))⟩
  · exact ⟨_, rfl, same (i := 4) rfl⟩
  · exact ⟨_, rfl, same (i := 7) rfl⟩
theorem k_iaload (C : mCtx D cA ro sv B M p l s m args meth c) (hd : decode (rC M) pc = .ok (.iaload, 1)) (hx : xArrI (fun t => t == 0 || t == 3) pc ls st h = some (.inl (pc', ls', st', h'))) (k : mK D cA ro B sl0 M p l e R s m args below meth c Q pc' ls' st' h') : mK D cA ro B sl0 M p l e R s m args below meth c Q pc ls st h := by
  unfold xArrI at hx
  split at hx
  · split at hx
    · rename_i i a r _ t n f hg
      split at hx
      · rename_i ht
        have ht : t = 0 ∨ t = 3 := by simpa using ht
        split at hx
        · cases hx
        · rename_i hin
          obtain ⟨rfl, rfl, rfl, rfl⟩ := mNx_inj hx
          rcases ht with rfl | rfl
          · exact fun H locs cells slots lr P => va_iald C.1 C.2.1 C.2.2.2.2.2.1.1 (mP1 P.2.1 hg) 0 0 rfl rfl hin hd (k H locs cells slots lr P)
          · intro H locs cells slots lr P
            obtain ⟨hX, hA⟩ := C.2.2.2.2.2.1.2.2.2.2.2.2.2.2.2 _ _ (mRo1 P.2.1 hg rfl)
            have hlt := roAt.lt hX
            obtain ⟨scr, g1, g2, g3, g4, g6, g5, -⟩ := hX
            have hl2 : i.toNatClampNeg < n := Nat.not_le.mp fun q => hin (Or.inr q)
            exact W.iald (v := .int (f i.toNatClampNeg)) C.1 C.2.1 (by rw [P.2.2.1.2.1 a hlt hA]; exact g1) g2 g3 (fun q => hin (q.elim Or.inl (fun q => Or.inr (Nat.le_trans g4 q)))) (g5 _ hl2) rfl rfl hd (k H locs cells slots lr P)
      · cases hx
    · cases hx
  · cases hx
theorem k_baload (C : mCtx D cA ro sv B M p l s m args meth c) (hd : decode (rC M) pc = .ok (.baload, 1)) (hx : xArrI (fun t => t == 1 || t == 2) pc ls st h = some (.inl (pc', ls', st', h'))) (k : mK D cA ro B sl0 M p l e R s m args below meth c Q pc' ls' st' h') : mK D cA ro B sl0 M p l e R s m args below meth c Q pc ls st h := by
  unfold xArrI at hx
  split at hx
  · split at hx
    · rename_i i a r t n f hg
      split at hx
      · rename_i ht
        have ht : t = 1 ∨ t = 2 := by simpa using ht
        split at hx
        · cases hx
        · rename_i hin
          obtain ⟨rfl, rfl, rfl, rfl⟩ := mNx_inj hx
          rcases ht with rfl | rfl
          · exact fun H locs cells slots lr P => va_zald C.1 C.2.1 C.2.2.2.2.2.1.1 (mP1 P.2.1 hg) 0 1 rfl rfl hin hd (k H locs cells slots lr P)
          · exact fun H locs cells slots lr P => va_bald C.1 C.2.1 C.2.2.2.2.2.1.1 (mP1 P.2.1 hg) 0 2 rfl rfl hin hd (k H locs cells slots lr P)
      · cases hx
    · cases hx
  · cases hx
theorem k_aaload (C : mCtx D cA ro sv B M p l s m args meth c) (hd : decode (rC M) pc = .ok (.aaload, 1)) (hx : xArrQ pc ls st h = some (.inl (pc', ls', st', h'))) (k : mK D cA ro B sl0 M p l e R s m args below meth c Q pc' ls' st' h') : mK D cA ro B sl0 M p l e R s m args below meth c Q pc ls st h := by
  unfold xArrQ at hx
  split at hx
  · split at hx
    · rename_i i a r _ t n f hg
      split at hx
      · rename_i ht
        split at hx
        · cases hx
        · rename_i hin
          obtain ⟨rfl, rfl, rfl, rfl⟩ := mNx_inj hx
          intro H locs cells slots lr P
          have hro : roTag (.inr (.inl (t, n, f))) = false := okC_ro (c := .inr (.inl (t, n, f))) ht
          have hlt : i.toNatClampNeg < n := Nat.not_le.mp fun q => hin (Or.inr q)
          by_cases h3 : t = 3
          · subst h3
            exact W.aald (v := va_rf (f i.toNatClampNeg)) (ty := .array .int) C.1 C.2.1 (mAt1 P.2.1 hg hro) ((C.2.2.2.2.2.1.1.2 6 _ rfl).1 n (fun j => va_rf (f j))) rfl (fun q => by cases q) (by show ¬ (i < 0 ∨ (arrV _ _ _).slots.size ≤ _); rw [arrV_size]; exact hin) (by show (arrV _ _ _).slots[_]? = _; rw [arrV_read _ _ hlt]) rfl rfl hd (k H locs cells slots lr P)
          · exact va_aldq C.1 C.2.1 C.2.2.2.2.2.1.1 (mP1 P.2.1 hg hro) 0 (3 + t) rfl (tys_q (by omega)) hin hd (k H locs cells slots lr P)
      · cases hx
    · cases hx
  · cases hx
theorem k_iastore (C : mCtx D cA ro sv B M p l s m args meth c) (hd : decode (rC M) pc = .ok (.iastore, 1)) (hx : xIastore B pc ls st h = some (.inl (pc', ls', st', h'))) (k : mK D cA ro B sl0 M p l e R s m args below meth c Q pc' ls' st' h') : mK D cA ro B sl0 M p l e R s m args below meth c Q pc ls st h := by
  unfold xIastore at hx
  split at hx
  · split at hx
    · rename_i x i a r hB
      split at hx
      · rename_i n f hg
        split at hx
        · cases hx
        · rename_i hin
          obtain ⟨rfl, rfl, rfl, rfl⟩ := mNx_inj hx
          intro H locs cells slots lr P
          refine W.iast C.1 C.2.1 (mAt1 P.2.1 hg) ((C.2.2.2.2.2.1.1.2 0 _ rfl).1 n (fun j => .int (f j))) (fun q => by cases q) (by show ¬ (i < 0 ∨ (arrV _ _ _).slots.size ≤ _); rw [arrV_size]; exact hin) rfl rfl hd fun H1 ee z oq => ?_
          refine k H1 _ cells slots lr ⟨P.1, P.2.1.set z oq ?_ ?_, P.2.2.1.put z oq hB, P.2.2.2⟩
          · show H1[a]? = some (vp_cell _ _)
            rw [← cell_upd_i]
            exact ee
          · exact (by decide : 0 < 3)
      · cases hx
    · cases hx
  · cases hx
theorem k_bastore (C : mCtx D cA ro sv B M p l s m args meth c) (hd : decode (rC M) pc = .ok (.bastore, 1)) (hx : xBastore B pc ls st h = some (.inl (pc', ls', st', h'))) (k : mK D cA ro B sl0 M p l e R s m args below meth c Q pc' ls' st' h') : mK D cA ro B sl0 M p l e R s m args below meth c Q pc ls st h := by
  unfold xBastore at hx
  split at hx
  · split at hx
    · rename_i x i a r hB
      split at hx
      · rename_i n f hg
        split at hx
        · cases hx
        · rename_i hin
          obtain ⟨rfl, rfl, rfl, rfl⟩ := mNx_inj hx
          intro H locs cells slots lr P
          refine W.zast C.1 C.2.1 (mAt1 P.2.1 hg) ((C.2.2.2.2.2.1.1.2 1 _ rfl).1 n (fun j => .int (f j))) (fun q => by cases q) (by show ¬ (i < 0 ∨ (arrV _ _ _).slots.size ≤ _); rw [arrV_size]; exact hin) rfl rfl hd fun H1 ee z oq => ?_
          refine k H1 _ cells slots lr ⟨P.1, P.2.1.set z oq ?_ ?_, P.2.2.1.put z oq hB, P.2.2.2⟩
          · show H1[a]? = some (vp_cell _ _)
            rw [← cell_upd_i]
            exact ee
          · exact (by decide : 1 < 3)
      · rename_i n f hg
        split at hx
        · cases hx
        · rename_i hin
          obtain ⟨rfl, rfl, rfl, rfl⟩ := mNx_inj hx
          intro H locs cells slots lr P
          refine W.bast C.1 C.2.1 (mAt1 P.2.1 hg) ((C.2.2.2.2.2.1.1.2 2 _ rfl).1 n (fun j => .int (f j))) (fun q => by cases q) (by show ¬ (i < 0 ∨ (arrV _ _ _).slots.size ≤ _); rw [arrV_size]; exact hin) rfl rfl hd fun H1 ee z oq => ?_
          refine k H1 _ cells slots lr ⟨P.1, P.2.1.set z oq ?_ ?_, P.2.2.1.put z oq hB, P.2.2.2⟩
          · show H1[a]? = some (vp_cell _ _)
            rw [← cell_upd_i]
            exact ee
          · exact (by decide : 2 < 3)
      · cases hx
    · cases hx
  · cases hx
theorem k_aastore (C : mCtx D cA ro sv B M p l s m args meth c) (hd : decode (rC M) pc = .ok (.aastore, 1)) (hx : xAastore B pc ls st h = some (.inl (pc', ls', st', h'))) (k : mK D cA ro B sl0 M p l e R s m args below meth c Q pc' ls' st' h') : mK D cA ro B sl0 M p l e R s m args below meth c Q pc ls st h := by
  unfold xAastore at hx
  split at hx
  · split at hx
    · rename_i v i a r hB
      split at hx
      · rename_i t n f hg
        split at hx
        · cases hx
        · rename_i hin
          split at hx
          · cases hx
          · rename_i h3
            split at hx
            · obtain ⟨rfl, rfl, rfl, rfl⟩ := mNx_inj hx
              intro H locs cells slots lr P
              have ht : t < 4 := by omega
              have hro : roTag (.inr (.inl (t, n, f))) = false := okC_ro (c := .inr (.inl (t, n, f))) ht
              refine va_WaastN (C := elT t) C.1 C.2.1 (mAt1 P.2.1 hg hro) ((C.2.2.2.2.2.1.1.2 (3 + t) _ (tys_q (by omega))).1 n (fun j => va_rf (f j))) (fun h => by cases h) (by show ¬ (i < 0 ∨ (arrV _ _ _).slots.size ≤ _); rw [arrV_size]; exact hin) rfl rfl hd fun H1 ee z oq => ?_
              refine k H1 _ cells slots lr ⟨P.1, P.2.1.set z oq ?_ ?_, P.2.2.1.put z oq hB, P.2.2.2⟩
              · show H1[a]? = some (vp_cell _ _)
                rw [← cell_upd_q]
                exact ee
              · exact ht
            · rename_i v2
              split at hx
              · rename_i ci fs hv
                split at hx
                · rename_i hf
                  obtain ⟨rfl, rfl, rfl, rfl⟩ := mNx_inj hx
                  intro H locs cells slots lr P
                  have ht : t < 3 := fit_lt hf
                  have hro : roTag (.inr (.inl (t, n, f))) = false := okC_ro (c := .inr (.inl (t, n, f))) (show t < 4 by omega)
                  have hlt : i.toNatClampNeg < n := Nat.not_le.mp fun q => hin (Or.inr q)
                  have h0 : ¬ i < 0 := fun q => hin (Or.inl q)
                  obtain ⟨rr, hrr, hasg⟩ := fit_assign C.2.2.2.2.2.1 hf
                  obtain ⟨r', hr', cellV, g1, g2, g3, -⟩ := mAt1 P.2.1 hv
                  have hcls := (C.2.2.2.2.2.1.1.1 ci rr hrr).2
                  obtain ⟨kA, comp, k1, k2, k3, -⟩ := (C.2.2.2.2.2.1.1.2 (3 + t) _ (tys_q ht)).2
                  obtain ⟨kC, hkC, -⟩ := hcls.2
                  obtain ⟨kO, hkO, -⟩ := Vm.findClass_spec k3
                  refine W.aast C.1 C.2.1 (mAt1 P.2.1 hg hro) (fun q h => by cases h) (fun h => by cases h) k1 k2 rfl hkO ⟨h0, by show _ < (arrV _ _ _).slots.size; rw [arrV_size]; exact hlt⟩ g1 (fun q h => by rw [g3] at h; cases h) (by rw [g2]; exact hkC) (by rw [g2]; exact hasg _ _ k3 hcls.1) rfl rfl hd fun H1 ee z oq => ?_
                  refine k H1 _ cells slots lr ⟨P.1, P.2.1.set z oq ?_ ?_, P.2.2.1.put z oq hB, P.2.2.2⟩
                  · show H1[a]? = some (vp_cell _ _)
                    rw [← cell_upd_q]
                    exact ee
                  · exact (show t < 4 by omega)
                · cases hx
              · cases hx
      · cases hx
    · cases hx
  · cases hx
theorem k_alen (C : mCtx D cA ro sv B M p l s m args meth c) (hd : decode (rC M) pc = .ok (.arraylength, 1)) (hx : xAlen pc ls st h = some (.inl (pc', ls', st', h'))) (k : mK D cA ro B sl0 M p l e R s m args below meth c Q pc' ls' st' h') : mK D cA ro B sl0 M p l e R s m args below meth c Q pc ls st h := by
  unfold xAlen at hx
  split at hx
  · split at hx
    · rename_i a r _ t n f hg
      obtain ⟨rfl, rfl, rfl, rfl⟩ := mNx_inj hx
      intro H locs cells slots lr P
      by_cases h3 : roTag (.inl (t, n, f)) = true
      · obtain ⟨hX, hA⟩ := C.2.2.2.2.2.1.2.2.2.2.2.2.2.2.2 _ _ (mRo1 P.2.1 hg h3)
        have hlt := roAt.lt hX
        obtain ⟨scr, g1, g2, g3, g4, g6, -⟩ := hX
        exact W.alen (n := Int32.ofNat n) C.1 C.2.1 (by rw [P.2.2.1.2.1 a hlt hA]; exact g1) g2 g6 rfl rfl hd (k H locs cells slots lr P)
      have hro : roTag (.inl (t, n, f)) = false := by cases hq : roTag (.inl (t, n, f)) with
        | false => rfl
        | true => exact absurd hq h3
      have ht : t < 3 := mOk1 P.2.1 hg hro
      have : t = 0 ∨ t = 1 ∨ t = 2 := by omega
      rcases this with rfl | rfl | rfl
      · exact va_alen C.1 C.2.1 C.2.2.2.2.2.1.1 (mP1 P.2.1 hg) 0 0 rfl rfl rfl hd (k H locs cells slots lr P)
      · exact va_alen C.1 C.2.1 C.2.2.2.2.2.1.1 (mP1 P.2.1 hg) 0 1 rfl rfl rfl hd (k H locs cells slots lr P)
      · exact va_alen C.1 C.2.1 C.2.2.2.2.2.1.1 (mP1 P.2.1 hg) 0 2 rfl rfl rfl hd (k H locs cells slots lr P)
    · rename_i a r _ t n f hg
      obtain ⟨rfl, rfl, rfl, rfl⟩ := mNx_inj hx
      intro H locs cells slots lr P
      by_cases h3 : roTag (.inr (.inl (t, n, f))) = true
      · obtain ⟨hX, hA⟩ := C.2.2.2.2.2.1.2.2.2.2.2.2.2.2.2 _ _ (mRo1 P.2.1 hg h3)
        have hlt := roAt.lt hX
        obtain ⟨scr, g1, g2, g3, g4, g6, -⟩ := hX
        exact W.alen (n := Int32.ofNat n) C.1 C.2.1 (by rw [P.2.2.1.2.1 a hlt hA]; exact g1) g2 g6 rfl rfl hd (k H locs cells slots lr P)
      have hro : roTag (.inr (.inl (t, n, f))) = false := by cases hq : roTag (.inr (.inl (t, n, f))) with
        | false => rfl
        | true => exact absurd hq h3
      have ht : t < 4 := mOk1 P.2.1 hg hro
      have : t = 0 ∨ t = 1 ∨ t = 2 ∨ t = 3 := by omega
      rcases this with rfl | rfl | rfl | rfl
      · exact va_alen C.1 C.2.1 C.2.2.2.2.2.1.1 (mP1 P.2.1 hg) 0 3 rfl rfl rfl hd (k H locs cells slots lr P)
      · exact va_alen C.1 C.2.1 C.2.2.2.2.2.1.1 (mP1 P.2.1 hg) 0 4 rfl rfl rfl hd (k H locs cells slots lr P)
      · exact va_alen C.1 C.2.1 C.2.2.2.2.2.1.1 (mP1 P.2.1 hg) 0 5 rfl rfl rfl hd (k H locs cells slots lr P)
      · exact va_alen C.1 C.2.1 C.2.2.2.2.2.1.1 (mP1 P.2.1 hg) 0 6 rfl rfl rfl hd (k H locs cells slots lr P)
    · cases hx
  · cases hx
end HEAPK
