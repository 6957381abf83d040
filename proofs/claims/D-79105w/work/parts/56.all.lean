/-! SOUNDNESS OF A WHOLE RUN, the induction's steps -/
set_option maxRecDepth 100000
theorem call_step {B n d : Nat} {sv : Nat → Option Nat} (ih : Snd B sv n) (hCL : CALLS) {M M' : MRec} {as rr : List MV} {pc pc' len : Nat} {ls : ML} {st : List MV} {h h1 h2 : MH} {res : Option MV ⊕ Nat} {i : Instr} {D : va_G} {cA : Nat → ClassId} {ro : Nat → MC → Prop} {sl0 : Nat} {p : Program} {l : Launch} {e : Env} {R : Room} {s : State} {m : MethodId} {args : Array Value} {below : List Frame} {meth : Method} {c : Code} {Q : State → Prop} (hM : MOK M)
    (C : mCtx D cA ro sv B M p l s m args meth c) (hfr : d + 1 + 1 ≤ R.frames) (hlo : 64 * (d + 1 + 1) ≤ R.locals) (hd : decode (rC M) pc = .ok (i, len)) (hl : mLen i len = true) (he : ex B sv M pc ls st h i = some (.inr (.inl (M', as, pc', rr, h1)))) (hr : mRun B sv n d M' (0, mEntry M' as, [], h1) = some (res, h2)) (hmc : h2.1 ≤ s.heap.size + R.cells) (hms : h2.2.1 ≤ sl0 + R.slots)
    (kN : ∀ v, res = .inl v → mK D cA ro B sl0 M p l e R s m args below meth c Q pc' ls (v.toList ++ rr) h2) (kT : ∀ q, res = .inr q → mKT D cA ro B sl0 M p l e R s m args below meth c Q q pc ls h2) : mK D cA ro B sl0 M p l e R s m args below meth c Q pc ls st h := by
  intro H locs cells slots lr P
  have hle := run_le _ _ _ _ _ _ _ _ _ hr
  cases i with
  | invokevirtual idx =>
    replace hd := len_of hd hl
    unfold ex at he
    dsimp only at he
    split at he
    · have := xMirror_k _ _ _ _ _ he
      cases this
    · obtain ⟨n0, ci, b, fs, hq, rfl, hlen, hst, h8, hg, rfl, rfl⟩ := xCallV_inv he
      obtain ⟨key, hm, k1, k2⟩ := mLk_mem hq
      obtain ⟨hcok, hM', hLn⟩ := hCL.1 _ hm
      have hL' := hM'.2.2.1
      dsimp only at hLn hcok hM' hL'
      have f1 := P.2.2.2.1
      have f2 := P.2.2.2.2.1
      have e1 : h1.1 + (h2.1 - h1.1) = h2.1 := by have := hle.1; omega
      have e2 : h1.2.1 + (h2.2.1 - h1.2.1) = h2.2.1 := by have := hle.2; omega
      have hmet := snd_met ih hr hM' (by rw [List.length_cons, List.length_reverse, hlen]; exact hLn) (D := D) (cA := cA) (ro := ro) (l := l) e1 e2
      exact after_call (len := 3) (as := (Value.ref b :: ((st.take n0).reverse).map mvV).toArray) P e1 e2 (fun T hT X => hcok C (by rw [k1]; exact hM.2.1) hmet ⟨rfl, rfl, hfr, by show 8 + (rL M' + 11) + 64 * (d + 1) ≤ R.locals; omega⟩ (fun Cn T0 N0 hc => ⟨mPc_blind, va_recv C.2.2.2.2.2.1.1 (mP1 P.2.1 hg) (q0 := 0) hc rfl, fun U hU hW => ⟨rfl, by rw [hU]; exact P.2.1, C.2.2.2.2.2.1.moved hW hU P.2.2.1.2.1, by rw [hU]; exact Nat.le_trans P.2.2.2.2.2 P.2.2.1.1⟩⟩) rfl (by rw [List.length_map, List.length_reverse, hlen]) (show lr.size = rL M from P.1.2.1) (st_split hst) (lv_room (by rw [mvV_sum]; exact h8)) (by rw [k2]; exact hd) ⟨by omega, by omega⟩ T hT X) kN kT
  | invokeinterface idx cnt =>
    replace hd := len_of hd hl
    replace he : xCallV (mLk tF5 M idx) 5 pc st h = _ := he
    obtain ⟨n0, ci, b, fs, hq, rfl, hlen, hst, h8, hg, rfl, rfl⟩ := xCallV_inv he
    obtain ⟨key, hm, k1, k2⟩ := mLk_mem hq
    obtain ⟨hcok, hM', hLn⟩ := hCL.2.1 _ hm
    have hL' := hM'.2.2.1
    dsimp only at hLn hcok hM' hL'
    have f1 := P.2.2.2.1
    have f2 := P.2.2.2.2.1
    have e1 : h1.1 + (h2.1 - h1.1) = h2.1 := by have := hle.1; omega
    have e2 : h1.2.1 + (h2.2.1 - h1.2.1) = h2.2.1 := by have := hle.2; omega
    have hmet := snd_met ih hr hM' (by rw [List.length_cons, List.length_reverse, hlen]; exact hLn) (D := D) (cA := cA) (ro := ro) (l := l) e1 e2
    exact after_call (len := 5) (as := (Value.ref b :: ((st.take n0).reverse).map mvV).toArray) P e1 e2 (fun T hT X => hcok (cnt := cnt) C (by rw [k1]; exact hM.2.1) hmet ⟨rfl, rfl, hfr, by show 8 + (rL M' + 11) + 64 * (d + 1) ≤ R.locals; omega⟩ (fun Cn T0 N0 hc => ⟨mPc_blind, va_recv C.2.2.2.2.2.1.1 (mP1 P.2.1 hg) (q0 := 0) hc rfl, fun U hU hW => ⟨rfl, by rw [hU]; exact P.2.1, C.2.2.2.2.2.1.moved hW hU P.2.2.1.2.1, by rw [hU]; exact Nat.le_trans P.2.2.2.2.2 P.2.2.1.1⟩⟩) rfl (by rw [List.length_map, List.length_reverse, hlen]) (show lr.size = rL M from P.1.2.1) (st_split hst) (lv_room (by rw [mvV_sum]; exact h8)) (by rw [k2]; exact hd) ⟨by omega, by omega⟩ T hT X) kN kT
  | invokespecial idx =>
    replace hd := len_of hd hl
    unfold ex at he
    dsimp only at he
    split at he
    · have := xObj_k _ _ _ _ he
      cases this
    obtain ⟨n0, b, hq, rfl, hlen, hst, h8, rfl, rfl⟩ := xCallI_inv he
    obtain ⟨key, hm, k1, k2⟩ := mLk_mem hq
    obtain ⟨hcok, hM', hLn⟩ := hCL.2.2.1 _ hm
    have hL' := hM'.2.2.1
    dsimp only at hLn hcok hM' hL'
    have f1 := P.2.2.2.1
    have f2 := P.2.2.2.2.1
    have e1 : h1.1 + (h2.1 - h1.1) = h2.1 := by have := hle.1; omega
    have e2 : h1.2.1 + (h2.2.1 - h1.2.1) = h2.2.1 := by have := hle.2; omega
    have hmet := snd_met ih hr hM' (by rw [List.length_cons, List.length_reverse, hlen]; exact hLn) (D := D) (cA := cA) (ro := ro) (l := l) e1 e2
    exact after_call (len := 3) (as := (Value.ref b :: ((st.take n0).reverse).map mvV).toArray) P e1 e2 (fun T hT X => hcok C (by rw [k1]; exact hM.2.1) hmet ⟨rfl, rfl, hfr, by show 8 + (rL M' + 11) + 64 * (d + 1) ≤ R.locals; omega⟩ ⟨mPc_blind, fun U hU hW => ⟨rfl, by rw [hU]; exact P.2.1, C.2.2.2.2.2.1.moved hW hU P.2.2.1.2.1, by rw [hU]; exact Nat.le_trans P.2.2.2.2.2 P.2.2.1.1⟩⟩ rfl (by rw [List.length_map, List.length_reverse, hlen]) (show lr.size = rL M from P.1.2.1) (st_split hst) (lv_room (by rw [mvV_sum]; exact h8)) (by rw [k2]; exact hd) ⟨by omega, by omega⟩ T hT X) kN kT
  | invokestatic idx =>
    replace hd := len_of hd hl
    unfold ex at he
    dsimp only at he
    split at he
    · have := xCopy_k _ _ _ _ _ he
      cases this
    split at he
    · have := xMath_k _ _ _ _ _ he
      cases this
    · obtain ⟨n0, hq, rfl, hlen, hst, h8, rfl, rfl⟩ := xCallS_inv he
      obtain ⟨key, hm, k1, k2⟩ := mLk_mem hq
      obtain ⟨hcok, hM', hLn⟩ := hCL.2.2.2 _ hm
      have hL' := hM'.2.2.1
      dsimp only at hLn hcok hM' hL'
      have f1 := P.2.2.2.1
      have f2 := P.2.2.2.2.1
      have e1 : h1.1 + (h2.1 - h1.1) = h2.1 := by have := hle.1; omega
      have e2 : h1.2.1 + (h2.2.1 - h1.2.1) = h2.2.1 := by have := hle.2; omega
      have hmet := snd_met ih hr hM' (by rw [List.length_reverse, hlen]; exact hLn) (D := D) (cA := cA) (ro := ro) (l := l) e1 e2
      exact after_call (len := 3) (as := (((st.take n0).reverse).map mvV).toArray) P e1 e2 (fun T hT X => hcok C (by rw [k1]; exact hM.2.1) hmet ⟨rfl, rfl, hfr, by show 8 + (rL M' + 11) + 64 * (d + 1) ≤ R.locals; omega⟩ ⟨mPc_blind, fun U hU hW => ⟨rfl, by rw [hU]; exact P.2.1, C.2.2.2.2.2.1.moved hW hU P.2.2.1.2.1, by rw [hU]; exact Nat.le_trans P.2.2.2.2.2 P.2.2.1.1⟩⟩ rfl (by rw [List.length_map, List.length_reverse, hlen]) (show lr.size = rL M from P.1.2.1) (st_split2 hst) (lv_room (by rw [mvV_sum]; exact h8)) (by rw [k2]; exact hd) ⟨by omega, by omega⟩ T hT X) kN kT
  | _ => exact nomatch (show false = true from (ex_kind he).2.2 rfl)
set_option maxHeartbeats 1000000 in
theorem snd_all (hT : TOK) (hCL : CALLS) {B : Nat} {sv : Nat → Option Nat} : ∀ n : Nat, Snd B sv n := by
  intro n
  induction n with
  | zero => intro d M pc ls st h r h' hx; cases hx
  | succ n ih =>
    intro d M pc ls st h r h' hx hM D cA ro sl0 p l e R s m args below meth c mc ms C hfr hlo e1 e2 hmc hms
    unfold mRun at hx
    split at hx
    · cases hx
    · rename_i i len hd
      split at hx
      · cases hx
      · rename_i f he
        split at he
        · rename_i hl
          obtain ⟨pc', ls', st', h1⟩ := f
          have hle := run_le _ _ _ _ _ _ _ _ _ hx
          exact step_next C hT hM.2.1 (by omega) (by omega) hd hl he (by have := hle.1; omega) (by have := hle.2; omega) (ih d M pc' ls' st' h1 r h' hx hM C hfr hlo e1 e2 hmc hms)
        · cases he
      · rename_i M' as pc' rr h1 he
        split at he
        · rename_i hl
          split at hx
          · cases hx
          · rename_i d'
            split at hx
            · cases hx
            · rename_i v h2 hr
              have hle := run_le _ _ _ _ _ _ _ _ _ hx
              refine call_step ih hCL hM C hfr hlo hd hl he hr (by have := hle.1; omega) (by have := hle.2; omega) (fun v2 hv => ?_) (fun q hq => by cases hq)
              cases hv
              exact ih (d' + 1) M pc' ls (v.toList ++ rr) h2 r h' hx hM C hfr hlo e1 e2 hmc hms
            · rename_i q h2 hr
              split at hx
              · cases hx
              · rename_i hf
                cases hx
                refine call_step ih hCL hM C hfr hlo hd hl he hr (by omega) (by omega) (fun v2 hv => by cases hv) (fun q2 hq => ?_)
                cases hq
                exact throw_out C hf e1 e2
              · rename_i t hf
                have hle := run_le _ _ _ _ _ _ _ _ _ hx
                refine call_step ih hCL hM C hfr hlo hd hl he hr (by have := hle.1; omega) (by have := hle.2; omega) (fun v2 hv => by cases hv) (fun q2 hq => ?_)
                cases hq
                exact throw_in C hM hf (ih (d' + 1) M t ls [.inr (some q)] h2 r h' hx hM C hfr hlo e1 e2 hmc hms)
        · cases he
      · rename_i v h1 he
        split at he
        · rename_i hl
          cases hx
          exact step_ret C hd hl he e1 e2
        · cases he
      · rename_i q h1 he
        split at he
        · rename_i hl
          obtain ⟨fs, hi, rfl, hg, rest, rfl⟩ := xThrow_inv he
          subst hi
          replace hd := len_of hd hl
          have go : ∀ {Q : State → Prop}, mKT D cA ro B sl0 M p l e R s m args below meth c Q q pc ls h1 → mK D cA ro B sl0 M p l e R s m args below meth c Q pc ls (.inr (some q) :: rest) h1 := by
            intro Q k H locs cells slots lr P
            obtain ⟨r6, hr6, cell, q1, q2, q3, -⟩ := mAt1 P.2.1 hg
            cases hr6
            exact vx_athrow C.1 C.2.1 hd (k H locs cells slots lr (rest.map mvV) cell P q1 q3 (by rw [q2]; exact (C.2.2.2.2.2.1.1.1 6 _ rfl).2.1))
          split at hx
          · cases hx
          · rename_i hf
            cases hx
            exact go (throw_out C hf e1 e2)
          · rename_i t hf
            exact go (throw_in C hM hf (ih d M t ls [.inr (some q)] h1 r h' hx hM C hfr hlo e1 e2 hmc hms))
        · cases he
