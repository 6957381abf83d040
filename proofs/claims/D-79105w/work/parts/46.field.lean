/-! SOUNDNESS OF A STEP: fields, new cells, casts, statics, constants. What a table's row asks of the words: FOK, NOK .. -/
set_option maxRecDepth 100000
def cpN : Nat → String
  | 0 => RX0
  | 1 => RX1
  | 2 => RX2
  | 3 => RX3
  | 4 => RX4
  | 5 => RX5
  | 6 => RX6
  | 7 => RX7
  | 8 => RX8
  | 9 => RX9
  | 20 => RJ0
  | 21 => RJ1
  | 22 => RJ2
  | 23 => RJ3
  | 24 => RJ4
  | 25 => RJ5
  | 26 => RJ6
  | 27 => RJ7
  | 28 => RJ8
  | 29 => RJ9
  | 30 => RJ10
  | 31 => RJ11
  | 32 => RJ12
  | 40 => "SwarmPlannerLaw"
  | _ => ""
theorem tLk_mem {α : Type} {t : List (Nat × α)} {x : Nat} {v : α} (h : tLk t x = some v) : (x, v) ∈ t := by
  induction t with
  | nil => cases h
  | cons a r ih =>
    obtain ⟨k, w⟩ := a
    unfold tLk at h
    split at h
    · rename_i e
      cases h
      rw [e]
      exact List.mem_cons_self
    · exact List.mem_cons_of_mem _ (ih h)
theorem mLk_mem {α : Type} {t : List (Nat × α)} {M : MRec} {i : Nat} {v : α} (h : mLk t M i = some v) : ∃ key : Nat, (key, v) ∈ t ∧ key / 65536 = rP M ∧ key % 65536 = i := by
  unfold mLk at h
  split at h
  · rename_i hi
    exact ⟨_, tLk_mem h, by omega, by omega⟩
  · cases h
def CLOK (ci : Nat) (C : String) (T : u_T) (N : Nat) (ty0 : Nat → FieldType) : Prop := clM[ci]? = some (C, T, N) ∧ (∀ w ∈ u_ws C T N, w ∈ lw_all) ∧ (∀ k, k < N → parseFieldDescriptor (T k).2.2.1 = some (ty0 k)) ∧ ∀ a, a < N → ∀ b, b < N → a ≠ b → (T a).2.1 ≠ (T b).2.1
def FOK (q : Nat × (Nat × Nat × FieldType × Bool)) : Prop := ∃ (C : String) (T : u_T) (N : Nat) (ty0 : Nat → FieldType) (ref : String), CLOK q.2.1 C T N ty0 ∧ q.2.2.1 < N ∧ parseFieldDescriptor (T q.2.2.1).2.2.1 = some q.2.2.2.1 ∧ (T q.2.2.1).2.2.2 = q.2.2.2.2 ∧ (q.2.2.2.2 = true → (T q.2.2.1).1 = C) ∧
  (Cond.fieldLink (cpN (q.1 / 65536)) (q.1 % 65536) ref (T q.2.2.1).2.1 (T q.2.2.1).2.2.1 ∈ lw_all ∨ (∃ host : String, Cond.fieldLinkNest (cpN (q.1 / 65536)) (q.1 % 65536) ref (T q.2.2.1).2.1 (T q.2.2.1).2.2.1 host ∈ nwL) ∧ q.1 / 65536 ≠ q.2.1 ∧ q.1 / 65536 ≠ 31) ∧
  (ref = (T q.2.2.1).1 ∨ Cond.sameField ref (T q.2.2.1).1 (T q.2.2.1).2.1 (T q.2.2.1).2.2.1 ∈ lw_all)
def NOK (q : Nat × (Nat × List MV)) : Prop := ∃ (C : String) (T : u_T) (N : Nat) (ty0 : Nat → FieldType), CLOK q.2.1 C T N ty0 ∧ Cond.classLink (cpN (q.1 / 65536)) (q.1 % 65536) C ∈ lw_all ∧ Cond.instantiable C N ∈ lw_all ∧ Cond.initialized C ∈ lw_all ∧ q.2.2.length = N ∧ ∀ j, j < N → defaultValue (ty0 j) = vp_V (q.2.2.map mvV) j
def AOK (q : Nat × Nat) : Prop := Cond.classLink (cpN (q.1 / 65536)) (q.1 % 65536) (elT q.2) ∈ lw_all ∧ q.2 < 3
def XOK (q : Nat × Nat) : Prop := ∃ (C : String) (T : u_T) (N : Nat), clM[q.2]? = some (C, T, N) ∧ Cond.classLink (cpN (q.1 / 65536)) (q.1 % 65536) C ∈ lw_all
def SOK (q : Nat × Nat) : Prop := ∃ C n d : String, (C, n, d, q.2) ∈ zL ∧ Cond.fieldLink (cpN (q.1 / 65536)) (q.1 % 65536) C n d ∈ lw_all
def KOK (q : Nat × Int32) : Prop := Cond.constant (cpN (q.1 / 65536)) (q.1 % 65536) q.2 ∈ lw_all
theorem cp_ci {ci : Nat} {C : String} {T : u_T} {N cp : Nat} (h : clM[ci]? = some (C, T, N)) (hc : cp = ci ∨ (cp = 31 ∧ ci = 11)) (h10 : ci < 10 ∨ cp = 31) : cpN cp = C := by
  rcases hc with rfl | ⟨rfl, rfl⟩
  · rcases h10 with h10 | rfl
    · match cp, h with
      | 0, h => cases h; rfl
      | 1, h => cases h; rfl
      | 2, h => cases h; rfl
      | 3, h => cases h; rfl
      | 4, h => cases h; rfl
      | 5, h => cases h; rfl
      | 6, h => cases h; rfl
      | 7, h => cases h; rfl
      | 8, h => cases h; rfl
      | 9, h => cases h; rfl
      | k + 10, h => exact absurd h10 (by omega)
    · cases h
  · cases h; rfl
section FIELDK
variable {D : va_G} {cA : Nat → ClassId} {ro : Nat → MC → Prop} {sv : Nat → Option Nat} {B sl0 : Nat} {M : MRec} {p : Program} {l : Launch} {e : Env} {R : Room} {s : State} {m : MethodId} {args : Array Value} {below : List Frame} {meth : Method} {c : Code} {Q : State → Prop} {pc pc' : Nat} {ls ls' : ML} {st st' : List MV} {h h' : MH}
theorem hsame_of {A : Nat → Prop} (hw : ∀ w ∈ lw_all, w.before args s = true) {ref o n d : String} (h : ref = o ∨ Cond.sameField ref o n d ∈ lw_all) : ∀ x, s.fieldFound? o n d = some x → s.fieldFound? ref n d = some x := by
  rcases h with rfl | h
  · exact fun x hx => hx
  · exact u_same (hw _ h)
theorem mTyp_narrow {ty : FieldType} {v : MV} (h : mTyp ty v = true) : narrow ty (mvV v) = mvV v ∧ fits ty (mvV v) = true := by
  unfold mTyp at h
  split at h
  · exact ⟨rfl, rfl⟩
  · rename_i x
    have h := of_decide_eq_true h
    rcases h with rfl | rfl <;> exact ⟨by decide, by decide⟩
  · rename_i C r
    cases r <;> exact ⟨rfl, rfl⟩
  · rename_i C r
    cases r <;> exact ⟨rfl, rfl⟩
  · cases h
theorem k_getf {i : Nat} (C : mCtx D cA ro sv B M p l s m args meth c) (hF : ∀ q ∈ tF, FOK q) (ho : (rN M).cls = cpN (rP M)) (hd : decode (rC M) pc = .ok (.getfield i, 3)) (hx : xGetf (mLk tF M i) pc ls st h = some (.inl (pc', ls', st', h'))) (k : mK D cA ro B sl0 M p l e R s m args below meth c Q pc' ls' st' h') : mK D cA ro B sl0 M p l e R s m args below meth c Q pc ls st h := by
  cases hq : mLk tF M i with
  | none =>
    rw [hq] at hx
    exact nomatch (show (none : Option MS) = some _ from hx)
  | some q =>
    obtain ⟨ci, j, ty, fin⟩ := q
    obtain ⟨key, hm, e1, e2⟩ := mLk_mem hq
    obtain ⟨Cn, T, N, ty0, ref, ⟨hc, hin, -, -⟩, hj, -, -, -, hlink, hsm⟩ := hF _ hm
    rw [hq] at hx
    rcases st with _ | ⟨x | (_ | a), r⟩
    · cases hx
    · cases hx
    · cases hx
    · unfold xGetf at hx
      dsimp only at hx
      rcases hg : hG h a with _ | (c1 | (c1 | ⟨c2, fs⟩)) <;> rw [hg] at hx <;> dsimp only at hx
      · cases hx
      · cases hx
      · cases hx
      · split at hx
        · rename_i hci
          subst hci
          split at hx
          · rename_i v hv
            obtain ⟨rfl, rfl, rfl, rfl⟩ := mNx_inj hx
            intro H locs cells slots lr P
            have hv' : (fs.map mvV)[j]? = some (mvV v) := by rw [List.getElem?_map, hv]; rfl
            dsimp only at hlink hj hsm hc
            rw [e1, e2, ← ho] at hlink
            rcases hlink with hlink | ⟨⟨host, hlink⟩, -, -⟩
            · exact va_get C.1 C.2.1 C.2.2.2.2.1 hin C.2.2.2.1 C.2.2.2.2.2.1.1 (mP1 P.2.1 hg) 0 rfl hc j hj (C.2.2.2.2.1 _ hlink) (hsame_of (A := fun _ => True) C.2.2.2.2.1 hsm) hv' hd (k H locs cells slots lr P)
            · exact va_getN C.1 C.2.1 C.2.2.2.2.1 hin C.2.2.2.1 C.2.2.2.2.2.1.1 (mP1 P.2.1 hg) 0 rfl hc j hj (va_Nw.use rfl (C.2.2.2.2.2.1.2.1 _ hlink)) (hsame_of (A := fun _ => True) C.2.2.2.2.1 hsm) hv' hd (k H locs cells slots lr P)
          · cases hx
        · cases hx
theorem k_putf {i : Nat} (C : mCtx D cA ro sv B M p l s m args meth c) (hF : ∀ q ∈ tF, FOK q) (ho : (rN M).cls = cpN (rP M)) (hd : decode (rC M) pc = .ok (.putfield i, 3)) (hx : xPutf B (rP M) (mLk tF M i) ((rN M).name == "<init>") pc ls st h = some (.inl (pc', ls', st', h'))) (k : mK D cA ro B sl0 M p l e R s m args below meth c Q pc' ls' st' h') : mK D cA ro B sl0 M p l e R s m args below meth c Q pc ls st h := by
  cases hq : mLk tF M i with
  | none =>
    rw [hq] at hx
    exact nomatch (show (none : Option MS) = some _ from hx)
  | some q =>
    obtain ⟨ci, j, ty, fin⟩ := q
    obtain ⟨key, hm, e1, e2⟩ := mLk_mem hq
    obtain ⟨Cn, T, N, ty0, ref, ⟨hc, hin, hty, hnm⟩, hj, hd1, hfin, hfC, hlink, hsm⟩ := hF _ hm
    rw [hq] at hx
    rcases st with _ | ⟨v, _ | ⟨x | (_ | a), r⟩⟩
    · cases hx
    · cases hx
    · cases hx
    · cases hx
    · unfold xPutf at hx
      dsimp only at hx
      split at hx
      · rename_i hB
        rcases hg : hG h a with _ | (c1 | (c1 | ⟨c2, fs⟩)) <;> rw [hg] at hx <;> dsimp only at hx
        · cases hx
        · cases hx
        · cases hx
        · split at hx
          · rename_i hci
            obtain ⟨rfl, hl⟩ := hci
            obtain ⟨rfl, rfl, rfl, rfl⟩ := mNx_inj hx
            intro H locs cells slots lr P
            dsimp only at hlink hj hsm hc hd1 hfin hfC
            rw [e1, e2, ← ho] at hlink
            obtain ⟨hn, hft⟩ := mTyp_narrow hB.2.2
            have K := C.2.2.2.2.2.1
            have hts := C.2.2.2.2.1
            have hap := va_apart (own := (rN M).cls) hts hin ty0 hty hnm K.1 hc
            obtain ⟨rr, h1, cell, q1, q2, q3, q4⟩ := mAt1 P.2.1 hg
            have hr : rr = (Cn, T, N) := Option.some.inj (h1.symm.trans hc)
            subst hr
            obtain ⟨hS, hfc, kC, hkC, hkind⟩ := K.1.1 _ _ hc
            obtain ⟨cf, kf, fi, f, hi, hsl⟩ := hS j hj
            have hst := (u_facts hfc hkC (u_lays hts hin hj) hi).1
            have fin_ : ∀ (H1 : Heap), H1[a]? = some (cell.setSlot f.slot (mvV v)) → H1.size = H.size → (∀ q, q ≠ a → H1[q]? = H[q]?) → W p l e R s m args below meth c H1 (locs ++ [⟨a, f.slot⟩]) cells slots Q (F0 m (pc + 3) lr (r.map mvV)) := by
              intro H1 ee z oq
              refine k H1 _ cells slots lr ⟨P.1, P.2.1.set z oq ?_ trivial, P.2.2.1.put z oq hB.1, P.2.2.2⟩
              rw [hsl] at ee
              refine ⟨_, hc, t_OB.to (V := updV (vp_V (fs.map mvV)) j (mvV v)) ⟨_, ee, q2, q3, t_set q4 hap hj (mvV v)⟩ (fun y _ => ?_)⟩
              show _ = vp_V ((fs.set j v).map mvV) y
              rw [List.map_set]
              exact vp_updV_set (by rw [List.length_map]; exact hl) (mvV v) y
            have hsm' := hsame_of (A := fun _ => True) hts hsm
            cases hfb : fin with
            | false =>
              rw [hfb] at hfin
              have hlay := hts _ (hin _ (u_in_lay hj))
              unfold u_lay at hlay
              rw [if_neg (by rw [hfin]; decide)] at hlay
              have h6 := u_store hfc hkC hkind hlay hi hd1 hn hft
              rcases hlink with hlink | ⟨⟨host, hlink⟩, -, -⟩
              · exact W.putK C.1 C.2.1 (f := f) ⟨C.2.2.2.1, hts _ hlink, ⟨_, _, _, hsm' _ hi⟩, hst⟩ (by rw [q2]; exact h6) q1 q3 (by rw [hsl]; exact k2_hasslot (q4 j hj)) rfl rfl hd fin_
              · exact va_WputK C.1 C.2.1 (f := f) C.2.2.2.1 (va_Nw.use rfl (K.2.1 _ hlink)) (hsm' _ hi) hst (by rw [q2]; exact h6) q1 q3 (by rw [hsl]; exact k2_hasslot (q4 j hj)) rfl rfl hd fin_
            | true =>
              rw [hfb] at hfin hB
              obtain ⟨hB1, hB2, hB3⟩ := hB
              obtain ⟨hI, hcp⟩ := hB2 rfl
              have hlay := hts _ (hin _ (u_in_lay hj))
              unfold u_lay at hlay
              rw [if_pos hfin] at hlay
              have hdecl : (T j).1 = (rN M).cls := by rw [hfC hfb, ho]; exact (cp_ci hc (hcp.elim (fun q => Or.inl q.1) Or.inr) (by
                rcases hcp with h1 | h1
                · exact h1.2.elim (fun q => Or.inl q) (fun q => Or.inr q)
                · exact Or.inr h1.1)).symm
              have hcf : m.cls = cf := by
                obtain ⟨_, _, c', _, _, _, -, -, hf', -, -, -, hown2, -⟩ := Cond.laysFinal_spec hlay
                have ee : c' = cf := by have := hi.symm.trans hf'; simp at this; exact this.1.symm
                rw [hdecl] at hown2
                rw [← ee]; exact Option.some.inj (C.2.2.2.1.symm.trans hown2)
              have h6 := u_fits hfc hkC hkind (Or.inr hlay) hi hd1 hn hft
              rcases hlink with hlink | ⟨⟨host, hlink⟩, hne, hne2⟩
              · exact W.putFinK C.1 C.2.1 C.2.2.2.1 (hts _ hlink) (hsm' _ hi) hst hcf (by rw [C.2.2.2.2.2.2.2.2.1]; exact eq_of_beq hI) (by rw [q2]; exact h6) q1 q3 (by rw [hsl]; exact k2_hasslot (q4 j hj)) rfl rfl hd fin_
              · rcases hcp with h1 | h1
                · exact absurd h1.1 hne
                · exact absurd h1.1 hne2
          · cases hx
      · cases hx
end FIELDK
