/-! SOUNDNESS OF A RUN -/
set_option maxRecDepth 100000
/-- the heap grows -/
def mLe (h h' : MH) : Prop := h.1 ≤ h'.1 ∧ h.2.1 ≤ h'.2.1
theorem mLe.rf {h : MH} : mLe h h := ⟨Nat.le_refl _, Nat.le_refl _⟩
theorem mLe.tr {a b c : MH} (h1 : mLe a b) (h2 : mLe b c) : mLe a c := ⟨Nat.le_trans h1.1 h2.1, Nat.le_trans h1.2 h2.2⟩
/-- the heap behind a step -/
def msH : MS → MH
  | .inl f => f.2.2.2
  | .inr (.inl q) => q.2.2.2.2
  | .inr (.inr (.inl q)) => q.2
  | .inr (.inr (.inr q)) => q.2
theorem mNx_le {pc : Nat} {ls : ML} {st : List MV} {h h0 : MH} {F : MS} (hx : mNx pc ls st h = some F) (h1 : mLe h0 h) : mLe h0 (msH F) := by
  cases hx
  exact h1
theorem mGo_le {pc : Nat} {off : Int} {ls : ML} {st : List MV} {h h0 : MH} {F : MS} (hx : mGo pc off ls st h = some F) (h1 : mLe h0 h) : mLe h0 (msH F) := by
  unfold mGo at hx
  split at hx
  · exact mNx_le hx h1
  · cases hx
theorem hS_le {h : MH} {a : Nat} {c : MC} : mLe h (hS h a c) := ⟨Nat.le_refl _, Nat.le_refl _⟩
theorem hN_le {h : MH} {n : Nat} {c : MC} : mLe h (hN h n c) := ⟨Nat.le_succ _, Nat.le_add_right _ _⟩
theorem hGrid_le {h : MH} {n k : Nat} : mLe h (hGrid h n k) := ⟨by show h.1 ≤ h.1 + 1 + n; omega, by show h.2.1 ≤ h.2.1 + n + n * k; omega⟩
theorem xC_le (v : Int32) (pc len : Nat) (ls : ML) (st : List MV) (h : MH) {F : MS} (hx : xC v pc len ls st h = some F) : mLe h (msH F) := by
  unfold xC at hx
  repeat' split at hx
  all_goals first | exact mNx_le hx mLe.rf | exact mNx_le hx hS_le | exact mNx_le hx hN_le | exact mNx_le hx hGrid_le | exact mGo_le hx mLe.rf | (cases hx; exact mLe.rf) | cases hx
theorem x1_le (f : Int32 → Int32) (pc : Nat) (ls : ML) (st : List MV) (h : MH) {F : MS} (hx : x1 f pc ls st h = some F) : mLe h (msH F) := by
  unfold x1 at hx
  repeat' split at hx
  all_goals first | exact mNx_le hx mLe.rf | exact mNx_le hx hS_le | exact mNx_le hx hN_le | exact mNx_le hx hGrid_le | exact mGo_le hx mLe.rf | (cases hx; exact mLe.rf) | cases hx
theorem x2_le (f : Int32 → Int32 → Int32) (pc : Nat) (ls : ML) (st : List MV) (h : MH) {F : MS} (hx : x2 f pc ls st h = some F) : mLe h (msH F) := by
  unfold x2 at hx
  repeat' split at hx
  all_goals first | exact mNx_le hx mLe.rf | exact mNx_le hx hS_le | exact mNx_le hx hN_le | exact mNx_le hx hGrid_le | exact mGo_le hx mLe.rf | (cases hx; exact mLe.rf) | cases hx
theorem x2z_le (f : Int32 → Int32 → Int32) (pc : Nat) (ls : ML) (st : List MV) (h : MH) {F : MS} (hx : x2z f pc ls st h = some F) : mLe h (msH F) := by
  unfold x2z at hx
  repeat' split at hx
  all_goals first | exact mNx_le hx mLe.rf | exact mNx_le hx hS_le | exact mNx_le hx hN_le | exact mNx_le hx hGrid_le | exact mGo_le hx mLe.rf | (cases hx; exact mLe.rf) | cases hx
theorem xIld_le (i pc len : Nat) (ls : ML) (st : List MV) (h : MH) {F : MS} (hx : xIld i pc len ls st h = some F) : mLe h (msH F) := by
  unfold xIld at hx
  repeat' split at hx
  all_goals first | exact mNx_le hx mLe.rf | exact mNx_le hx hS_le | exact mNx_le hx hN_le | exact mNx_le hx hGrid_le | exact mGo_le hx mLe.rf | (cases hx; exact mLe.rf) | cases hx
theorem xAld_le (i pc len : Nat) (ls : ML) (st : List MV) (h : MH) {F : MS} (hx : xAld i pc len ls st h = some F) : mLe h (msH F) := by
  unfold xAld at hx
  repeat' split at hx
  all_goals first | exact mNx_le hx mLe.rf | exact mNx_le hx hS_le | exact mNx_le hx hN_le | exact mNx_le hx hGrid_le | exact mGo_le hx mLe.rf | (cases hx; exact mLe.rf) | cases hx
theorem xIst_le (i pc len : Nat) (ls : ML) (st : List MV) (h : MH) {F : MS} (hx : xIst i pc len ls st h = some F) : mLe h (msH F) := by
  unfold xIst at hx
  repeat' split at hx
  all_goals first | exact mNx_le hx mLe.rf | exact mNx_le hx hS_le | exact mNx_le hx hN_le | exact mNx_le hx hGrid_le | exact mGo_le hx mLe.rf | (cases hx; exact mLe.rf) | cases hx
theorem xAst_le (i pc len : Nat) (ls : ML) (st : List MV) (h : MH) {F : MS} (hx : xAst i pc len ls st h = some F) : mLe h (msH F) := by
  unfold xAst at hx
  repeat' split at hx
  all_goals first | exact mNx_le hx mLe.rf | exact mNx_le hx hS_le | exact mNx_le hx hN_le | exact mNx_le hx hGrid_le | exact mGo_le hx mLe.rf | (cases hx; exact mLe.rf) | cases hx
theorem xInc_le (i : Nat) (n : Int) (pc : Nat) (ls : ML) (st : List MV) (h : MH) {F : MS} (hx : xInc i n pc ls st h = some F) : mLe h (msH F) := by
  unfold xInc at hx
  repeat' split at hx
  all_goals first | exact mNx_le hx mLe.rf | exact mNx_le hx hS_le | exact mNx_le hx hN_le | exact mNx_le hx hGrid_le | exact mGo_le hx mLe.rf | (cases hx; exact mLe.rf) | cases hx
theorem xIf_le (c : ClassFile.Cond) (off : Int) (pc : Nat) (ls : ML) (st : List MV) (h : MH) {F : MS} (hx : xIf c off pc ls st h = some F) : mLe h (msH F) := by
  unfold xIf at hx
  repeat' split at hx
  all_goals first | exact mNx_le hx mLe.rf | exact mNx_le hx hS_le | exact mNx_le hx hN_le | exact mNx_le hx hGrid_le | exact mGo_le hx mLe.rf | (cases hx; exact mLe.rf) | cases hx
theorem xIcmp_le (c : ClassFile.Cond) (off : Int) (pc : Nat) (ls : ML) (st : List MV) (h : MH) {F : MS} (hx : xIcmp c off pc ls st h = some F) : mLe h (msH F) := by
  unfold xIcmp at hx
  repeat' split at hx
  all_goals first | exact mNx_le hx mLe.rf | exact mNx_le hx hS_le | exact mNx_le hx hN_le | exact mNx_le hx hGrid_le | exact mGo_le hx mLe.rf | (cases hx; exact mLe.rf) | cases hx
theorem xAcmp_le (c : ClassFile.ACond) (off : Int) (pc : Nat) (ls : ML) (st : List MV) (h : MH) {F : MS} (hx : xAcmp c off pc ls st h = some F) : mLe h (msH F) := by
  unfold xAcmp at hx
  repeat' split at hx
  all_goals first | exact mNx_le hx mLe.rf | exact mNx_le hx hS_le | exact mNx_le hx hN_le | exact mNx_le hx hGrid_le | exact mGo_le hx mLe.rf | (cases hx; exact mLe.rf) | cases hx
theorem xNull_le (off : Int) (pc : Nat) (ls : ML) (st : List MV) (h : MH) {F : MS} (hx : xNull off pc ls st h = some F) : mLe h (msH F) := by
  unfold xNull at hx
  repeat' split at hx
  all_goals first | exact mNx_le hx mLe.rf | exact mNx_le hx hS_le | exact mNx_le hx hN_le | exact mNx_le hx hGrid_le | exact mGo_le hx mLe.rf | (cases hx; exact mLe.rf) | cases hx
theorem xNonnull_le (off : Int) (pc : Nat) (ls : ML) (st : List MV) (h : MH) {F : MS} (hx : xNonnull off pc ls st h = some F) : mLe h (msH F) := by
  unfold xNonnull at hx
  repeat' split at hx
  all_goals first | exact mNx_le hx mLe.rf | exact mNx_le hx hS_le | exact mNx_le hx hN_le | exact mNx_le hx hGrid_le | exact mGo_le hx mLe.rf | (cases hx; exact mLe.rf) | cases hx
theorem xDup_le (pc : Nat) (ls : ML) (st : List MV) (h : MH) {F : MS} (hx : xDup pc ls st h = some F) : mLe h (msH F) := by
  unfold xDup at hx
  repeat' split at hx
  all_goals first | exact mNx_le hx mLe.rf | exact mNx_le hx hS_le | exact mNx_le hx hN_le | exact mNx_le hx hGrid_le | exact mGo_le hx mLe.rf | (cases hx; exact mLe.rf) | cases hx
theorem xDup2_le (pc : Nat) (ls : ML) (st : List MV) (h : MH) {F : MS} (hx : xDup2 pc ls st h = some F) : mLe h (msH F) := by
  unfold xDup2 at hx
  repeat' split at hx
  all_goals first | exact mNx_le hx mLe.rf | exact mNx_le hx hS_le | exact mNx_le hx hN_le | exact mNx_le hx hGrid_le | exact mGo_le hx mLe.rf | (cases hx; exact mLe.rf) | cases hx
theorem xDupX1_le (pc : Nat) (ls : ML) (st : List MV) (h : MH) {F : MS} (hx : xDupX1 pc ls st h = some F) : mLe h (msH F) := by
  unfold xDupX1 at hx
  repeat' split at hx
  all_goals first | exact mNx_le hx mLe.rf | exact mNx_le hx hS_le | exact mNx_le hx hN_le | exact mNx_le hx hGrid_le | exact mGo_le hx mLe.rf | (cases hx; exact mLe.rf) | cases hx
theorem xPop_le (pc : Nat) (ls : ML) (st : List MV) (h : MH) {F : MS} (hx : xPop pc ls st h = some F) : mLe h (msH F) := by
  unfold xPop at hx
  repeat' split at hx
  all_goals first | exact mNx_le hx mLe.rf | exact mNx_le hx hS_le | exact mNx_le hx hN_le | exact mNx_le hx hGrid_le | exact mGo_le hx mLe.rf | (cases hx; exact mLe.rf) | cases hx
theorem xArrI_le (g : Nat → Bool) (pc : Nat) (ls : ML) (st : List MV) (h : MH) {F : MS} (hx : xArrI g pc ls st h = some F) : mLe h (msH F) := by
  unfold xArrI at hx
  repeat' split at hx
  all_goals first | exact mNx_le hx mLe.rf | exact mNx_le hx hS_le | exact mNx_le hx hN_le | exact mNx_le hx hGrid_le | exact mGo_le hx mLe.rf | (cases hx; exact mLe.rf) | cases hx
theorem xArrQ_le (pc : Nat) (ls : ML) (st : List MV) (h : MH) {F : MS} (hx : xArrQ pc ls st h = some F) : mLe h (msH F) := by
  unfold xArrQ at hx
  repeat' split at hx
  all_goals first | exact mNx_le hx mLe.rf | exact mNx_le hx hS_le | exact mNx_le hx hN_le | exact mNx_le hx hGrid_le | exact mGo_le hx mLe.rf | (cases hx; exact mLe.rf) | cases hx
theorem xIastore_le (B pc : Nat) (ls : ML) (st : List MV) (h : MH) {F : MS} (hx : xIastore B pc ls st h = some F) : mLe h (msH F) := by
  unfold xIastore at hx
  repeat' split at hx
  all_goals first | exact mNx_le hx mLe.rf | exact mNx_le hx hS_le | exact mNx_le hx hN_le | exact mNx_le hx hGrid_le | exact mGo_le hx mLe.rf | (cases hx; exact mLe.rf) | cases hx
theorem xBastore_le (B pc : Nat) (ls : ML) (st : List MV) (h : MH) {F : MS} (hx : xBastore B pc ls st h = some F) : mLe h (msH F) := by
  unfold xBastore at hx
  repeat' split at hx
  all_goals first | exact mNx_le hx mLe.rf | exact mNx_le hx hS_le | exact mNx_le hx hN_le | exact mNx_le hx hGrid_le | exact mGo_le hx mLe.rf | (cases hx; exact mLe.rf) | cases hx
theorem xAastore_le (B pc : Nat) (ls : ML) (st : List MV) (h : MH) {F : MS} (hx : xAastore B pc ls st h = some F) : mLe h (msH F) := by
  unfold xAastore at hx
  repeat' split at hx
  all_goals first | exact mNx_le hx mLe.rf | exact mNx_le hx hS_le | exact mNx_le hx hN_le | exact mNx_le hx hGrid_le | exact mGo_le hx mLe.rf | (cases hx; exact mLe.rf) | cases hx
theorem xAlen_le (pc : Nat) (ls : ML) (st : List MV) (h : MH) {F : MS} (hx : xAlen pc ls st h = some F) : mLe h (msH F) := by
  unfold xAlen at hx
  repeat' split at hx
  all_goals first | exact mNx_le hx mLe.rf | exact mNx_le hx hS_le | exact mNx_le hx hN_le | exact mNx_le hx hGrid_le | exact mGo_le hx mLe.rf | (cases hx; exact mLe.rf) | cases hx
theorem xNewa_le (t : ArrayType) (pc : Nat) (ls : ML) (st : List MV) (h : MH) {F : MS} (hx : xNewa t pc ls st h = some F) : mLe h (msH F) := by
  unfold xNewa at hx
  repeat' split at hx
  all_goals first | exact mNx_le hx mLe.rf | exact mNx_le hx hS_le | exact mNx_le hx hN_le | exact mNx_le hx hGrid_le | exact mGo_le hx mLe.rf | (cases hx; exact mLe.rf) | cases hx
theorem xAnewa_le (t : Option Nat) (pc : Nat) (ls : ML) (st : List MV) (h : MH) {F : MS} (hx : xAnewa t pc ls st h = some F) : mLe h (msH F) := by
  unfold xAnewa at hx
  repeat' split at hx
  all_goals first | exact mNx_le hx mLe.rf | exact mNx_le hx hS_le | exact mNx_le hx hN_le | exact mNx_le hx hGrid_le | exact mGo_le hx mLe.rf | (cases hx; exact mLe.rf) | cases hx
theorem xMulti_le (ok : Bool) (pc : Nat) (ls : ML) (st : List MV) (h : MH) {F : MS} (hx : xMulti ok pc ls st h = some F) : mLe h (msH F) := by
  unfold xMulti at hx
  repeat' split at hx
  all_goals first | exact mNx_le hx mLe.rf | exact mNx_le hx hS_le | exact mNx_le hx hN_le | exact mNx_le hx hGrid_le | exact mGo_le hx mLe.rf | (cases hx; exact mLe.rf) | cases hx
theorem xGetf_le (q : Option (Nat × Nat × FieldType × Bool)) (pc : Nat) (ls : ML) (st : List MV) (h : MH) {F : MS} (hx : xGetf q pc ls st h = some F) : mLe h (msH F) := by
  unfold xGetf at hx
  repeat' split at hx
  all_goals first | exact mNx_le hx mLe.rf | exact mNx_le hx hS_le | exact mNx_le hx hN_le | exact mNx_le hx hGrid_le | exact mGo_le hx mLe.rf | (cases hx; exact mLe.rf) | cases hx
theorem xPutf_le (B cp : Nat) (q : Option (Nat × Nat × FieldType × Bool)) (isI : Bool) (pc : Nat) (ls : ML) (st : List MV) (h : MH) {F : MS} (hx : xPutf B cp q isI pc ls st h = some F) : mLe h (msH F) := by
  unfold xPutf at hx
  repeat' split at hx
  all_goals first | exact mNx_le hx mLe.rf | exact mNx_le hx hS_le | exact mNx_le hx hN_le | exact mNx_le hx hGrid_le | exact mGo_le hx mLe.rf | (cases hx; exact mLe.rf) | cases hx
theorem xNew_le (q : Option (Nat × List MV)) (pc : Nat) (ls : ML) (st : List MV) (h : MH) {F : MS} (hx : xNew q pc ls st h = some F) : mLe h (msH F) := by
  unfold xNew at hx
  repeat' split at hx
  all_goals first | exact mNx_le hx mLe.rf | exact mNx_le hx hS_le | exact mNx_le hx hN_le | exact mNx_le hx hGrid_le | exact mGo_le hx mLe.rf | (cases hx; exact mLe.rf) | cases hx
theorem xCast_le (q : Option Nat) (pc : Nat) (ls : ML) (st : List MV) (h : MH) {F : MS} (hx : xCast q pc ls st h = some F) : mLe h (msH F) := by
  unfold xCast at hx
  repeat' split at hx
  all_goals first | exact mNx_le hx mLe.rf | exact mNx_le hx hS_le | exact mNx_le hx hN_le | exact mNx_le hx hGrid_le | exact mGo_le hx mLe.rf | (cases hx; exact mLe.rf) | cases hx
theorem xTsw_le (dflt lo hi : Int) (offs : Array Int) (pc : Nat) (ls : ML) (st : List MV) (h : MH) {F : MS} (hx : xTsw dflt lo hi offs pc ls st h = some F) : mLe h (msH F) := by
  unfold xTsw at hx
  repeat' split at hx
  all_goals first | exact mNx_le hx mLe.rf | exact mNx_le hx hS_le | exact mNx_le hx hN_le | exact mNx_le hx hGrid_le | exact mGo_le hx mLe.rf | (cases hx; exact mLe.rf) | cases hx
theorem xLsw_le (dflt : Int) (ps : Array (Int × Int)) (pc : Nat) (ls : ML) (st : List MV) (h : MH) {F : MS} (hx : xLsw dflt ps pc ls st h = some F) : mLe h (msH F) := by
  unfold xLsw at hx
  repeat' split at hx
  all_goals first | exact mNx_le hx mLe.rf | exact mNx_le hx hS_le | exact mNx_le hx hN_le | exact mNx_le hx hGrid_le | exact mGo_le hx mLe.rf | (cases hx; exact mLe.rf) | cases hx
theorem xRet_le (ty : Option FieldType) (st : List MV) (h : MH) {F : MS} (hx : xRet ty st h = some F) : mLe h (msH F) := by
  unfold xRet at hx
  repeat' split at hx
  all_goals first | exact mNx_le hx mLe.rf | exact mNx_le hx hS_le | exact mNx_le hx hN_le | exact mNx_le hx hGrid_le | exact mGo_le hx mLe.rf | (cases hx; exact mLe.rf) | cases hx
theorem xAret_le (ty : Option FieldType) (st : List MV) (h : MH) {F : MS} (hx : xAret ty st h = some F) : mLe h (msH F) := by
  unfold xAret at hx
  repeat' split at hx
  all_goals first | exact mNx_le hx mLe.rf | exact mNx_le hx hS_le | exact mNx_le hx hN_le | exact mNx_le hx hGrid_le | exact mGo_le hx mLe.rf | (cases hx; exact mLe.rf) | cases hx
theorem xVret_le (ty : Option FieldType) (st : List MV) (h : MH) {F : MS} (hx : xVret ty st h = some F) : mLe h (msH F) := by
  unfold xVret at hx
  repeat' split at hx
  all_goals first | exact mNx_le hx mLe.rf | exact mNx_le hx hS_le | exact mNx_le hx hN_le | exact mNx_le hx hGrid_le | exact mGo_le hx mLe.rf | (cases hx; exact mLe.rf) | cases hx
theorem xThrow_le (st : List MV) (h : MH) {F : MS} (hx : xThrow st h = some F) : mLe h (msH F) := by
  unfold xThrow at hx
  repeat' split at hx
  all_goals first | exact mNx_le hx mLe.rf | exact mNx_le hx hS_le | exact mNx_le hx hN_le | exact mNx_le hx hGrid_le | exact mGo_le hx mLe.rf | (cases hx; exact mLe.rf) | cases hx
theorem xConst_le (M : MRec) (sv : Nat → Option Nat) (i pc : Nat) (ls : ML) (st : List MV) (h : MH) {F : MS} (hx : xConst M sv i pc ls st h = some F) : mLe h (msH F) := by
  unfold xConst at hx
  repeat' split at hx
  all_goals first | exact mNx_le hx mLe.rf | exact mNx_le hx hS_le | exact mNx_le hx hN_le | exact mNx_le hx hGrid_le | exact mGo_le hx mLe.rf | (cases hx; exact mLe.rf) | cases hx
theorem xStat_le (M : MRec) (sv : Nat → Option Nat) (i pc : Nat) (ls : ML) (st : List MV) (h : MH) {F : MS} (hx : xStat M sv i pc ls st h = some F) : mLe h (msH F) := by
  unfold xStat at hx
  repeat' split at hx
  all_goals first | exact mNx_le hx mLe.rf | exact mNx_le hx hS_le | exact mNx_le hx hN_le | exact mNx_le hx hGrid_le | exact mGo_le hx mLe.rf | (cases hx; exact mLe.rf) | cases hx
theorem xCopy_le (B pc : Nat) (ls : ML) (st : List MV) (h : MH) {F : MS} (hx : xCopy B pc ls st h = some F) : mLe h (msH F) := by
  unfold xCopy at hx
  repeat' split at hx
  all_goals first | exact mNx_le hx mLe.rf | exact mNx_le hx hS_le | exact mNx_le hx hN_le | exact mNx_le hx hGrid_le | exact mGo_le hx mLe.rf | (cases hx; exact mLe.rf) | cases hx
theorem xMirror_le (sv : Nat → Option Nat) (pc : Nat) (ls : ML) (st : List MV) (h : MH) {F : MS} (hx : xMirror sv pc ls st h = some F) : mLe h (msH F) := by
  unfold xMirror at hx
  repeat' split at hx
  all_goals first | exact mNx_le hx mLe.rf | exact mNx_le hx hS_le | exact mNx_le hx hN_le | exact mNx_le hx hGrid_le | exact mGo_le hx mLe.rf | (cases hx; exact mLe.rf) | cases hx
theorem xObj_le (pc : Nat) (ls : ML) (st : List MV) (h : MH) {F : MS} (hx : xObj pc ls st h = some F) : mLe h (msH F) := by
  unfold xObj at hx
  repeat' split at hx
  all_goals first | exact mNx_le hx mLe.rf | exact mNx_le hx hS_le | exact mNx_le hx hN_le | exact mNx_le hx hGrid_le | exact mGo_le hx mLe.rf | (cases hx; exact mLe.rf) | cases hx
theorem xMath_le (mn : Bool) (pc : Nat) (ls : ML) (st : List MV) (h : MH) {F : MS} (hx : xMath mn pc ls st h = some F) : mLe h (msH F) := by
  unfold xMath at hx
  repeat' split at hx
  all_goals first | exact mNx_le hx mLe.rf | exact mNx_le hx hS_le | exact mNx_le hx hN_le | exact mNx_le hx hGrid_le | exact mGo_le hx mLe.rf | (cases hx; exact mLe.rf) | cases hx
theorem xCallV_le (q : Option (MRec × Nat × Nat)) (len pc : Nat) (st : List MV) (h : MH) {F : MS} (hx : xCallV q len pc st h = some F) : mLe h (msH F) := by
  unfold xCallV at hx
  repeat' split at hx
  all_goals first | exact mNx_le hx mLe.rf | exact mNx_le hx hS_le | exact mNx_le hx hN_le | exact mNx_le hx hGrid_le | exact mGo_le hx mLe.rf | (cases hx; exact mLe.rf) | cases hx
theorem xCallI_le (q : Option (MRec × Nat)) (pc : Nat) (st : List MV) (h : MH) {F : MS} (hx : xCallI q pc st h = some F) : mLe h (msH F) := by
  unfold xCallI at hx
  repeat' split at hx
  all_goals first | exact mNx_le hx mLe.rf | exact mNx_le hx hS_le | exact mNx_le hx hN_le | exact mNx_le hx hGrid_le | exact mGo_le hx mLe.rf | (cases hx; exact mLe.rf) | cases hx
theorem xCallS_le (q : Option (MRec × Nat)) (pc : Nat) (st : List MV) (h : MH) {F : MS} (hx : xCallS q pc st h = some F) : mLe h (msH F) := by
  unfold xCallS at hx
  repeat' split at hx
  all_goals first | exact mNx_le hx mLe.rf | exact mNx_le hx hS_le | exact mNx_le hx hN_le | exact mNx_le hx hGrid_le | exact mGo_le hx mLe.rf | (cases hx; exact mLe.rf) | cases hx
theorem ex_le {B : Nat} {sv : Nat → Option Nat} {M : MRec} {pc : Nat} {ls : ML} {st : List MV} {h : MH} {i : Instr} {F : MS} (hx : ex B sv M pc ls st h i = some F) : mLe h (msH F) := by
  unfold ex at hx
  split at hx
  all_goals first
    | exact mNx_le hx mLe.rf
    | exact mGo_le hx mLe.rf
    | exact xC_le _ _ _ _ _ _ hx
    | exact x1_le _ _ _ _ _ hx
    | exact x2_le _ _ _ _ _ hx
    | exact x2z_le _ _ _ _ _ hx
    | exact xIld_le _ _ _ _ _ _ hx
    | exact xAld_le _ _ _ _ _ _ hx
    | exact xIst_le _ _ _ _ _ _ hx
    | exact xAst_le _ _ _ _ _ _ hx
    | exact xInc_le _ _ _ _ _ _ hx
    | exact xIf_le _ _ _ _ _ _ hx
    | exact xIcmp_le _ _ _ _ _ _ hx
    | exact xAcmp_le _ _ _ _ _ _ hx
    | exact xNull_le _ _ _ _ _ hx
    | exact xNonnull_le _ _ _ _ _ hx
    | exact xDup_le _ _ _ _ hx
    | exact xDup2_le _ _ _ _ hx
    | exact xDupX1_le _ _ _ _ hx
    | exact xPop_le _ _ _ _ hx
    | exact xArrI_le _ _ _ _ _ hx
    | exact xArrQ_le _ _ _ _ hx
    | exact xIastore_le _ _ _ _ _ hx
    | exact xBastore_le _ _ _ _ _ hx
    | exact xAastore_le _ _ _ _ _ hx
    | exact xAlen_le _ _ _ _ hx
    | exact xNewa_le _ _ _ _ _ hx
    | exact xAnewa_le _ _ _ _ _ hx
    | exact xMulti_le _ _ _ _ _ hx
    | exact xGetf_le _ _ _ _ _ hx
    | exact xPutf_le _ _ _ _ _ _ _ _ hx
    | exact xNew_le _ _ _ _ _ hx
    | exact xCast_le _ _ _ _ _ hx
    | exact xTsw_le _ _ _ _ _ _ _ _ hx
    | exact xLsw_le _ _ _ _ _ _ hx
    | exact xRet_le _ _ _ hx
    | exact xAret_le _ _ _ hx
    | exact xVret_le _ _ _ hx
    | exact xThrow_le _ _ hx
    | exact xConst_le _ _ _ _ _ _ _ hx
    | exact xStat_le _ _ _ _ _ _ _ hx
    | exact xCopy_le _ _ _ _ _ hx
    | exact xMirror_le _ _ _ _ _ hx
    | exact xObj_le _ _ _ _ hx
    | exact xMath_le _ _ _ _ _ hx
    | exact xCallV_le _ _ _ _ _ hx
    | exact xCallI_le _ _ _ _ hx
    | exact xCallS_le _ _ _ _ hx
    | (split at hx <;> first | exact xMirror_le _ _ _ _ _ hx | exact xCallV_le _ _ _ _ _ hx | exact xCopy_le _ _ _ _ _ hx | exact xObj_le _ _ _ _ hx | exact xCallI_le _ _ _ _ hx | (split at hx <;> first | exact xMath_le _ _ _ _ _ hx | exact xCallS_le _ _ _ _ hx))
    | cases hx
theorem run_le {B : Nat} {sv : Nat → Option Nat} : ∀ (n d : Nat) (M : MRec) (pc : Nat) (ls : ML) (st : List MV) (h : MH) (r : Option MV ⊕ Nat) (h' : MH), mRun B sv n d M (pc, ls, st, h) = some (r, h') → mLe h h' := by
  intro n
  induction n with
  | zero => intro d M pc ls st h r h' hx; cases hx
  | succ n ih =>
    intro d M pc ls st h r h' hx
    unfold mRun at hx
    split at hx
    · cases hx
    · rename_i i len hd
      split at hx
      · cases hx
      · rename_i f he
        split at he
        · exact mLe.tr (ex_le he) (ih _ _ _ _ _ _ _ _ hx)
        · cases he
      · rename_i M' as pc' rr h1 he
        split at he
        · have h2 : mLe h h1 := ex_le he
          split at hx
          · cases hx
          · split at hx
            · cases hx
            · rename_i v h3 hr
              exact mLe.tr h2 (mLe.tr (ih _ _ _ _ _ _ _ _ hr) (ih _ _ _ _ _ _ _ _ hx))
            · rename_i q h3 hr
              have h4 := mLe.tr h2 (ih _ _ _ _ _ _ _ _ hr)
              split at hx
              · cases hx
              · cases hx; exact h4
              · exact mLe.tr h4 (ih _ _ _ _ _ _ _ _ hx)
        · cases he
      · rename_i v h1 he
        split at he
        · cases hx
          exact ex_le he
        · cases he
      · rename_i q h1 he
        split at he
        · have h2 : mLe h h1 := ex_le he
          split at hx
          · cases hx
          · cases hx; exact h2
          · exact mLe.tr h2 (ih _ _ _ _ _ _ _ _ hx)
        · cases he
