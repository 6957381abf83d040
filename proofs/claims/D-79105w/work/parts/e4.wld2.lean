/-! THE CLASS'S METHODS, 25: an empty world -/
set_option maxRecDepth 100000
/-- a new cell, kept in field k of x -/
abbrev alC (t : CT) (kk : CK) (n x k : Nat) : CT := stC (newC t kk n (fun _ => 0)) x k ((nvC t : Nat) : Int)
section WL2
variable {T : Nat → Option CK} {w : Nat → Int} {τ t u : CT} {m c v : Int} {d x y o n i j k b : Nat} {kk : CK} {Q : Option AV → CT → Prop}
theorem alC_x (hx : x ≠ nvC t) : sg (alC t kk n x k) x j = if j = k then ((nvC t : Nat) : Int) else sg t x j := by
  rw [sg_st, sg_new hx]
theorem alC_n (hx : x ≠ nvC t) : sg (alC t kk n x k) (nvC t) = fun _ => 0 := by
  rw [sg_st' (Ne.symm hx), sg_nw]
theorem alC_o (h1 : y ≠ x) (h2 : y ≠ nvC t) : sg (alC t kk n x k) y = sg t y := by
  rw [sg_st' h1, sg_new h2]
theorem alC_D : (alC t kk n x k).2.1 y = if y = nvC t then some kk else t.2.1 y := rfl
/-- the five arrays of a world -/
abbrev w5C (t : CT) (x : Nat) : CT := alC (alC (alC (alC (alC t (ckI 1 120) 120 x 0) (ckI 0 120) 120 x 1) (ckR 1 10) 10 x 2) (ckR 2 3) 3 x 3) (ckI 0 8) 8 x 4
theorem w5_D : (w5C t x).2.1 y = if y = nvC t + 4 then some (ckI 0 8) else if y = nvC t + 3 then some (ckR 2 3) else if y = nvC t + 2 then some (ckR 1 10) else if y = nvC t + 1 then some (ckI 0 120) else if y = nvC t then some (ckI 1 120) else t.2.1 y := rfl
theorem w5_x (hx : x < nvC t) : sg (w5C t x) x j = if j < 5 then ((nvC t + j : Nat) : Int) else sg t x j := by
  have h : ∀ i : Nat, x ≠ nvC t + i := fun i => by omega
  show sg (alC (alC (alC (alC (alC t (ckI 1 120) 120 x 0) (ckI 0 120) 120 x 1) (ckR 1 10) 10 x 2) (ckR 2 3) 3 x 3) (ckI 0 8) 8 x 4) x j = _
  rw [alC_x (show x ≠ nvC t + 4 by omega), alC_x (show x ≠ nvC t + 3 by omega), alC_x (show x ≠ nvC t + 2 by omega), alC_x (show x ≠ nvC t + 1 by omega), alC_x (show x ≠ nvC t by omega)]
  by_cases h4 : j = 4
  · rw [if_pos h4, if_pos (by omega), h4]; rfl
  · rw [if_neg h4]
    by_cases h3 : j = 3
    · rw [if_pos h3, if_pos (by omega), h3]; rfl
    · rw [if_neg h3]
      by_cases h2 : j = 2
      · rw [if_pos h2, if_pos (by omega), h2]; rfl
      · rw [if_neg h2]
        by_cases h1 : j = 1
        · rw [if_pos h1, if_pos (by omega), h1]; rfl
        · rw [if_neg h1]
          by_cases h0 : j = 0
          · rw [if_pos h0, if_pos (by omega), h0]; rfl
          · rw [if_neg h0, if_neg (by omega)]
theorem w5_o (h1 : y ≠ x) (h2 : y < nvC t) : sg (w5C t x) y = sg t y := by
  show sg (alC (alC (alC (alC (alC t (ckI 1 120) 120 x 0) (ckI 0 120) 120 x 1) (ckR 1 10) 10 x 2) (ckR 2 3) 3 x 3) (ckI 0 8) 8 x 4) y = _
  rw [alC_o h1 (show y ≠ nvC t + 4 by omega), alC_o h1 (show y ≠ nvC t + 3 by omega), alC_o h1 (show y ≠ nvC t + 2 by omega), alC_o h1 (show y ≠ nvC t + 1 by omega), alC_o h1 (show y ≠ nvC t by omega)]
theorem w5_n (hx : x < nvC t) (hi : i < 5) : sg (w5C t x) (nvC t + i) = fun _ => 0 := by
  have h : ∀ i : Nat, x ≠ nvC t + i := fun i => by omega
  show sg (alC (alC (alC (alC (alC t (ckI 1 120) 120 x 0) (ckI 0 120) 120 x 1) (ckR 1 10) 10 x 2) (ckR 2 3) 3 x 3) (ckI 0 8) 8 x 4) (nvC t + i) = _
  have hx' := fun i => Ne.symm (h i)
  by_cases h4 : i = 4
  · subst h4; exact alC_n (t := alC (alC (alC (alC t (ckI 1 120) 120 x 0) (ckI 0 120) 120 x 1) (ckR 1 10) 10 x 2) (ckR 2 3) 3 x 3) (h 4)
  · rw [alC_o (hx' i) (show nvC t + i ≠ nvC t + 4 by omega)]
    by_cases h3 : i = 3
    · subst h3; exact alC_n (t := alC (alC (alC t (ckI 1 120) 120 x 0) (ckI 0 120) 120 x 1) (ckR 1 10) 10 x 2) (h 3)
    · rw [alC_o (hx' i) (show nvC t + i ≠ nvC t + 3 by omega)]
      by_cases h2 : i = 2
      · subst h2; exact alC_n (t := alC (alC t (ckI 1 120) 120 x 0) (ckI 0 120) 120 x 1) (h 2)
      · rw [alC_o (hx' i) (show nvC t + i ≠ nvC t + 2 by omega)]
        by_cases h1 : i = 1
        · subst h1; exact alC_n (t := alC t (ckI 1 120) 120 x 0) (h 1)
        · rw [alC_o (hx' i) (show nvC t + i ≠ nvC t + 1 by omega)]
          have h0 : i = 0 := by omega
          subst h0
          exact alC_n (h 0)
/-- an empty world: kinds and contents -/
def WE (t u : CT) (x : Nat) : Prop := (n0C u = n0C t ∧ nvC u = nvC t + 5 ∧ uC u = uC t + 261) ∧ (∀ y, u.2.1 y = (w5C t x).2.1 y) ∧ (∀ y, y ≠ x → y < nvC t → sg u y = sg t y) ∧ (∀ j, sg u x j = if j < 5 then ((nvC t + j : Nat) : Int) else if j < 7 then -5 else sg t x j) ∧ (∀ i, i < 5 → i ≠ 1 → sg u (nvC t + i) = fun _ => 0) ∧ (∀ j, j < 120 → sg u (nvC t + 1) j = -1)
theorem cc_wInit (hk : t.2.1 x = some woR) (hw : wrC t x) (hx : 110 ≤ x ∧ x < nvC t) : Ct T 0 rX1_init [.inr x] t (fun r u => none = r ∧ WE t u x) := by
  intro d hd
  refine Wc.nv (fun hnv => ?_)
  have hkn : ∀ t' : CT, t'.2.1 x = t.2.1 x → kd T t' x = some woR := fun t' h => kd_dyn hx.1 (h.trans hk)
  have e1 : ∀ z : Nat, x ≠ nvC t + z := fun z => by omega
  have k0 : kd T t x = some woR := hkn t rfl
  have k1 : kd T (newC t (ckI 1 120) 120 (fun _ => 0)) x = some woR := by rw [kd_new (e1 0)]; exact k0
  have k2 : kd T (newC (alC t (ckI 1 120) 120 x 0) (ckI 0 120) 120 (fun _ => 0)) x = some woR := by rw [kd_new (e1 1)]; exact k1
  have k3 : kd T (newC (alC (alC t (ckI 1 120) 120 x 0) (ckI 0 120) 120 x 1) (ckR 1 10) 10 (fun _ => 0)) x = some woR := by rw [kd_new (e1 2)]; exact k2
  have k4 : kd T (newC (alC (alC (alC t (ckI 1 120) 120 x 0) (ckI 0 120) 120 x 1) (ckR 1 10) 10 x 2) (ckR 2 3) 3 (fun _ => 0)) x = some woR := by rw [kd_new (e1 3)]; exact k3
  have k5 : kd T (newC (alC (alC (alC (alC t (ckI 1 120) 120 x 0) (ckI 0 120) 120 x 1) (ckR 1 10) 10 x 2) (ckR 2 3) 3 x 3) (ckI 0 8) 8 (fun _ => 0)) x = some woR := by rw [kd_new (e1 4)]; exact k4
  refine wc_aload_n dX1_init_0 rfl ?_
  refine wc_obj dX1_init_1 rfl (by rw [k0]; rfl) rfl ?_
  refine wc_aload_n dX1_init_4 rfl ?_
  refine wc_bipush dX1_init_5 (by decide) ?_
  refine wc_newI 1 (Or.inr (Or.inl ⟨rfl, rfl⟩)) dX1_init_7 ⟨by omega, by omega⟩ 120 rfl ?_
  refine wc_putR dX1_init_9 (kF1_9 rfl) rfl k1 rfl hw rfl ?_
  refine wc_aload_n dX1_init_12 rfl ?_
  refine wc_bipush dX1_init_13 (by decide) ?_
  refine wc_newI 0 (Or.inl ⟨rfl, rfl⟩) dX1_init_15 ⟨by omega, by omega⟩ 120 rfl ?_
  refine wc_putR dX1_init_17 (kF1_15 rfl) rfl k2 rfl hw rfl ?_
  refine wc_aload_n dX1_init_20 rfl ?_
  refine wc_bipush dX1_init_21 (by decide) ?_
  refine wc_newR dX1_init_23 (kA1_19 rfl) ⟨by omega, by omega⟩ 10 rfl ?_
  refine wc_putR dX1_init_26 (kF1_21 rfl) rfl k3 rfl hw rfl ?_
  refine wc_aload_n dX1_init_29 rfl ?_
  refine wc_iconst dX1_init_30 ?_
  refine wc_newR dX1_init_31 (kA1_25 rfl) ⟨by omega, by omega⟩ 3 rfl ?_
  refine wc_putR dX1_init_34 (kF1_27 rfl) rfl k4 rfl hw rfl ?_
  refine wc_aload_n dX1_init_37 rfl ?_
  refine wc_bipush dX1_init_38 (by decide) ?_
  refine wc_newI 0 (Or.inl ⟨rfl, rfl⟩) dX1_init_40 ⟨by omega, by omega⟩ 8 rfl ?_
  refine wc_putR dX1_init_42 (kF1_31 rfl) rfl k5 rfl hw rfl ?_
  refine wc_aload_n dX1_init_45 rfl ?_
  refine wc_bipush dX1_init_46 (by decide) ?_
  refine wc_putI dX1_init_48 (kF1_34 rfl) rfl k5 rfl hw (Or.inl rfl) ?_
  refine wc_aload_n dX1_init_51 rfl ?_
  refine wc_bipush dX1_init_52 (by decide) ?_
  refine wc_putI dX1_init_54 (kF1_38 rfl) rfl k5 rfl hw (Or.inl rfl) ?_
  refine wc_iconst dX1_init_57 ?_
  refine wc_istore_n dX1_init_58 rfl ?_
  refine (cc_wInit_loop (T := T) (t := stC (stC (w5C t x) x 5 (-5)) x 6 (-5)) (x := x) (a1 := nvC t + 1) (fun t' h => kd_dyn (by omega) (by rw [h]; show (w5C t x).2.1 (nvC t + 1) = _; rw [w5_D, if_neg (by omega), if_neg (by omega), if_neg (by omega), if_pos rfl])) (fun t' h => ⟨by omega, Or.inr (by unfold n0C; rw [h]; show n0C t ≤ nvC t + 1; omega)⟩) (fun t' h => kd_dyn hx.1 (by rw [h]; show (w5C t x).2.1 x = _; rw [w5_D, if_neg (by omega), if_neg (by omega), if_neg (by omega), if_neg (by omega), if_neg (by omega)]; exact hk)) (by omega) (by rw [sg_st, if_neg (by decide), sg_st, if_neg (by decide), w5_x hx.2, if_pos (by decide)]) 120 0 _ (by omega) rfl rfl rfl).mn (fun v u q => ⟨q.1, ?_⟩)
  rw [q.2]
  refine ⟨⟨rfl, rfl, rfl⟩, fun y => rfl, fun y h1 h2 => ?_, fun j => ?_, fun i hi hi1 => ?_, fun j hj => ?_⟩
  · rw [sg_fi' (by omega), sg_st' h1, sg_st' h1, w5_o h1 h2]
  · rw [sg_fi' (by omega), sg_st, sg_st, w5_x hx.2]
    by_cases h6 : j = 6
    · rw [if_pos h6, if_neg (by omega), if_pos (by omega)]
    · rw [if_neg h6]
      by_cases h5 : j = 5
      · rw [if_pos h5, if_neg (by omega), if_pos (by omega)]
      · rw [if_neg h5]
        by_cases h : j < 5
        · rw [if_pos h, if_pos h]
        · rw [if_neg h, if_neg h, if_neg (by omega)]
  · rw [sg_fi' (by omega), sg_st' (by omega), sg_st' (by omega), w5_n hx.2 hi]
  · rw [sg_fi, if_pos hj]
end WL2
