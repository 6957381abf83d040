/-! THE MODEL'S METHODS, 15: signs read, a command's refusal and its carrying out -/
set_option maxRecDepth 100000
def heF (tp : Nat → Int) (T p : Int) : Int := if p < T then tp p.toNat else -1
def setAF (τ : MT) (p f : Int) : MT := (fun j => if j = 16 then p else if j = 17 then f else τ.1 j, τ.2)
abbrev dig (c : Int) : Prop := 48 ≤ c ∧ c ≤ 57
def refF (w : Nat → Int) (l a b : Int) : Int := if l = 103 then (if ledF w < 0 then 5 else if 1 ≤ a ∧ a ≤ 40 then 0 else 6) else if l = 108 ∨ l = 120 then (if isM w a then 0 else 5) else
  if ¬ ((0 ≤ a ∧ a ≤ 11) ∧ 0 ≤ b ∧ b ≤ 9) then 1 else if l = 116 then 0 else if l = 97 ∧ w (72 + (12 * b + a)).toNat = 1 then 2 else if 0 ≤ onF w (12 * b + a) then 3 else if l = 97 ∧ w 0 = 10 then 4 else 0
def car1F (w : Nat → Int) (l a b : Int) : Nat → Int := if l = 97 then opnF w (12 * b + a) else if l = 111 then trnF w (12 * b + a) else if l = 120 then losF w a else if l = 103 then rndsF a.toNat w else w
def carF (w : Nat → Int) (l a b : Int) : Nat → Int := updW (updW (car1F w l a b) 2 (if l = 116 then 12 * b + a else car1F w l a b 2)) 1 (if l = 108 then a else updW (car1F w l a b) 2 (if l = 116 then 12 * b + a else car1F w l a b 2) 1)
section M19
variable {τ : MT} {m c v x y z b n dd a l : Int} {d : Nat} {Q : Option Int → MT → Prop}
theorem mc_here (hp : 0 ≤ τ.1 16 ∧ τ.1 16 < 100000) (hT : 0 ≤ τ.1 15 ∧ τ.1 15 ≤ 60) : Mf 0 rX3_here [.inr 1] τ (some (heF (τ.2 14) (τ.1 15) (τ.1 16))) τ := by
  intro d hd
  refine wm_aload_n dX3_here_0 rfl ?_
  refine wm_getI dX3_here_1 (kF3_175 rfl) rfl rfl ?_
  refine wm_aload_n dX3_here_4 rfl ?_
  refine wm_getI dX3_here_5 (kF3_172 rfl) rfl rfl ?_
  refine wm_icmp dX3_here_8 (cB_ge ⟨by omega, by omega⟩ ⟨by omega, by omega⟩) 23 rfl (fun c8 => ?_) (fun c8 => ?_)
  ·
    refine wm_iconst dX3_here_23 ?_
    refine wm_ireturn dX3_here_24 rfl ?_
    exact ⟨by rw [heF, if_neg (by omega)], rfl⟩
  ·
    refine wm_aload_n dX3_here_11 rfl ?_
    refine wm_getA dX3_here_12 (kF3_40 rfl) rfl ?_
    refine wm_aload_n dX3_here_15 rfl ?_
    refine wm_getI dX3_here_16 (kF3_175 rfl) rfl rfl ?_
    refine wm_iaload dX3_here_19 rfl ⟨by omega, by omega⟩ _ rfl ?_
    refine wm_goto dX3_here_20 24 rfl ?_
    refine wm_ireturn dX3_here_24 rfl ?_
    exact ⟨by rw [heF, if_pos (by omega)], rfl⟩
theorem mc_refusal {C : Int} (hl : rng l) (ha : rng a) (hb9 : rng b) (hC : 300 ≤ C ∧ C < 1999999000) (hb : bdW C (τ.2 0)) (hS : WS (τ.2 0)) : Mf 3 rX3_refusal [.inr 1, .inl l, .inl a, .inl b] τ (some (refF (τ.2 0) l a b)) τ := by
  intro d hd
  have hr := hb.rng (by omega)
  have hlr := ledF_rng (τ.2 0) hS.1.2
  have hon := onF_rng (τ.2 0) (12 * b + a)
  refine wm_iload_n dX3_refusal_0 rfl ?_
  refine wm_bipush dX3_refusal_1 (by decide) ?_
  refine wm_icmp dX3_refusal_3 (cB_ne ⟨by omega, by omega⟩ ⟨by omega, by omega⟩) 34 rfl (fun c3 => ?_) (fun c3 => ?_)
  ·
    refine wm_iload_n dX3_refusal_34 rfl ?_
    refine wm_bipush dX3_refusal_35 (by decide) ?_
    refine wm_icmp dX3_refusal_37 (cB_eq ⟨by omega, by omega⟩ ⟨by omega, by omega⟩) 46 rfl (fun c37 => ?_) (fun c37 => ?_)
    ·
      refine wm_aload_n dX3_refusal_46 rfl ?_
      refine wm_iload_n dX3_refusal_47 rfl ?_
      refine wm_callv dX3_refusal_48 (kV3_65 rfl) rfl (mc_isMember ha hS.1 hr) (by omega) rfl rfl ?_
      rintro _ _ ⟨rfl, ⟨h48, rfl⟩ | ⟨h48, rfl⟩⟩
      ·
        refine wm_ifF dX3_refusal_51 (by decide) 58 rfl ?_
        refine wm_iconst dX3_refusal_54 ?_
        refine wm_goto dX3_refusal_55 59 rfl ?_
        refine wm_ireturn dX3_refusal_59 rfl ?_
        refine ⟨?_, rfl⟩
        unfold refF
        first
          | (rw [if_pos (by omega), if_pos (by omega)]; done)
          | (rw [if_pos (by omega), if_neg (by omega), if_pos (by assumption)]; done)
          | (rw [if_pos (by omega), if_neg (by omega), if_neg (by assumption)]; done)
          | (rw [if_neg (by omega), if_pos (by omega), if_pos (by assumption)]; done)
          | (rw [if_neg (by omega), if_pos (by omega), if_neg (by assumption)]; done)
          | (rw [if_neg (by omega), if_neg (by omega), if_pos (by omega)]; done)
          | (rw [if_neg (by omega), if_neg (by omega), if_neg (by omega), if_pos (by omega)]; done)
          | (rw [if_neg (by omega), if_neg (by omega), if_neg (by omega), if_neg (by omega), if_pos (by omega)]; done)
          | (rw [if_neg (by omega), if_neg (by omega), if_neg (by omega), if_neg (by omega), if_neg (by omega), if_pos (by omega)]; done)
          | (rw [if_neg (by omega), if_neg (by omega), if_neg (by omega), if_neg (by omega), if_neg (by omega), if_neg (by omega), if_pos (by omega)]; done)
          | (rw [if_neg (by omega), if_neg (by omega), if_neg (by omega), if_neg (by omega), if_neg (by omega), if_neg (by omega), if_neg (by omega)]; done)
      ·
        refine wm_ifT dX3_refusal_51 (by decide) 58 rfl ?_
        refine wm_iconst dX3_refusal_58 ?_
        refine wm_ireturn dX3_refusal_59 rfl ?_
        refine ⟨?_, rfl⟩
        unfold refF
        first
          | (rw [if_pos (by omega), if_pos (by omega)]; done)
          | (rw [if_pos (by omega), if_neg (by omega), if_pos (by assumption)]; done)
          | (rw [if_pos (by omega), if_neg (by omega), if_neg (by assumption)]; done)
          | (rw [if_neg (by omega), if_pos (by omega), if_pos (by assumption)]; done)
          | (rw [if_neg (by omega), if_pos (by omega), if_neg (by assumption)]; done)
          | (rw [if_neg (by omega), if_neg (by omega), if_pos (by omega)]; done)
          | (rw [if_neg (by omega), if_neg (by omega), if_neg (by omega), if_pos (by omega)]; done)
          | (rw [if_neg (by omega), if_neg (by omega), if_neg (by omega), if_neg (by omega), if_pos (by omega)]; done)
          | (rw [if_neg (by omega), if_neg (by omega), if_neg (by omega), if_neg (by omega), if_neg (by omega), if_pos (by omega)]; done)
          | (rw [if_neg (by omega), if_neg (by omega), if_neg (by omega), if_neg (by omega), if_neg (by omega), if_neg (by omega), if_pos (by omega)]; done)
          | (rw [if_neg (by omega), if_neg (by omega), if_neg (by omega), if_neg (by omega), if_neg (by omega), if_neg (by omega), if_neg (by omega)]; done)
    ·
      refine wm_iload_n dX3_refusal_40 rfl ?_
      refine wm_bipush dX3_refusal_41 (by decide) ?_
      refine wm_icmp dX3_refusal_43 (cB_ne ⟨by omega, by omega⟩ ⟨by omega, by omega⟩) 60 rfl (fun c43 => ?_) (fun c43 => ?_)
      ·
        refine wm_iload_n dX3_refusal_60 rfl ?_
        refine wm_iconst dX3_refusal_61 ?_
        refine wm_bipush dX3_refusal_62 (by decide) ?_
        refine wm_calls dX3_refusal_64 (kS3_57 rfl) (kSn3_57 rfl) (mc_in ha (by omega) (by omega)) (by omega) rfl rfl ?_
        rintro _ _ ⟨rfl, ⟨h64, rfl⟩ | ⟨h64, rfl⟩⟩
        ·
          refine wm_ifF dX3_refusal_67 (by decide) 80 rfl ?_
          refine wm_iload_n dX3_refusal_70 rfl ?_
          refine wm_iconst dX3_refusal_71 ?_
          refine wm_bipush dX3_refusal_72 (by decide) ?_
          refine wm_calls dX3_refusal_74 (kS3_57 rfl) (kSn3_57 rfl) (mc_in hb9 (by omega) (by omega)) (by omega) rfl rfl ?_
          rintro _ _ ⟨rfl, ⟨h74, rfl⟩ | ⟨h74, rfl⟩⟩
          ·
            refine wm_ifT dX3_refusal_77 (by decide) 82 rfl ?_
            refine wm_bipush dX3_refusal_82 (by decide) ?_
            refine wm_iload_n dX3_refusal_84 rfl ?_
            refine wm_imul dX3_refusal_85 ?_
            refine wm_iload_n dX3_refusal_86 rfl ?_
            refine wm_iadd dX3_refusal_87 ?_
            refine wm_istore dX3_refusal_88 rfl ?_
            refine wm_iload_n dX3_refusal_90 rfl ?_
            refine wm_bipush dX3_refusal_91 (by decide) ?_
            refine wm_icmp dX3_refusal_93 (cB_ne ⟨by omega, by omega⟩ ⟨by omega, by omega⟩) 98 rfl (fun c93 => ?_) (fun c93 => ?_)
            ·
              refine wm_iload_n dX3_refusal_98 rfl ?_
              refine wm_bipush dX3_refusal_99 (by decide) ?_
              refine wm_icmp dX3_refusal_101 (cB_ne ⟨by omega, by omega⟩ ⟨by omega, by omega⟩) 115 rfl (fun c101 => ?_) (fun c101 => ?_)
              ·
                refine wm_aload_n dX3_refusal_115 rfl ?_
                refine wm_iload dX3_refusal_116 rfl ?_
                refine wm_callv dX3_refusal_118 (kV3_121 rfl) rfl (mc_on (by omega) hS.1 hr) (by omega) rfl rfl ?_
                rintro _ _ ⟨rfl, rfl⟩
                refine wm_if dX3_refusal_121 (cB_lt ⟨by omega, by omega⟩ ⟨by omega, by omega⟩) 128 rfl (fun c121 => ?_) (fun c121 => ?_)
                ·
                  refine wm_iload_n dX3_refusal_128 rfl ?_
                  refine wm_bipush dX3_refusal_129 (by decide) ?_
                  refine wm_icmp dX3_refusal_131 (cB_ne ⟨by omega, by omega⟩ ⟨by omega, by omega⟩) 149 rfl (fun c131 => ?_) (fun c131 => ?_)
                  ·
                    refine wm_iconst dX3_refusal_149 ?_
                    refine wm_ireturn dX3_refusal_150 rfl ?_
                    refine ⟨?_, rfl⟩
                    unfold refF
                    first
                      | (rw [if_pos (by omega), if_pos (by omega)]; done)
                      | (rw [if_pos (by omega), if_neg (by omega), if_pos (by assumption)]; done)
                      | (rw [if_pos (by omega), if_neg (by omega), if_neg (by assumption)]; done)
                      | (rw [if_neg (by omega), if_pos (by omega), if_pos (by assumption)]; done)
                      | (rw [if_neg (by omega), if_pos (by omega), if_neg (by assumption)]; done)
                      | (rw [if_neg (by omega), if_neg (by omega), if_pos (by omega)]; done)
                      | (rw [if_neg (by omega), if_neg (by omega), if_neg (by omega), if_pos (by omega)]; done)
                      | (rw [if_neg (by omega), if_neg (by omega), if_neg (by omega), if_neg (by omega), if_pos (by omega)]; done)
                      | (rw [if_neg (by omega), if_neg (by omega), if_neg (by omega), if_neg (by omega), if_neg (by omega), if_pos (by omega)]; done)
                      | (rw [if_neg (by omega), if_neg (by omega), if_neg (by omega), if_neg (by omega), if_neg (by omega), if_neg (by omega), if_pos (by omega)]; done)
                      | (rw [if_neg (by omega), if_neg (by omega), if_neg (by omega), if_neg (by omega), if_neg (by omega), if_neg (by omega), if_neg (by omega)]; done)
                  ·
                    refine wm_aload_n dX3_refusal_134 rfl ?_
                    refine wm_getA dX3_refusal_135 (kF3_9 rfl) rfl ?_
                    refine wm_iconst dX3_refusal_138 ?_
                    refine wm_iaload dX3_refusal_139 rfl ⟨by omega, by omega⟩ 0 rfl ?_
                    refine wm_bipush dX3_refusal_140 (by decide) ?_
                    refine wm_icmp dX3_refusal_142 (cB_ne (hr _) ⟨by omega, by omega⟩) 149 rfl (fun c142 => ?_) (fun c142 => ?_)
                    ·
                      refine wm_iconst dX3_refusal_149 ?_
                      refine wm_ireturn dX3_refusal_150 rfl ?_
                      refine ⟨?_, rfl⟩
                      unfold refF
                      first
                        | (rw [if_pos (by omega), if_pos (by omega)]; done)
                        | (rw [if_pos (by omega), if_neg (by omega), if_pos (by assumption)]; done)
                        | (rw [if_pos (by omega), if_neg (by omega), if_neg (by assumption)]; done)
                        | (rw [if_neg (by omega), if_pos (by omega), if_pos (by assumption)]; done)
                        | (rw [if_neg (by omega), if_pos (by omega), if_neg (by assumption)]; done)
                        | (rw [if_neg (by omega), if_neg (by omega), if_pos (by omega)]; done)
                        | (rw [if_neg (by omega), if_neg (by omega), if_neg (by omega), if_pos (by omega)]; done)
                        | (rw [if_neg (by omega), if_neg (by omega), if_neg (by omega), if_neg (by omega), if_pos (by omega)]; done)
                        | (rw [if_neg (by omega), if_neg (by omega), if_neg (by omega), if_neg (by omega), if_neg (by omega), if_pos (by omega)]; done)
                        | (rw [if_neg (by omega), if_neg (by omega), if_neg (by omega), if_neg (by omega), if_neg (by omega), if_neg (by omega), if_pos (by omega)]; done)
                        | (rw [if_neg (by omega), if_neg (by omega), if_neg (by omega), if_neg (by omega), if_neg (by omega), if_neg (by omega), if_neg (by omega)]; done)
                    ·
                      refine wm_iconst dX3_refusal_145 ?_
                      refine wm_goto dX3_refusal_146 150 rfl ?_
                      refine wm_ireturn dX3_refusal_150 rfl ?_
                      refine ⟨?_, rfl⟩
                      unfold refF
                      first
                        | (rw [if_pos (by omega), if_pos (by omega)]; done)
                        | (rw [if_pos (by omega), if_neg (by omega), if_pos (by assumption)]; done)
                        | (rw [if_pos (by omega), if_neg (by omega), if_neg (by assumption)]; done)
                        | (rw [if_neg (by omega), if_pos (by omega), if_pos (by assumption)]; done)
                        | (rw [if_neg (by omega), if_pos (by omega), if_neg (by assumption)]; done)
                        | (rw [if_neg (by omega), if_neg (by omega), if_pos (by omega)]; done)
                        | (rw [if_neg (by omega), if_neg (by omega), if_neg (by omega), if_pos (by omega)]; done)
                        | (rw [if_neg (by omega), if_neg (by omega), if_neg (by omega), if_neg (by omega), if_pos (by omega)]; done)
                        | (rw [if_neg (by omega), if_neg (by omega), if_neg (by omega), if_neg (by omega), if_neg (by omega), if_pos (by omega)]; done)
                        | (rw [if_neg (by omega), if_neg (by omega), if_neg (by omega), if_neg (by omega), if_neg (by omega), if_neg (by omega), if_pos (by omega)]; done)
                        | (rw [if_neg (by omega), if_neg (by omega), if_neg (by omega), if_neg (by omega), if_neg (by omega), if_neg (by omega), if_neg (by omega)]; done)
                ·
                  refine wm_iconst dX3_refusal_124 ?_
                  refine wm_goto dX3_refusal_125 150 rfl ?_
                  refine wm_ireturn dX3_refusal_150 rfl ?_
                  refine ⟨?_, rfl⟩
                  unfold refF
                  first
                    | (rw [if_pos (by omega), if_pos (by omega)]; done)
                    | (rw [if_pos (by omega), if_neg (by omega), if_pos (by assumption)]; done)
                    | (rw [if_pos (by omega), if_neg (by omega), if_neg (by assumption)]; done)
                    | (rw [if_neg (by omega), if_pos (by omega), if_pos (by assumption)]; done)
                    | (rw [if_neg (by omega), if_pos (by omega), if_neg (by assumption)]; done)
                    | (rw [if_neg (by omega), if_neg (by omega), if_pos (by omega)]; done)
                    | (rw [if_neg (by omega), if_neg (by omega), if_neg (by omega), if_pos (by omega)]; done)
                    | (rw [if_neg (by omega), if_neg (by omega), if_neg (by omega), if_neg (by omega), if_pos (by omega)]; done)
                    | (rw [if_neg (by omega), if_neg (by omega), if_neg (by omega), if_neg (by omega), if_neg (by omega), if_pos (by omega)]; done)
                    | (rw [if_neg (by omega), if_neg (by omega), if_neg (by omega), if_neg (by omega), if_neg (by omega), if_neg (by omega), if_pos (by omega)]; done)
                    | (rw [if_neg (by omega), if_neg (by omega), if_neg (by omega), if_neg (by omega), if_neg (by omega), if_neg (by omega), if_neg (by omega)]; done)
              ·
                refine wm_aload_n dX3_refusal_104 rfl ?_
                refine wm_iload dX3_refusal_105 rfl ?_
                refine wm_callv dX3_refusal_107 (kV3_69 rfl) rfl (mc_isBlocked (by omega) (hr _)) (by omega) rfl rfl ?_
                rintro _ _ ⟨rfl, ⟨h107, rfl⟩ | ⟨h107, rfl⟩⟩
                ·
                  refine wm_ifF dX3_refusal_110 (by decide) 115 rfl ?_
                  refine wm_iconst dX3_refusal_113 ?_
                  refine wm_ireturn dX3_refusal_114 rfl ?_
                  refine ⟨?_, rfl⟩
                  unfold refF
                  first
                    | (rw [if_pos (by omega), if_pos (by omega)]; done)
                    | (rw [if_pos (by omega), if_neg (by omega), if_pos (by assumption)]; done)
                    | (rw [if_pos (by omega), if_neg (by omega), if_neg (by assumption)]; done)
                    | (rw [if_neg (by omega), if_pos (by omega), if_pos (by assumption)]; done)
                    | (rw [if_neg (by omega), if_pos (by omega), if_neg (by assumption)]; done)
                    | (rw [if_neg (by omega), if_neg (by omega), if_pos (by omega)]; done)
                    | (rw [if_neg (by omega), if_neg (by omega), if_neg (by omega), if_pos (by omega)]; done)
                    | (rw [if_neg (by omega), if_neg (by omega), if_neg (by omega), if_neg (by omega), if_pos (by omega)]; done)
                    | (rw [if_neg (by omega), if_neg (by omega), if_neg (by omega), if_neg (by omega), if_neg (by omega), if_pos (by omega)]; done)
                    | (rw [if_neg (by omega), if_neg (by omega), if_neg (by omega), if_neg (by omega), if_neg (by omega), if_neg (by omega), if_pos (by omega)]; done)
                    | (rw [if_neg (by omega), if_neg (by omega), if_neg (by omega), if_neg (by omega), if_neg (by omega), if_neg (by omega), if_neg (by omega)]; done)
                ·
                  refine wm_ifT dX3_refusal_110 (by decide) 115 rfl ?_
                  refine wm_aload_n dX3_refusal_115 rfl ?_
                  refine wm_iload dX3_refusal_116 rfl ?_
                  refine wm_callv dX3_refusal_118 (kV3_121 rfl) rfl (mc_on (by omega) hS.1 hr) (by omega) rfl rfl ?_
                  rintro _ _ ⟨rfl, rfl⟩
                  refine wm_if dX3_refusal_121 (cB_lt ⟨by omega, by omega⟩ ⟨by omega, by omega⟩) 128 rfl (fun c121 => ?_) (fun c121 => ?_)
                  ·
                    refine wm_iload_n dX3_refusal_128 rfl ?_
                    refine wm_bipush dX3_refusal_129 (by decide) ?_
                    refine wm_icmp dX3_refusal_131 (cB_ne ⟨by omega, by omega⟩ ⟨by omega, by omega⟩) 149 rfl (fun c131 => ?_) (fun c131 => ?_)
                    ·
                      refine wm_iconst dX3_refusal_149 ?_
                      refine wm_ireturn dX3_refusal_150 rfl ?_
                      refine ⟨?_, rfl⟩
                      unfold refF
                      first
                        | (rw [if_pos (by omega), if_pos (by omega)]; done)
                        | (rw [if_pos (by omega), if_neg (by omega), if_pos (by assumption)]; done)
                        | (rw [if_pos (by omega), if_neg (by omega), if_neg (by assumption)]; done)
                        | (rw [if_neg (by omega), if_pos (by omega), if_pos (by assumption)]; done)
                        | (rw [if_neg (by omega), if_pos (by omega), if_neg (by assumption)]; done)
                        | (rw [if_neg (by omega), if_neg (by omega), if_pos (by omega)]; done)
                        | (rw [if_neg (by omega), if_neg (by omega), if_neg (by omega), if_pos (by omega)]; done)
                        | (rw [if_neg (by omega), if_neg (by omega), if_neg (by omega), if_neg (by omega), if_pos (by omega)]; done)
                        | (rw [if_neg (by omega), if_neg (by omega), if_neg (by omega), if_neg (by omega), if_neg (by omega), if_pos (by omega)]; done)
                        | (rw [if_neg (by omega), if_neg (by omega), if_neg (by omega), if_neg (by omega), if_neg (by omega), if_neg (by omega), if_pos (by omega)]; done)
                        | (rw [if_neg (by omega), if_neg (by omega), if_neg (by omega), if_neg (by omega), if_neg (by omega), if_neg (by omega), if_neg (by omega)]; done)
                    ·
                      refine wm_aload_n dX3_refusal_134 rfl ?_
                      refine wm_getA dX3_refusal_135 (kF3_9 rfl) rfl ?_
                      refine wm_iconst dX3_refusal_138 ?_
                      refine wm_iaload dX3_refusal_139 rfl ⟨by omega, by omega⟩ 0 rfl ?_
                      refine wm_bipush dX3_refusal_140 (by decide) ?_
                      refine wm_icmp dX3_refusal_142 (cB_ne (hr _) ⟨by omega, by omega⟩) 149 rfl (fun c142 => ?_) (fun c142 => ?_)
                      ·
                        refine wm_iconst dX3_refusal_149 ?_
                        refine wm_ireturn dX3_refusal_150 rfl ?_
                        refine ⟨?_, rfl⟩
                        unfold refF
                        first
                          | (rw [if_pos (by omega), if_pos (by omega)]; done)
                          | (rw [if_pos (by omega), if_neg (by omega), if_pos (by assumption)]; done)
                          | (rw [if_pos (by omega), if_neg (by omega), if_neg (by assumption)]; done)
                          | (rw [if_neg (by omega), if_pos (by omega), if_pos (by assumption)]; done)
                          | (rw [if_neg (by omega), if_pos (by omega), if_neg (by assumption)]; done)
                          | (rw [if_neg (by omega), if_neg (by omega), if_pos (by omega)]; done)
                          | (rw [if_neg (by omega), if_neg (by omega), if_neg (by omega), if_pos (by omega)]; done)
                          | (rw [if_neg (by omega), if_neg (by omega), if_neg (by omega), if_neg (by omega), if_pos (by omega)]; done)
                          | (rw [if_neg (by omega), if_neg (by omega), if_neg (by omega), if_neg (by omega), if_neg (by omega), if_pos (by omega)]; done)
                          | (rw [if_neg (by omega), if_neg (by omega), if_neg (by omega), if_neg (by omega), if_neg (by omega), if_neg (by omega), if_pos (by omega)]; done)
                          | (rw [if_neg (by omega), if_neg (by omega), if_neg (by omega), if_neg (by omega), if_neg (by omega), if_neg (by omega), if_neg (by omega)]; done)
                      ·
                        refine wm_iconst dX3_refusal_145 ?_
                        refine wm_goto dX3_refusal_146 150 rfl ?_
                        refine wm_ireturn dX3_refusal_150 rfl ?_
                        refine ⟨?_, rfl⟩
                        unfold refF
                        first
                          | (rw [if_pos (by omega), if_pos (by omega)]; done)
                          | (rw [if_pos (by omega), if_neg (by omega), if_pos (by assumption)]; done)
                          | (rw [if_pos (by omega), if_neg (by omega), if_neg (by assumption)]; done)
                          | (rw [if_neg (by omega), if_pos (by omega), if_pos (by assumption)]; done)
                          | (rw [if_neg (by omega), if_pos (by omega), if_neg (by assumption)]; done)
                          | (rw [if_neg (by omega), if_neg (by omega), if_pos (by omega)]; done)
                          | (rw [if_neg (by omega), if_neg (by omega), if_neg (by omega), if_pos (by omega)]; done)
                          | (rw [if_neg (by omega), if_neg (by omega), if_neg (by omega), if_neg (by omega), if_pos (by omega)]; done)
                          | (rw [if_neg (by omega), if_neg (by omega), if_neg (by omega), if_neg (by omega), if_neg (by omega), if_pos (by omega)]; done)
                          | (rw [if_neg (by omega), if_neg (by omega), if_neg (by omega), if_neg (by omega), if_neg (by omega), if_neg (by omega), if_pos (by omega)]; done)
                          | (rw [if_neg (by omega), if_neg (by omega), if_neg (by omega), if_neg (by omega), if_neg (by omega), if_neg (by omega), if_neg (by omega)]; done)
                  ·
                    refine wm_iconst dX3_refusal_124 ?_
                    refine wm_goto dX3_refusal_125 150 rfl ?_
                    refine wm_ireturn dX3_refusal_150 rfl ?_
                    refine ⟨?_, rfl⟩
                    unfold refF
                    first
                      | (rw [if_pos (by omega), if_pos (by omega)]; done)
                      | (rw [if_pos (by omega), if_neg (by omega), if_pos (by assumption)]; done)
                      | (rw [if_pos (by omega), if_neg (by omega), if_neg (by assumption)]; done)
                      | (rw [if_neg (by omega), if_pos (by omega), if_pos (by assumption)]; done)
                      | (rw [if_neg (by omega), if_pos (by omega), if_neg (by assumption)]; done)
                      | (rw [if_neg (by omega), if_neg (by omega), if_pos (by omega)]; done)
                      | (rw [if_neg (by omega), if_neg (by omega), if_neg (by omega), if_pos (by omega)]; done)
                      | (rw [if_neg (by omega), if_neg (by omega), if_neg (by omega), if_neg (by omega), if_pos (by omega)]; done)
                      | (rw [if_neg (by omega), if_neg (by omega), if_neg (by omega), if_neg (by omega), if_neg (by omega), if_pos (by omega)]; done)
                      | (rw [if_neg (by omega), if_neg (by omega), if_neg (by omega), if_neg (by omega), if_neg (by omega), if_neg (by omega), if_pos (by omega)]; done)
                      | (rw [if_neg (by omega), if_neg (by omega), if_neg (by omega), if_neg (by omega), if_neg (by omega), if_neg (by omega), if_neg (by omega)]; done)
            ·
              refine wm_iconst dX3_refusal_96 ?_
              refine wm_ireturn dX3_refusal_97 rfl ?_
              refine ⟨?_, rfl⟩
              unfold refF
              first
                | (rw [if_pos (by omega), if_pos (by omega)]; done)
                | (rw [if_pos (by omega), if_neg (by omega), if_pos (by assumption)]; done)
                | (rw [if_pos (by omega), if_neg (by omega), if_neg (by assumption)]; done)
                | (rw [if_neg (by omega), if_pos (by omega), if_pos (by assumption)]; done)
                | (rw [if_neg (by omega), if_pos (by omega), if_neg (by assumption)]; done)
                | (rw [if_neg (by omega), if_neg (by omega), if_pos (by omega)]; done)
                | (rw [if_neg (by omega), if_neg (by omega), if_neg (by omega), if_pos (by omega)]; done)
                | (rw [if_neg (by omega), if_neg (by omega), if_neg (by omega), if_neg (by omega), if_pos (by omega)]; done)
                | (rw [if_neg (by omega), if_neg (by omega), if_neg (by omega), if_neg (by omega), if_neg (by omega), if_pos (by omega)]; done)
                | (rw [if_neg (by omega), if_neg (by omega), if_neg (by omega), if_neg (by omega), if_neg (by omega), if_neg (by omega), if_pos (by omega)]; done)
                | (rw [if_neg (by omega), if_neg (by omega), if_neg (by omega), if_neg (by omega), if_neg (by omega), if_neg (by omega), if_neg (by omega)]; done)
          ·
            refine wm_ifF dX3_refusal_77 (by decide) 82 rfl ?_
            refine wm_iconst dX3_refusal_80 ?_
            refine wm_ireturn dX3_refusal_81 rfl ?_
            refine ⟨?_, rfl⟩
            unfold refF
            first
              | (rw [if_pos (by omega), if_pos (by omega)]; done)
              | (rw [if_pos (by omega), if_neg (by omega), if_pos (by assumption)]; done)
              | (rw [if_pos (by omega), if_neg (by omega), if_neg (by assumption)]; done)
              | (rw [if_neg (by omega), if_pos (by omega), if_pos (by assumption)]; done)
              | (rw [if_neg (by omega), if_pos (by omega), if_neg (by assumption)]; done)
              | (rw [if_neg (by omega), if_neg (by omega), if_pos (by omega)]; done)
              | (rw [if_neg (by omega), if_neg (by omega), if_neg (by omega), if_pos (by omega)]; done)
              | (rw [if_neg (by omega), if_neg (by omega), if_neg (by omega), if_neg (by omega), if_pos (by omega)]; done)
              | (rw [if_neg (by omega), if_neg (by omega), if_neg (by omega), if_neg (by omega), if_neg (by omega), if_pos (by omega)]; done)
              | (rw [if_neg (by omega), if_neg (by omega), if_neg (by omega), if_neg (by omega), if_neg (by omega), if_neg (by omega), if_pos (by omega)]; done)
              | (rw [if_neg (by omega), if_neg (by omega), if_neg (by omega), if_neg (by omega), if_neg (by omega), if_neg (by omega), if_neg (by omega)]; done)
        ·
          refine wm_ifT dX3_refusal_67 (by decide) 80 rfl ?_
          refine wm_iconst dX3_refusal_80 ?_
          refine wm_ireturn dX3_refusal_81 rfl ?_
          refine ⟨?_, rfl⟩
          unfold refF
          first
            | (rw [if_pos (by omega), if_pos (by omega)]; done)
            | (rw [if_pos (by omega), if_neg (by omega), if_pos (by assumption)]; done)
            | (rw [if_pos (by omega), if_neg (by omega), if_neg (by assumption)]; done)
            | (rw [if_neg (by omega), if_pos (by omega), if_pos (by assumption)]; done)
            | (rw [if_neg (by omega), if_pos (by omega), if_neg (by assumption)]; done)
            | (rw [if_neg (by omega), if_neg (by omega), if_pos (by omega)]; done)
            | (rw [if_neg (by omega), if_neg (by omega), if_neg (by omega), if_pos (by omega)]; done)
            | (rw [if_neg (by omega), if_neg (by omega), if_neg (by omega), if_neg (by omega), if_pos (by omega)]; done)
            | (rw [if_neg (by omega), if_neg (by omega), if_neg (by omega), if_neg (by omega), if_neg (by omega), if_pos (by omega)]; done)
            | (rw [if_neg (by omega), if_neg (by omega), if_neg (by omega), if_neg (by omega), if_neg (by omega), if_neg (by omega), if_pos (by omega)]; done)
            | (rw [if_neg (by omega), if_neg (by omega), if_neg (by omega), if_neg (by omega), if_neg (by omega), if_neg (by omega), if_neg (by omega)]; done)
      ·
        refine wm_aload_n dX3_refusal_46 rfl ?_
        refine wm_iload_n dX3_refusal_47 rfl ?_
        refine wm_callv dX3_refusal_48 (kV3_65 rfl) rfl (mc_isMember ha hS.1 hr) (by omega) rfl rfl ?_
        rintro _ _ ⟨rfl, ⟨h48, rfl⟩ | ⟨h48, rfl⟩⟩
        ·
          refine wm_ifF dX3_refusal_51 (by decide) 58 rfl ?_
          refine wm_iconst dX3_refusal_54 ?_
          refine wm_goto dX3_refusal_55 59 rfl ?_
          refine wm_ireturn dX3_refusal_59 rfl ?_
          refine ⟨?_, rfl⟩
          unfold refF
          first
            | (rw [if_pos (by omega), if_pos (by omega)]; done)
            | (rw [if_pos (by omega), if_neg (by omega), if_pos (by assumption)]; done)
            | (rw [if_pos (by omega), if_neg (by omega), if_neg (by assumption)]; done)
            | (rw [if_neg (by omega), if_pos (by omega), if_pos (by assumption)]; done)
            | (rw [if_neg (by omega), if_pos (by omega), if_neg (by assumption)]; done)
            | (rw [if_neg (by omega), if_neg (by omega), if_pos (by omega)]; done)
            | (rw [if_neg (by omega), if_neg (by omega), if_neg (by omega), if_pos (by omega)]; done)
            | (rw [if_neg (by omega), if_neg (by omega), if_neg (by omega), if_neg (by omega), if_pos (by omega)]; done)
            | (rw [if_neg (by omega), if_neg (by omega), if_neg (by omega), if_neg (by omega), if_neg (by omega), if_pos (by omega)]; done)
            | (rw [if_neg (by omega), if_neg (by omega), if_neg (by omega), if_neg (by omega), if_neg (by omega), if_neg (by omega), if_pos (by omega)]; done)
            | (rw [if_neg (by omega), if_neg (by omega), if_neg (by omega), if_neg (by omega), if_neg (by omega), if_neg (by omega), if_neg (by omega)]; done)
        ·
          refine wm_ifT dX3_refusal_51 (by decide) 58 rfl ?_
          refine wm_iconst dX3_refusal_58 ?_
          refine wm_ireturn dX3_refusal_59 rfl ?_
          refine ⟨?_, rfl⟩
          unfold refF
          first
            | (rw [if_pos (by omega), if_pos (by omega)]; done)
            | (rw [if_pos (by omega), if_neg (by omega), if_pos (by assumption)]; done)
            | (rw [if_pos (by omega), if_neg (by omega), if_neg (by assumption)]; done)
            | (rw [if_neg (by omega), if_pos (by omega), if_pos (by assumption)]; done)
            | (rw [if_neg (by omega), if_pos (by omega), if_neg (by assumption)]; done)
            | (rw [if_neg (by omega), if_neg (by omega), if_pos (by omega)]; done)
            | (rw [if_neg (by omega), if_neg (by omega), if_neg (by omega), if_pos (by omega)]; done)
            | (rw [if_neg (by omega), if_neg (by omega), if_neg (by omega), if_neg (by omega), if_pos (by omega)]; done)
            | (rw [if_neg (by omega), if_neg (by omega), if_neg (by omega), if_neg (by omega), if_neg (by omega), if_pos (by omega)]; done)
            | (rw [if_neg (by omega), if_neg (by omega), if_neg (by omega), if_neg (by omega), if_neg (by omega), if_neg (by omega), if_pos (by omega)]; done)
            | (rw [if_neg (by omega), if_neg (by omega), if_neg (by omega), if_neg (by omega), if_neg (by omega), if_neg (by omega), if_neg (by omega)]; done)
  ·
    refine wm_aload_n dX3_refusal_6 rfl ?_
    refine wm_callv dX3_refusal_7 (kV3_85 rfl) rfl (mc_leader hS.1 hr) (by omega) rfl rfl ?_
    rintro _ _ ⟨rfl, rfl⟩
    refine wm_if dX3_refusal_10 (cB_ge ⟨by omega, by omega⟩ ⟨by omega, by omega⟩) 17 rfl (fun c10 => ?_) (fun c10 => ?_)
    ·
      refine wm_iload_n dX3_refusal_17 rfl ?_
      refine wm_iconst dX3_refusal_18 ?_
      refine wm_bipush dX3_refusal_19 (by decide) ?_
      refine wm_calls dX3_refusal_21 (kS3_57 rfl) (kSn3_57 rfl) (mc_in ha (by omega) (by omega)) (by omega) rfl rfl ?_
      rintro _ _ ⟨rfl, ⟨h21, rfl⟩ | ⟨h21, rfl⟩⟩
      ·
        refine wm_ifF dX3_refusal_24 (by decide) 31 rfl ?_
        refine wm_iconst dX3_refusal_27 ?_
        refine wm_goto dX3_refusal_28 33 rfl ?_
        refine wm_ireturn dX3_refusal_33 rfl ?_
        refine ⟨?_, rfl⟩
        unfold refF
        first
          | (rw [if_pos (by omega), if_pos (by omega)]; done)
          | (rw [if_pos (by omega), if_neg (by omega), if_pos (by assumption)]; done)
          | (rw [if_pos (by omega), if_neg (by omega), if_neg (by assumption)]; done)
          | (rw [if_neg (by omega), if_pos (by omega), if_pos (by assumption)]; done)
          | (rw [if_neg (by omega), if_pos (by omega), if_neg (by assumption)]; done)
          | (rw [if_neg (by omega), if_neg (by omega), if_pos (by omega)]; done)
          | (rw [if_neg (by omega), if_neg (by omega), if_neg (by omega), if_pos (by omega)]; done)
          | (rw [if_neg (by omega), if_neg (by omega), if_neg (by omega), if_neg (by omega), if_pos (by omega)]; done)
          | (rw [if_neg (by omega), if_neg (by omega), if_neg (by omega), if_neg (by omega), if_neg (by omega), if_pos (by omega)]; done)
          | (rw [if_neg (by omega), if_neg (by omega), if_neg (by omega), if_neg (by omega), if_neg (by omega), if_neg (by omega), if_pos (by omega)]; done)
          | (rw [if_neg (by omega), if_neg (by omega), if_neg (by omega), if_neg (by omega), if_neg (by omega), if_neg (by omega), if_neg (by omega)]; done)
      ·
        refine wm_ifT dX3_refusal_24 (by decide) 31 rfl ?_
        refine wm_bipush dX3_refusal_31 (by decide) ?_
        refine wm_ireturn dX3_refusal_33 rfl ?_
        refine ⟨?_, rfl⟩
        unfold refF
        first
          | (rw [if_pos (by omega), if_pos (by omega)]; done)
          | (rw [if_pos (by omega), if_neg (by omega), if_pos (by assumption)]; done)
          | (rw [if_pos (by omega), if_neg (by omega), if_neg (by assumption)]; done)
          | (rw [if_neg (by omega), if_pos (by omega), if_pos (by assumption)]; done)
          | (rw [if_neg (by omega), if_pos (by omega), if_neg (by assumption)]; done)
          | (rw [if_neg (by omega), if_neg (by omega), if_pos (by omega)]; done)
          | (rw [if_neg (by omega), if_neg (by omega), if_neg (by omega), if_pos (by omega)]; done)
          | (rw [if_neg (by omega), if_neg (by omega), if_neg (by omega), if_neg (by omega), if_pos (by omega)]; done)
          | (rw [if_neg (by omega), if_neg (by omega), if_neg (by omega), if_neg (by omega), if_neg (by omega), if_pos (by omega)]; done)
          | (rw [if_neg (by omega), if_neg (by omega), if_neg (by omega), if_neg (by omega), if_neg (by omega), if_neg (by omega), if_pos (by omega)]; done)
          | (rw [if_neg (by omega), if_neg (by omega), if_neg (by omega), if_neg (by omega), if_neg (by omega), if_neg (by omega), if_neg (by omega)]; done)
    ·
      refine wm_iconst dX3_refusal_13 ?_
      refine wm_goto dX3_refusal_14 33 rfl ?_
      refine wm_ireturn dX3_refusal_33 rfl ?_
      refine ⟨?_, rfl⟩
      unfold refF
      first
        | (rw [if_pos (by omega), if_pos (by omega)]; done)
        | (rw [if_pos (by omega), if_neg (by omega), if_pos (by assumption)]; done)
        | (rw [if_pos (by omega), if_neg (by omega), if_neg (by assumption)]; done)
        | (rw [if_neg (by omega), if_pos (by omega), if_pos (by assumption)]; done)
        | (rw [if_neg (by omega), if_pos (by omega), if_neg (by assumption)]; done)
        | (rw [if_neg (by omega), if_neg (by omega), if_pos (by omega)]; done)
        | (rw [if_neg (by omega), if_neg (by omega), if_neg (by omega), if_pos (by omega)]; done)
        | (rw [if_neg (by omega), if_neg (by omega), if_neg (by omega), if_neg (by omega), if_pos (by omega)]; done)
        | (rw [if_neg (by omega), if_neg (by omega), if_neg (by omega), if_neg (by omega), if_neg (by omega), if_pos (by omega)]; done)
        | (rw [if_neg (by omega), if_neg (by omega), if_neg (by omega), if_neg (by omega), if_neg (by omega), if_neg (by omega), if_pos (by omega)]; done)
        | (rw [if_neg (by omega), if_neg (by omega), if_neg (by omega), if_neg (by omega), if_neg (by omega), if_neg (by omega), if_neg (by omega)]; done)
end M19
