set_option maxRecDepth 100000
/-! the twin: seen, takes, counted -/
theorem t_seen_bad {E : jEnv} {α : Nat → Nat} {σ : tS} {Q : Option Value → tS → Prop} {many : Nat} {wide high bl : Int} {G : Nat → Nat → Int} {P : Nat → Nat → Int} {rule : Int} {v x y : Int} (hS : tSh many wide high bl G σ) (hO : shOK many wide high bl G) (hP : tPl P rule σ) (hN : plOK many P rule) (rv : zR v) (rx : zR x) (ry : zR y) (hv : ¬ (0 ≤ v ∧ v < pgM P many) ∨ ¬ (0 ≤ x ∧ x < wide) ∨ ¬ (0 ≤ y ∧ y < high)) (hq : Q (some (.int (zI (-1)))) σ) : jX2_seen E α 0 [some (.ref (α 0)), some (.int (zI (v))), some (.int (zI (x))), some (.int (zI (y))), none, none, none, none, none, none] [] σ Q := by
  have := hO.s
  refine J_aload_n dX2_seen_0 rfl ?_
  refine J_iload_n dX2_seen_1 rfl ?_
  refine TC_X2_isPage (by decide) (Nat.le_of_ble_eq_true rfl) dX2_seen_2 ?_
  refine t_isPage hS hO hP hN (by unfold zR at *; omega) (fun b2 => ?_) (fun b2 => ?_)
  · refine J_ri ?_
    refine J_if_eq_n (tgt := 36) dX2_seen_5 (by decide) (by decide) ?_
    refine J_iload_n dX2_seen_8 rfl ?_
    refine J_iconst (zI 0) dX2_seen_9 rfl ?_
    refine J_aload_n dX2_seen_10 rfl ?_
    refine TG_wide dX2_seen_11 ?_
    refine J_top (zI (wide)) hS.2.1 ?_
    refine J_iconst (zI 1) dX2_seen_14 rfl ?_
    refine J_isub_z dX2_seen_15 ?_
    refine TC_X2_in (by decide) (Nat.le_of_ble_eq_true rfl) dX2_seen_16 ?_
    refine t_in (by unfold zR at *; omega) (by unfold zR at *; omega) (by unfold zR at *; omega) (fun b16 => ?_) (fun b16 => ?_)
    · refine J_ri ?_
      refine J_if_eq_n (tgt := 36) dX2_seen_19 (by decide) (by decide) ?_
      refine J_iload_n dX2_seen_22 rfl ?_
      refine J_iconst (zI 0) dX2_seen_23 rfl ?_
      refine J_aload_n dX2_seen_24 rfl ?_
      refine TG_high dX2_seen_25 ?_
      refine J_top (zI (high)) hS.2.2.1 ?_
      refine J_iconst (zI 1) dX2_seen_28 rfl ?_
      refine J_isub_z dX2_seen_29 ?_
      refine TC_X2_in (by decide) (Nat.le_of_ble_eq_true rfl) dX2_seen_30 ?_
      refine t_in (by unfold zR at *; omega) (by unfold zR at *; omega) (by unfold zR at *; omega) (fun b30 => ?_) (fun b30 => ?_)
      · exfalso; omega
      · refine J_ri ?_
        refine J_if_ne_n (tgt := 38) dX2_seen_33 (by decide) (by decide) ?_
        refine J_iconst (zI (-1)) dX2_seen_36 rfl ?_
        exact J_iret rfl dX2_seen_37 (by exact hq)
    · refine J_ri ?_
      refine J_if_eq_y (tgt := 36) dX2_seen_19 (by decide) (by decide) ?_
      refine J_iconst (zI (-1)) dX2_seen_36 rfl ?_
      exact J_iret rfl dX2_seen_37 (by exact hq)
  · refine J_ri ?_
    refine J_if_eq_y (tgt := 36) dX2_seen_5 (by decide) (by decide) ?_
    refine J_iconst (zI (-1)) dX2_seen_36 rfl ?_
    exact J_iret rfl dX2_seen_37 (by exact hq)
theorem t_seen {E : jEnv} {α : Nat → Nat} {σ : tS} {Q : Option Value → tS → Prop} {many : Nat} {wide high bl : Int} {G : Nat → Nat → Int} {P : Nat → Nat → Int} {rule : Int} {v x y : Int} (hS : tSh many wide high bl G σ) (hO : shOK many wide high bl G) (hP : tPl P rule σ) (hN : plOK many P rule) (hV : plV many wide high bl G P) (hv : 0 ≤ v ∧ v < pgM P many) (hx : 0 ≤ x ∧ x < wide) (hy : 0 ≤ y ∧ y < high) (q0 : (gO bl G P v many x y) = -9 → ∀ σ1, tEq [] [26] σ σ1 → Q (some (.int (zI (-9)))) σ1) (q1 : ∀ f : Nat, f < many → (gO bl G P v many x y) = f → ∀ σ1, tEq [0] [26] σ σ1 → σ1.1 0 = zI (mSeen bl G P f x y) → Q (some (.int (zI (f : Nat)))) σ1) : jX2_seen E α 0 [some (.ref (α 0)), some (.int (zI (v))), some (.int (zI (x))), some (.int (zI (y))), none, none, none, none, none, none] [] σ Q := by
  have := hO.s
  have := pgM_b hN many (Nat.le_refl _)
  refine J_aload_n dX2_seen_0 rfl ?_
  refine J_iload_n dX2_seen_1 rfl ?_
  refine TC_X2_isPage (by decide) (Nat.le_of_ble_eq_true rfl) dX2_seen_2 ?_
  refine t_isPage hS hO hP hN (by unfold zR at *; omega) (fun b2 => ?_) (fun b2 => ?_)
  · refine J_ri ?_
    refine J_if_eq_n (tgt := 36) dX2_seen_5 (by decide) (by decide) ?_
    refine J_iload_n dX2_seen_8 rfl ?_
    refine J_iconst (zI 0) dX2_seen_9 rfl ?_
    refine J_aload_n dX2_seen_10 rfl ?_
    refine TG_wide dX2_seen_11 ?_
    refine J_top (zI (wide)) hS.2.1 ?_
    refine J_iconst (zI 1) dX2_seen_14 rfl ?_
    refine J_isub_z dX2_seen_15 ?_
    refine TC_X2_in (by decide) (Nat.le_of_ble_eq_true rfl) dX2_seen_16 ?_
    refine t_in (by unfold zR; omega) (by unfold zR; omega) (by unfold zR; omega) (fun b16 => ?_) (fun b16 => ?_)
    · refine J_ri ?_
      refine J_if_eq_n (tgt := 36) dX2_seen_19 (by decide) (by decide) ?_
      refine J_iload_n dX2_seen_22 rfl ?_
      refine J_iconst (zI 0) dX2_seen_23 rfl ?_
      refine J_aload_n dX2_seen_24 rfl ?_
      refine TG_high dX2_seen_25 ?_
      refine J_top (zI (high)) hS.2.2.1 ?_
      refine J_iconst (zI 1) dX2_seen_28 rfl ?_
      refine J_isub_z dX2_seen_29 ?_
      refine TC_X2_in (by decide) (Nat.le_of_ble_eq_true rfl) dX2_seen_30 ?_
      refine t_in (by unfold zR; omega) (by unfold zR; omega) (by unfold zR; omega) (fun b30 => ?_) (fun b30 => ?_)
      · refine J_ri ?_
        refine J_if_ne_y (tgt := 38) dX2_seen_33 (by decide) (by decide) ?_
        refine J_aload_n dX2_seen_38 rfl ?_
        refine J_iload_n dX2_seen_39 rfl ?_
        refine TC_X2_layGrid (by decide) (Nat.le_of_ble_eq_true rfl) dX2_seen_40 ?_
        refine t_layGrid hS hO hP hN hV (by omega) (fun σ1 e1 g1 => ?_)
        have hS := hS.eq e1 (by decide) (by decide) (by decide) (by decide) (by decide)
        have hP := hP.eq e1 (by decide)
        refine J_rv ?_
        refine J_aload_n dX2_seen_43 rfl ?_
        refine TG_grid dX2_seen_44 ?_
        refine J_bipush (zI 16) dX2_seen_47 rfl ?_
        refine J_iload_n dX2_seen_49 rfl ?_
        refine J_imul_z dX2_seen_50 ?_
        refine J_iload_n dX2_seen_51 rfl ?_
        refine J_iadd_z dX2_seen_52 ?_
        refine TJ_iald 26 ((16 * y + x).toNat) ⟨rfl, rfl, by decide⟩ (by omega) (show (16 * y + x).toNat < 256 by omega) dX2_seen_53 ?_
        refine J_top (zI (gO bl G P v many x y)) (g1 x y (by omega) (by omega) (by omega) (by omega)) ?_
        rcases gO_cases (bl := bl) (G := G) (P := P) (page := v) (i := x) (j := y) many with hg | ⟨f, hf, hg, hg2⟩
        · skip
          rw [hg]
          refine J_istore dX2_seen_54 rfl (by decide) _ rfl ?_
          refine J_iload dX2_seen_56 rfl ?_
          refine J_bipush (zI (-9)) dX2_seen_58 rfl ?_
          refine J_icmp_ne_n (tgt := 66) dX2_seen_60 (by decide) (by decide) ?_
          refine J_bipush (zI (-9)) dX2_seen_63 rfl ?_
          exact J_iret rfl dX2_seen_65 (by exact q0 hg σ1 e1)
        · skip
          rw [hg]
          have := hO.g hf
          have := mAc_b hO hf
          have := mDn_b hO hf
          have := mLf_b hO hf
          have := mAb_b hO hf
          have := mEd_b hO f
          have := hN.1 f hf
          refine J_istore dX2_seen_54 rfl (by decide) _ rfl ?_
          refine J_iload dX2_seen_56 rfl ?_
          refine J_bipush (zI (-9)) dX2_seen_58 rfl ?_
          refine J_icmp_ne_z (tgt := 66) dX2_seen_60 (by decide) (by unfold zR; omega) (by unfold zR; omega) (fun c60 => ?_) (fun c60 => ?_)
          · skip
            refine J_iload_n dX2_seen_66 rfl ?_
            refine J_aload_n dX2_seen_67 rfl ?_
            refine TG_now dX2_seen_68 ?_
            refine J_iconst (zI 4) dX2_seen_71 rfl ?_
            refine J_iload dX2_seen_72 rfl ?_
            refine J_imul_z dX2_seen_74 ?_
            refine J_iconst (zI 1) dX2_seen_75 rfl ?_
            refine J_iadd_z dX2_seen_76 ?_
            refine TJ_iald 23 (((4 * f) + 1)) ⟨rfl, rfl, by decide⟩ (by omega) (show ((4 * f) + 1) < 33 by omega) dX2_seen_77 ?_
            refine J_top (zI (P f 1)) (hP.1 f 1 (by omega) (by decide)) ?_
            refine J_isub_z dX2_seen_78 ?_
            refine J_aload_n dX2_seen_79 rfl ?_
            refine J_iload dX2_seen_80 rfl ?_
            refine TC_X2_edge (by decide) (Nat.le_of_ble_eq_true rfl) dX2_seen_82 ?_
            refine t_edge hS hO (by omega) ?_
            refine J_ri ?_
            refine J_isub_z dX2_seen_85 ?_
            refine J_istore dX2_seen_86 rfl (by decide) _ rfl ?_
            refine J_iload_n dX2_seen_88 rfl ?_
            refine J_aload_n dX2_seen_89 rfl ?_
            refine TG_now dX2_seen_90 ?_
            refine J_iconst (zI 4) dX2_seen_93 rfl ?_
            refine J_iload dX2_seen_94 rfl ?_
            refine J_imul_z dX2_seen_96 ?_
            refine J_iconst (zI 2) dX2_seen_97 rfl ?_
            refine J_iadd_z dX2_seen_98 ?_
            refine TJ_iald 23 (((4 * f) + 2)) ⟨rfl, rfl, by decide⟩ (by omega) (show ((4 * f) + 2) < 33 by omega) dX2_seen_99 ?_
            refine J_top (zI (P f 2)) (hP.1 f 2 (by omega) (by decide)) ?_
            refine J_isub_z dX2_seen_100 ?_
            refine J_aload_n dX2_seen_101 rfl ?_
            refine J_iload dX2_seen_102 rfl ?_
            refine TC_X2_edge (by decide) (Nat.le_of_ble_eq_true rfl) dX2_seen_104 ?_
            refine t_edge hS hO (by omega) ?_
            refine J_ri ?_
            refine J_isub_z dX2_seen_107 ?_
            refine J_istore dX2_seen_108 rfl (by decide) _ rfl ?_
            refine J_aload_n dX2_seen_110 rfl ?_
            refine TG_now dX2_seen_111 ?_
            refine J_iconst (zI 4) dX2_seen_114 rfl ?_
            refine J_iload dX2_seen_115 rfl ?_
            refine J_imul_z dX2_seen_117 ?_
            refine J_iconst (zI 3) dX2_seen_118 rfl ?_
            refine J_iadd_z dX2_seen_119 ?_
            refine TJ_iald 23 (((4 * f) + 3)) ⟨rfl, rfl, by decide⟩ (by omega) (show ((4 * f) + 3) < 33 by omega) dX2_seen_120 ?_
            refine J_top (zI (P f 3)) (hP.1 f 3 (by omega) (by decide)) ?_
            refine J_iconst (zI 1) dX2_seen_121 rfl ?_
            refine J_icmp_ne_z (tgt := 129) dX2_seen_122 (by decide) (by unfold zR; omega) (by unfold zR; omega) (fun c122 => ?_) (fun c122 => ?_)
            · skip
              refine J_iconst (zI 0) dX2_seen_129 rfl ?_
              refine J_istore dX2_seen_130 rfl (by decide) _ rfl ?_
              refine J_iload dX2_seen_132 rfl ?_
              refine J_if_eq_y (tgt := 142) dX2_seen_134 (by decide) (by decide) ?_
              refine J_iload dX2_seen_142 rfl ?_
              refine J_aload_n dX2_seen_144 rfl ?_
              refine J_iload dX2_seen_145 rfl ?_
              refine TC_X2_across (by decide) (Nat.le_of_ble_eq_true rfl) dX2_seen_147 ?_
              refine t_across hS hO (by omega) ?_
              refine J_ri ?_
              refine J_iconst (zI 1) dX2_seen_150 rfl ?_
              refine J_isub_z dX2_seen_151 ?_
              refine TC_X2_clamped (by decide) (Nat.le_of_ble_eq_true rfl) dX2_seen_152 ?_
              refine t_clamped (by unfold zR; omega) (by unfold zR; omega) ?_
              refine J_ri ?_
              refine J_aload_n dX2_seen_155 rfl ?_
              refine J_iload dX2_seen_156 rfl ?_
              refine TC_X2_leftOf (by decide) (Nat.le_of_ble_eq_true rfl) dX2_seen_158 ?_
              refine t_leftOf hS hO (by omega) ?_
              refine J_ri ?_
              refine J_iadd_z dX2_seen_161 ?_
              refine J_istore dX2_seen_162 rfl (by decide) _ rfl ?_
              refine J_iload dX2_seen_164 rfl ?_
              refine J_if_eq_y (tgt := 174) dX2_seen_166 (by decide) (by decide) ?_
              refine J_iload dX2_seen_174 rfl ?_
              refine J_aload_n dX2_seen_176 rfl ?_
              refine J_iload dX2_seen_177 rfl ?_
              refine TC_X2_down (by decide) (Nat.le_of_ble_eq_true rfl) dX2_seen_179 ?_
              refine t_down hS hO (by omega) ?_
              refine J_ri ?_
              refine J_iconst (zI 1) dX2_seen_182 rfl ?_
              refine J_isub_z dX2_seen_183 ?_
              refine TC_X2_clamped (by decide) (Nat.le_of_ble_eq_true rfl) dX2_seen_184 ?_
              refine t_clamped (by unfold zR; omega) (by unfold zR; omega) ?_
              refine J_ri ?_
              refine J_aload_n dX2_seen_187 rfl ?_
              refine J_iload dX2_seen_188 rfl ?_
              refine TC_X2_aboveOf (by decide) (Nat.le_of_ble_eq_true rfl) dX2_seen_190 ?_
              refine t_aboveOf hS hO (by omega) ?_
              refine J_ri ?_
              refine J_iadd_z dX2_seen_193 ?_
              refine J_istore dX2_seen_194 rfl (by decide) _ rfl ?_
              refine J_aload_n dX2_seen_196 rfl ?_
              refine J_bipush (zI 100) dX2_seen_197 rfl ?_
              refine J_iload dX2_seen_199 rfl ?_
              refine J_imul_z dX2_seen_201 ?_
              refine J_iload dX2_seen_202 rfl ?_
              refine J_iadd_z dX2_seen_204 ?_
              refine J_iload dX2_seen_205 rfl ?_
              refine TC_X2_tells (by decide) (Nat.le_of_ble_eq_true rfl) dX2_seen_207 ?_
              refine t_tells  ?_
              refine J_ri ?_
              exact J_iret rfl dX2_seen_210 (by exact q1 f hf hg _ ((e1.mono (by decide) (by decide)).sI (by decide)) (congrArg zI (by unfold mSeen; first | rw [if_pos (by assumption), if_pos (by assumption)] | rw [if_neg (by assumption), if_neg (by assumption)])))
            · skip
              refine J_iconst (zI 1) dX2_seen_125 rfl ?_
              refine J_goto (tgt := 130) dX2_seen_126 (by decide) ?_
              refine J_istore dX2_seen_130 rfl (by decide) _ rfl ?_
              refine J_iload dX2_seen_132 rfl ?_
              refine J_if_eq_n (tgt := 142) dX2_seen_134 (by decide) (by decide) ?_
              refine J_iload dX2_seen_137 rfl ?_
              refine J_goto (tgt := 144) dX2_seen_139 (by decide) ?_
              refine J_aload_n dX2_seen_144 rfl ?_
              refine J_iload dX2_seen_145 rfl ?_
              refine TC_X2_across (by decide) (Nat.le_of_ble_eq_true rfl) dX2_seen_147 ?_
              refine t_across hS hO (by omega) ?_
              refine J_ri ?_
              refine J_iconst (zI 1) dX2_seen_150 rfl ?_
              refine J_isub_z dX2_seen_151 ?_
              refine TC_X2_clamped (by decide) (Nat.le_of_ble_eq_true rfl) dX2_seen_152 ?_
              refine t_clamped (by unfold zR; omega) (by unfold zR; omega) ?_
              refine J_ri ?_
              refine J_aload_n dX2_seen_155 rfl ?_
              refine J_iload dX2_seen_156 rfl ?_
              refine TC_X2_leftOf (by decide) (Nat.le_of_ble_eq_true rfl) dX2_seen_158 ?_
              refine t_leftOf hS hO (by omega) ?_
              refine J_ri ?_
              refine J_iadd_z dX2_seen_161 ?_
              refine J_istore dX2_seen_162 rfl (by decide) _ rfl ?_
              refine J_iload dX2_seen_164 rfl ?_
              refine J_if_eq_n (tgt := 174) dX2_seen_166 (by decide) (by decide) ?_
              refine J_iload dX2_seen_169 rfl ?_
              refine J_goto (tgt := 176) dX2_seen_171 (by decide) ?_
              refine J_aload_n dX2_seen_176 rfl ?_
              refine J_iload dX2_seen_177 rfl ?_
              refine TC_X2_down (by decide) (Nat.le_of_ble_eq_true rfl) dX2_seen_179 ?_
              refine t_down hS hO (by omega) ?_
              refine J_ri ?_
              refine J_iconst (zI 1) dX2_seen_182 rfl ?_
              refine J_isub_z dX2_seen_183 ?_
              refine TC_X2_clamped (by decide) (Nat.le_of_ble_eq_true rfl) dX2_seen_184 ?_
              refine t_clamped (by unfold zR; omega) (by unfold zR; omega) ?_
              refine J_ri ?_
              refine J_aload_n dX2_seen_187 rfl ?_
              refine J_iload dX2_seen_188 rfl ?_
              refine TC_X2_aboveOf (by decide) (Nat.le_of_ble_eq_true rfl) dX2_seen_190 ?_
              refine t_aboveOf hS hO (by omega) ?_
              refine J_ri ?_
              refine J_iadd_z dX2_seen_193 ?_
              refine J_istore dX2_seen_194 rfl (by decide) _ rfl ?_
              refine J_aload_n dX2_seen_196 rfl ?_
              refine J_bipush (zI 100) dX2_seen_197 rfl ?_
              refine J_iload dX2_seen_199 rfl ?_
              refine J_imul_z dX2_seen_201 ?_
              refine J_iload dX2_seen_202 rfl ?_
              refine J_iadd_z dX2_seen_204 ?_
              refine J_iload dX2_seen_205 rfl ?_
              refine TC_X2_tells (by decide) (Nat.le_of_ble_eq_true rfl) dX2_seen_207 ?_
              refine t_tells  ?_
              refine J_ri ?_
              exact J_iret rfl dX2_seen_210 (by exact q1 f hf hg _ ((e1.mono (by decide) (by decide)).sI (by decide)) (congrArg zI (by unfold mSeen; first | rw [if_pos (by assumption), if_pos (by assumption)] | rw [if_neg (by assumption), if_neg (by assumption)])))
          · exfalso; omega
      · exfalso; omega
    · exfalso; omega
  · exfalso; omega
theorem t_takes_bad {E : jEnv} {α : Nat → Nat} {σ : tS} {Q : Option Value → tS → Prop} {many : Nat} {wide high bl : Int} {G : Nat → Nat → Int} {P : Nat → Nat → Int} {rule : Int} {v : Int} (hS : tSh many wide high bl G σ) (hO : shOK many wide high bl G) (hP : tPl P rule σ) (hN : plOK many P rule) (rv : zR v) (hv : ¬ (0 ≤ v ∧ v < pgM P many)) (hq : Q (some (.int (zI (-1)))) σ) : jX2_takes E α 0 [some (.ref (α 0)), some (.int (zI (v))), none, none, none] [] σ Q := by
  refine J_aload_n dX2_takes_0 rfl ?_
  refine J_iload_n dX2_takes_1 rfl ?_
  refine TC_X2_isPage (by decide) (Nat.le_of_ble_eq_true rfl) dX2_takes_2 ?_
  refine t_isPage hS hO hP hN (by unfold zR at *; omega) (fun b2 => ?_) (fun b2 => ?_)
  · exfalso; omega
  · refine J_ri ?_
    refine J_if_ne_n (tgt := 10) dX2_takes_5 (by decide) (by decide) ?_
    refine J_iconst (zI (-1)) dX2_takes_8 rfl ?_
    exact J_iret rfl dX2_takes_9 (by exact hq)
theorem tl_takes22 {E : jEnv} {α : Nat → Nat} {σ : tS} {Q : Option Value → tS → Prop} {many : Nat} {wide high bl : Int} {G : Nat → Nat → Int} {P : Nat → Nat → Int} {rule : Int} {v : Int} {l : List rct} (hS : tSh many wide high bl G σ) (hO : shOK many wide high bl G) (hP : tPl P rule σ) (hN : plOK many P rule) (hF : tFr l σ) (hl : ∀ r ∈ l, rOK r) (hll : l.length ≤ 4096) (hx : ∀ σ1, tEq [32, 33, 34, 35] [] σ σ1 → jX2_takes E α 67 [some (.ref (α 0)), some (.int (zI (v))), some (.int (nI (mTk bl G P l many))), some (.int (zI (0))), none] [] σ1 Q) : ∀ (n : Nat) (f : Nat) (σ1 : tS), f ≤ many → tEq [32, 33, 34, 35] [] σ σ1 → many - f < n → jX2_takes E α 22 [some (.ref (α 0)), some (.int (zI (v))), some (.int (nI (mTk bl G P l f))), some (.int (zI 0)), some (.int (zI (f : Nat)))] [] σ1 Q := by
  intro n
  induction n with
  | zero => intro f σ1 h1 h2 hn; exact absurd hn (Nat.not_lt_zero _)
  | succ n ih =>
    intro f σ1 h1 h2 hn
    have := hO.s
    have hS := hS.eq h2 (by decide) (by decide) (by decide) (by decide) (by decide)
    have hP := hP.eq h2 (by decide)
    have hF := hF.eq h2 (by decide) (by decide) (by decide) (by decide) (by decide)
    refine J_iload dX2_takes_22 rfl ?_
    refine J_aload_n dX2_takes_24 rfl ?_
    refine TG_frameMany dX2_takes_25 ?_
    refine J_top (zI (many)) hS.1 ?_
    refine J_icmp_ge_z (tgt := 67) dX2_takes_28 (by decide) (by unfold zR; omega) (by unfold zR; omega) (fun c28 => ?_) (fun c28 => ?_)
    · skip
      obtain rfl : f = many := by omega
      refine J_fg (L' := [some (.ref (α 0)), some (.int (zI (v))), some (.int (nI (mTk bl G P l f))), some (.int (zI (0))), none]) (by repeat' constructor) ?_
      exact hx σ1 h2
    · skip
      refine J_iload_n dX2_takes_31 rfl ?_
      refine J_aload_n dX2_takes_32 rfl ?_
      refine J_iload dX2_takes_33 rfl ?_
      refine TC_X2_isSet (by decide) (Nat.le_of_ble_eq_true rfl) dX2_takes_35 ?_
      refine t_isSet hS hO hP hN (by omega) (fun b35 => ?_) (fun b35 => ?_)
      · refine J_ri ?_
        refine J_if_ne_y (tgt := 58) dX2_takes_38 (by decide) (by decide) ?_
        refine J_iconst (zI 0) dX2_takes_58 rfl ?_
        refine J_ior dX2_takes_59 ?_
        refine J_top (nI (mTk bl G P l (f + 1))) (by first | exact mTk_y (by omega) b35 b45 | exact mTk_n (by omega)) ?_
        refine J_istore_n dX2_takes_60 rfl (by decide) _ rfl ?_
        refine J_iinc_z ((((f + 1)) : Nat) : Int) (by omega) dX2_takes_61 rfl rfl (by decide) _ rfl ?_
        refine J_goto (tgt := 22) dX2_takes_64 (by decide) ?_
        exact ih (f + 1) σ1 (by omega) h2 (by omega)
      · refine J_ri ?_
        refine J_if_ne_n (tgt := 58) dX2_takes_38 (by decide) (by decide) ?_
        refine J_aload_n dX2_takes_41 rfl ?_
        refine J_iload dX2_takes_42 rfl ?_
        refine J_iconst (zI 0) dX2_takes_44 rfl ?_
        refine TC_X2_findsRoom (by decide) (Nat.le_of_ble_eq_true rfl) dX2_takes_45 ?_
        refine t_findsRoom hS hO (by omega) hF hl hll (by omega)  (fun b45 σ3 e3 B3 => ?_) (fun b45 σ3 e3 => ?_)
        · refine J_ri ?_
          refine J_if_eq_n (tgt := 58) dX2_takes_48 (by decide) (by decide) ?_
          refine J_iconst (zI 1) dX2_takes_51 rfl ?_
          refine J_iload dX2_takes_52 rfl ?_
          refine J_ishl dX2_takes_54 ?_
          refine J_goto (tgt := 59) dX2_takes_55 (by decide) ?_
          refine J_ior dX2_takes_59 ?_
          refine J_top (nI (mTk bl G P l (f + 1))) (by first | exact mTk_y (by omega) b35 b45 | exact mTk_n (by omega)) ?_
          refine J_istore_n dX2_takes_60 rfl (by decide) _ rfl ?_
          refine J_iinc_z ((((f + 1)) : Nat) : Int) (by omega) dX2_takes_61 rfl rfl (by decide) _ rfl ?_
          refine J_goto (tgt := 22) dX2_takes_64 (by decide) ?_
          exact ih (f + 1) σ3 (by omega) (h2.trans e3) (by omega)
        · refine J_ri ?_
          refine J_if_eq_y (tgt := 58) dX2_takes_48 (by decide) (by decide) ?_
          refine J_iconst (zI 0) dX2_takes_58 rfl ?_
          refine J_ior dX2_takes_59 ?_
          refine J_top (nI (mTk bl G P l (f + 1))) (by first | exact mTk_y (by omega) b35 b45 | exact mTk_n (by omega)) ?_
          refine J_istore_n dX2_takes_60 rfl (by decide) _ rfl ?_
          refine J_iinc_z ((((f + 1)) : Nat) : Int) (by omega) dX2_takes_61 rfl rfl (by decide) _ rfl ?_
          refine J_goto (tgt := 22) dX2_takes_64 (by decide) ?_
          exact ih (f + 1) σ3 (by omega) (h2.trans e3) (by omega)
theorem tl_takes70 {E : jEnv} {α : Nat → Nat} {σ : tS} {Q : Option Value → tS → Prop} {v : Int} {l : List rct} {m : Nat} (hF : tFr l σ) (hl : ∀ r ∈ l, rOK r) (hll : l.length ≤ 4096) (hq : Q (some (.int (nI m))) (setI σ 0 (zI (mMost l l.length)))) : ∀ (n : Nat) (k : Nat), k ≤ l.length → l.length - k < n → jX2_takes E α 70 [some (.ref (α 0)), some (.int (zI (v))), some (.int (nI m)), some (.int (zI (mMost l k))), some (.int (zI (k : Nat)))] [] σ Q := by
  intro n
  induction n with
  | zero => intro k h1 hn; exact absurd hn (Nat.not_lt_zero _)
  | succ n ih =>
    intro k h1 hn
    have := mMost_b hl k h1
    refine J_iload dX2_takes_70 rfl ?_
    refine J_aload_n dX2_takes_72 rfl ?_
    refine TG_freeMany dX2_takes_73 ?_
    refine J_top (zI (l.length)) hF.1 ?_
    refine J_icmp_ge_z (tgt := 124) dX2_takes_76 (by decide) (by unfold zR; omega) (by unfold zR; omega) (fun c76 => ?_) (fun c76 => ?_)
    · skip
      obtain rfl : k = l.length := by omega
      refine J_aload_n dX2_takes_124 rfl ?_
      refine J_iload_n dX2_takes_125 rfl ?_
      refine J_iload_n dX2_takes_126 rfl ?_
      refine TC_X2_tells (by decide) (Nat.le_of_ble_eq_true rfl) dX2_takes_127 ?_
      refine t_tells  ?_
      refine J_ri ?_
      exact J_iret rfl dX2_takes_130 (by exact hq)
    · skip
      have hr := getD_ok hl (show k < l.length by omega)
      have := area_b hr
      obtain ⟨-, -, f3, f4⟩ := hF.2 k (by omega)
      refine J_aload_n dX2_takes_79 rfl ?_
      refine TG_freeW dX2_takes_80 ?_
      refine J_iload dX2_takes_83 rfl ?_
      refine TJ_iald 30 (k) ⟨rfl, rfl, by decide⟩ (by omega) (show k < 4096 by omega) dX2_takes_85 ?_
      refine J_top (zI ((l.getD k (0, 0, 0, 0)).2.2.1)) (f3) ?_
      refine J_aload_n dX2_takes_86 rfl ?_
      refine TG_freeH dX2_takes_87 ?_
      refine J_iload dX2_takes_90 rfl ?_
      refine TJ_iald 31 (k) ⟨rfl, rfl, by decide⟩ (by omega) (show k < 4096 by omega) dX2_takes_92 ?_
      refine J_top (zI ((l.getD k (0, 0, 0, 0)).2.2.2)) (f4) ?_
      refine J_imul_z dX2_takes_93 ?_
      refine J_iload_n dX2_takes_94 rfl ?_
      refine J_icmp_le_z (tgt := 116) dX2_takes_95 (by decide) (by unfold zR; omega) (by unfold zR; omega) (fun c95 => ?_) (fun c95 => ?_)
      · skip
        refine J_iload_n dX2_takes_116 rfl ?_
        refine J_top (zI (mMost l (k + 1))) (congrArg zI (by simp only [mMost]; split <;> omega)) ?_
        refine J_istore_n dX2_takes_117 rfl (by decide) _ rfl ?_
        refine J_iinc_z ((((k + 1)) : Nat) : Int) (by omega) dX2_takes_118 rfl rfl (by decide) _ rfl ?_
        refine J_goto (tgt := 70) dX2_takes_121 (by decide) ?_
        exact ih (k + 1) (by omega) (by omega)
      · skip
        refine J_aload_n dX2_takes_98 rfl ?_
        refine TG_freeW dX2_takes_99 ?_
        refine J_iload dX2_takes_102 rfl ?_
        refine TJ_iald 30 (k) ⟨rfl, rfl, by decide⟩ (by omega) (show k < 4096 by omega) dX2_takes_104 ?_
        refine J_top (zI ((l.getD k (0, 0, 0, 0)).2.2.1)) (f3) ?_
        refine J_aload_n dX2_takes_105 rfl ?_
        refine TG_freeH dX2_takes_106 ?_
        refine J_iload dX2_takes_109 rfl ?_
        refine TJ_iald 31 (k) ⟨rfl, rfl, by decide⟩ (by omega) (show k < 4096 by omega) dX2_takes_111 ?_
        refine J_top (zI ((l.getD k (0, 0, 0, 0)).2.2.2)) (f4) ?_
        refine J_imul_z dX2_takes_112 ?_
        refine J_goto (tgt := 117) dX2_takes_113 (by decide) ?_
        refine J_top (zI (mMost l (k + 1))) (congrArg zI (by simp only [mMost]; split <;> omega)) ?_
        refine J_istore_n dX2_takes_117 rfl (by decide) _ rfl ?_
        refine J_iinc_z ((((k + 1)) : Nat) : Int) (by omega) dX2_takes_118 rfl rfl (by decide) _ rfl ?_
        refine J_goto (tgt := 70) dX2_takes_121 (by decide) ?_
        exact ih (k + 1) (by omega) (by omega)
theorem t_takes {E : jEnv} {α : Nat → Nat} {σ : tS} {Q : Option Value → tS → Prop} {many : Nat} {wide high bl : Int} {G : Nat → Nat → Int} {P : Nat → Nat → Int} {rule : Int} {v : Int} (hS : tSh many wide high bl G σ) (hO : shOK many wide high bl G) (hP : tPl P rule σ) (hN : plOK many P rule) (hV : plV many wide high bl G P) (hv : 0 ≤ v ∧ v < pgM P many) (hq : ∀ σ1, tEq [0, 27, 32, 33, 34, 35] [26, 28, 29, 30, 31] σ σ1 → σ1.1 0 = zI (mMost (frL wide high (gO bl G P v many)) (frL wide high (gO bl G P v many)).length) → Q (some (.int (nI (mTk bl G P (frL wide high (gO bl G P v many)) many)))) σ1) : jX2_takes E α 0 [some (.ref (α 0)), some (.int (zI (v))), none, none, none] [] σ Q := by
  have := hO.s
  have := pgM_b hN many (Nat.le_refl _)
  refine J_aload_n dX2_takes_0 rfl ?_
  refine J_iload_n dX2_takes_1 rfl ?_
  refine TC_X2_isPage (by decide) (Nat.le_of_ble_eq_true rfl) dX2_takes_2 ?_
  refine t_isPage hS hO hP hN (by unfold zR at *; omega) (fun b2 => ?_) (fun b2 => ?_)
  · refine J_ri ?_
    refine J_if_ne_y (tgt := 10) dX2_takes_5 (by decide) (by decide) ?_
    refine J_aload_n dX2_takes_10 rfl ?_
    refine J_iload_n dX2_takes_11 rfl ?_
    refine TC_X2_layFree (by decide) (Nat.le_of_ble_eq_true rfl) dX2_takes_12 ?_
    refine t_layFree hS hO hP hN hV (by omega) (fun σ1 l e1 F1 O1 => ?_)
    obtain rfl := frL_eq O1
    have hS := hS.eq e1 (by decide) (by decide) (by decide) (by decide) (by decide)
    have hP := hP.eq e1 (by decide)
    have hl := O1.ok (by omega) (by omega)
    refine J_rv ?_
    refine J_iconst (zI 0) dX2_takes_15 rfl ?_
    refine J_istore_n dX2_takes_16 rfl (by decide) _ rfl ?_
    refine J_iconst (zI 0) dX2_takes_17 rfl ?_
    refine J_istore_n dX2_takes_18 rfl (by decide) _ rfl ?_
    refine J_iconst (zI 0) dX2_takes_19 rfl ?_
    refine J_istore dX2_takes_20 rfl (by decide) _ rfl ?_
    refine tl_takes22 hS hO hP hN F1 hl O1.2.2 (fun σ2 e2 => ?_) _ 0 σ1 (by omega) tEq.refl (Nat.lt_succ_self _)
    refine J_iconst (zI 0) dX2_takes_67 rfl ?_
    refine J_istore dX2_takes_68 rfl (by decide) _ rfl ?_
    exact tl_takes70 (F1.eq e2 (by decide) (by decide) (by decide) (by decide) (by decide)) hl O1.2.2 (hq _ (((e1.mono (by decide) (by decide)).trans (e2.mono (by decide) (by decide))).sI (by decide)) rfl) _ 0 (by omega) (Nat.lt_succ_self _)
  · exfalso; omega
theorem tl_allTaken4 {E : jEnv} {α : Nat → Nat} {σ : tS} {Q : Option Value → tS → Prop} {many : Nat} {wide high bl : Int} {G : Nat → Nat → Int} {P : Nat → Nat → Int} {rule : Int}  (hS : tSh many wide high bl G σ) (hO : shOK many wide high bl G) (hP : tPl P rule σ) (hN : plOK many P rule) (hq : Q (some (.int (zI (mSumT bl G P many (pgM P many).toNat)))) σ) : ∀ (n : Nat) (p : Nat), (p : Int) ≤ pgM P many → (pgM P many).toNat - p < n → jX2_allTaken E α 4 [some (.ref (α 0)), some (.int (zI (mSumT bl G P many p))), some (.int (zI (p : Nat)))] [] σ Q := by
  intro n
  induction n with
  | zero => intro p h1 hn; exact absurd hn (Nat.not_lt_zero _)
  | succ n ih =>
    intro p h1 hn
    have := hO.s
    have := pgM_b hN many (Nat.le_refl _)
    have := mSumT_b (P := P) hO p
    refine J_iload_n dX2_allTaken_4 rfl ?_
    refine J_aload_n dX2_allTaken_5 rfl ?_
    refine TC_X2_pageMany (by decide) (Nat.le_of_ble_eq_true rfl) dX2_allTaken_6 ?_
    refine t_pageMany hS hO hP hN  ?_
    refine J_ri ?_
    refine J_icmp_ge_z (tgt := 26) dX2_allTaken_9 (by decide) (by unfold zR; omega) (by unfold zR; omega) (fun c9 => ?_) (fun c9 => ?_)
    · skip
      obtain rfl : p = (pgM P many).toNat := by omega
      refine J_iload_n dX2_allTaken_26 rfl ?_
      exact J_iret rfl dX2_allTaken_27 (by exact hq)
    · skip
      refine J_iload_n dX2_allTaken_12 rfl ?_
      refine J_aload_n dX2_allTaken_13 rfl ?_
      refine J_iload_n dX2_allTaken_14 rfl ?_
      refine TC_X2_takenOf (by decide) (Nat.le_of_ble_eq_true rfl) dX2_allTaken_15 ?_
      refine t_takenOf hS hO hP hN (by unfold zR at *; omega) ?_
      refine J_ri ?_
      refine J_iadd_z dX2_allTaken_18 ?_
      refine J_top (zI (mSumT bl G P many (p + 1))) rfl ?_
      refine J_istore_n dX2_allTaken_19 rfl (by decide) _ rfl ?_
      refine J_iinc_z ((((p + 1)) : Nat) : Int) (by omega) dX2_allTaken_20 rfl rfl (by decide) _ rfl ?_
      refine J_goto (tgt := 4) dX2_allTaken_23 (by decide) ?_
      exact ih (p + 1) (by omega) (by omega)
theorem t_allTaken {E : jEnv} {α : Nat → Nat} {σ : tS} {Q : Option Value → tS → Prop} {many : Nat} {wide high bl : Int} {G : Nat → Nat → Int} {P : Nat → Nat → Int} {rule : Int}  (hS : tSh many wide high bl G σ) (hO : shOK many wide high bl G) (hP : tPl P rule σ) (hN : plOK many P rule) (hq : Q (some (.int (zI (mSumT bl G P many (pgM P many).toNat)))) σ) : jX2_allTaken E α 0 [some (.ref (α 0)), none, none] [] σ Q := by
  refine J_iconst (zI 0) dX2_allTaken_0 rfl ?_
  refine J_istore_n dX2_allTaken_1 rfl (by decide) _ rfl ?_
  refine J_iconst (zI 0) dX2_allTaken_2 rfl ?_
  refine J_istore_n dX2_allTaken_3 rfl (by decide) _ rfl ?_
  exact tl_allTaken4 hS hO hP hN hq _ 0 (by have := pgM_b hN many (Nat.le_refl _); omega) (Nat.lt_succ_self _)
theorem tl_allFree4 {E : jEnv} {α : Nat → Nat} {σ : tS} {Q : Option Value → tS → Prop} {many : Nat} {wide high bl : Int} {G : Nat → Nat → Int} {P : Nat → Nat → Int} {rule : Int}  (hS : tSh many wide high bl G σ) (hO : shOK many wide high bl G) (hP : tPl P rule σ) (hN : plOK many P rule) (hV : plV many wide high bl G P) (hq : ∀ σ1, tEq [27, 32, 33, 34, 35] [26, 28, 29, 30, 31] σ σ1 → Q (some (.int (zI (mSumF many wide high bl G P (pgM P many).toNat)))) σ1) : ∀ (n : Nat) (p : Nat) (σ1 : tS), (p : Int) ≤ pgM P many → tEq [27, 32, 33, 34, 35] [26, 28, 29, 30, 31] σ σ1 → (pgM P many).toNat - p < n → jX2_allFree E α 4 [some (.ref (α 0)), some (.int (zI ((mSumF many wide high bl G P p)))), some (.int (zI (p : Nat)))] [] σ1 Q := by
  intro n
  induction n with
  | zero => intro p σ1 h1 h2 hn; exact absurd hn (Nat.not_lt_zero _)
  | succ n ih =>
    intro p σ1 h1 h2 hn
    have := hO.s
    have := pgM_b hN many (Nat.le_refl _)
    have := mSumF_b (P := P) hO p
    have hS := hS.eq h2 (by decide) (by decide) (by decide) (by decide) (by decide)
    have hP := hP.eq h2 (by decide)
    refine J_iload_n dX2_allFree_4 rfl ?_
    refine J_aload_n dX2_allFree_5 rfl ?_
    refine TC_X2_pageMany (by decide) (Nat.le_of_ble_eq_true rfl) dX2_allFree_6 ?_
    refine t_pageMany hS hO hP hN  ?_
    refine J_ri ?_
    refine J_icmp_ge_z (tgt := 30) dX2_allFree_9 (by decide) (by unfold zR; omega) (by unfold zR; omega) (fun c9 => ?_) (fun c9 => ?_)
    · skip
      obtain rfl : p = (pgM P many).toNat := by omega
      refine J_iload_n dX2_allFree_30 rfl ?_
      exact J_iret rfl dX2_allFree_31 (by exact hq σ1 h2)
    · skip
      refine J_aload_n dX2_allFree_12 rfl ?_
      refine J_iload_n dX2_allFree_13 rfl ?_
      refine TC_X2_layFree (by decide) (Nat.le_of_ble_eq_true rfl) dX2_allFree_14 ?_
      refine t_layFree hS hO hP hN hV (by omega) (fun σ2 l e2 F2 O2 => ?_)
      obtain rfl := frL_eq O2
      refine J_rv ?_
      refine J_iload_n dX2_allFree_17 rfl ?_
      refine J_aload_n dX2_allFree_18 rfl ?_
      refine TG_freeMany dX2_allFree_19 ?_
      refine J_top (zI ((frL wide high (gO bl G P (p : Int) many)).length)) F2.1 ?_
      refine J_iadd_z dX2_allFree_22 ?_
      refine J_top (zI ((mSumF many wide high bl G P (p + 1)))) rfl ?_
      refine J_istore_n dX2_allFree_23 rfl (by decide) _ rfl ?_
      refine J_iinc_z ((((p + 1)) : Nat) : Int) (by omega) dX2_allFree_24 rfl rfl (by decide) _ rfl ?_
      refine J_goto (tgt := 4) dX2_allFree_27 (by decide) ?_
      exact ih (p + 1) σ2 (by omega) (h2.trans (e2.mono (by decide) (by decide))) (by omega)
theorem t_allFree {E : jEnv} {α : Nat → Nat} {σ : tS} {Q : Option Value → tS → Prop} {many : Nat} {wide high bl : Int} {G : Nat → Nat → Int} {P : Nat → Nat → Int} {rule : Int}  (hS : tSh many wide high bl G σ) (hO : shOK many wide high bl G) (hP : tPl P rule σ) (hN : plOK many P rule) (hV : plV many wide high bl G P) (hq : ∀ σ1, tEq [27, 32, 33, 34, 35] [26, 28, 29, 30, 31] σ σ1 → Q (some (.int (zI (mSumF many wide high bl G P (pgM P many).toNat)))) σ1) : jX2_allFree E α 0 [some (.ref (α 0)), none, none] [] σ Q := by
  refine J_iconst (zI 0) dX2_allFree_0 rfl ?_
  refine J_istore_n dX2_allFree_1 rfl (by decide) _ rfl ?_
  refine J_iconst (zI 0) dX2_allFree_2 rfl ?_
  refine J_istore_n dX2_allFree_3 rfl (by decide) _ rfl ?_
  exact tl_allFree4 hS hO hP hN hV hq _ 0 σ (by have := pgM_b hN many (Nat.le_refl _); omega) tEq.refl (Nat.lt_succ_self _)
