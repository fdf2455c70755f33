set_option maxRecDepth 100000
/-! the twin: copy -/
theorem t_copy_bad {E : jEnv} {α : Nat → Nat} {σ : tS} {Q : Option Value → tS → Prop} {v i u j cn : Int} (rv : zR v) (ru : zR u) (hv : ¬ (0 ≤ v ∧ v ≤ 5) ∨ ¬ (0 ≤ u ∧ u ≤ 5)) (hq : Q (some (.int (zI (-1)))) σ) : jX2_copy E α 0 [some (.ref (α 0)), some (.int (zI (v))), some (.int (zI (i))), some (.int (zI (u))), some (.int (zI (j))), some (.int (zI (cn))), none] [] σ Q := by
  refine J_iload_n dX2_copy_0 rfl ?_
  refine TC_X2_isRow (by decide) (Nat.le_of_ble_eq_true rfl) dX2_copy_1 ?_
  refine t_isRow (by unfold zR at *; omega) (fun b1 => ?_) (fun b1 => ?_)
  · refine J_ri ?_
    refine J_if_eq_n (tgt := 14) dX2_copy_4 (by decide) (by decide) ?_
    refine J_iload_n dX2_copy_7 rfl ?_
    refine TC_X2_isRow (by decide) (Nat.le_of_ble_eq_true rfl) dX2_copy_8 ?_
    refine t_isRow (by unfold zR at *; omega) (fun b8 => ?_) (fun b8 => ?_)
    · exfalso; omega
    · refine J_ri ?_
      refine J_if_ne_n (tgt := 16) dX2_copy_11 (by decide) (by decide) ?_
      refine J_iconst (zI (-1)) dX2_copy_14 rfl ?_
      exact J_iret rfl dX2_copy_15 (by exact hq)
  · refine J_ri ?_
    refine J_if_eq_y (tgt := 14) dX2_copy_4 (by decide) (by decide) ?_
    refine J_iconst (zI (-1)) dX2_copy_14 rfl ?_
    exact J_iret rfl dX2_copy_15 (by exact hq)
theorem t_copy_neg {E : jEnv} {α : Nat → Nat} {σ : tS} {Q : Option Value → tS → Prop} {r q : Nat} {i j cn : Int} (hr : r < 6) (hq6 : q < 6) (rc : zR cn) (hc : cn < 0) (hq : Q (some (.int (zI (-3)))) (setA (setI σ 1 (zI 5)) 2 (upd (σ.2.1 2) 5 (σ.2.1 2 5 + zI 1)))) : jX2_copy E α 0 [some (.ref (α 0)), some (.int (zI (r : Nat))), some (.int (zI (i))), some (.int (zI (q : Nat))), some (.int (zI (j))), some (.int (zI (cn))), none] [] σ Q := by
  refine J_iload_n dX2_copy_0 rfl ?_
  refine TC_X2_isRow (by decide) (Nat.le_of_ble_eq_true rfl) dX2_copy_1 ?_
  refine t_isRow (by unfold zR at *; omega) (fun b1 => ?_) (fun b1 => ?_)
  · refine J_ri ?_
    refine J_if_eq_n (tgt := 14) dX2_copy_4 (by decide) (by decide) ?_
    refine J_iload_n dX2_copy_7 rfl ?_
    refine TC_X2_isRow (by decide) (Nat.le_of_ble_eq_true rfl) dX2_copy_8 ?_
    refine t_isRow (by unfold zR at *; omega) (fun b8 => ?_) (fun b8 => ?_)
    · refine J_ri ?_
      refine J_if_ne_y (tgt := 16) dX2_copy_11 (by decide) (by decide) ?_
      refine J_iload dX2_copy_16 rfl ?_
      refine J_if_ge_z (tgt := 27) dX2_copy_18 (by decide) (by unfold zR at *; omega) (fun c18 => ?_) (fun c18 => ?_)
      · exfalso; omega
      · skip
        refine J_aload_n dX2_copy_21 rfl ?_
        refine J_iconst (zI 5) dX2_copy_22 rfl ?_
        refine TC_X2_found (by decide) (Nat.le_of_ble_eq_true rfl) dX2_copy_23 ?_
        refine t_found (m := _) (by decide) ?_
        refine J_ri ?_
        exact J_iret rfl dX2_copy_26 (by exact hq)
    · exfalso; omega
  · exfalso; omega
theorem t_copy_no {E : jEnv} {α : Nat → Nat} {σ : tS} {Q : Option Value → tS → Prop} {rs : Nat → Int} {rd : Nat → Nat → Int32} {ts : Nat → Int} {tb : Nat → Nat → Int} {r q : Nat} {i j cn : Int} (hDt : tDt rs rd ts tb σ) (hDo : dtOK rs ts tb) (hr : r < 6) (hq6 : q < 6) (rc : zR cn) (hc : 0 ≤ cn) (h0 : rs r = -1 ∨ rs q = -1) (hq : Q (some (.int (zI (-3)))) (setA (setI σ 1 (zI 1)) 2 (upd (σ.2.1 2) 1 (σ.2.1 2 1 + zI 1)))) : jX2_copy E α 0 [some (.ref (α 0)), some (.int (zI (r : Nat))), some (.int (zI (i))), some (.int (zI (q : Nat))), some (.int (zI (j))), some (.int (zI (cn))), none] [] σ Q := by
  have := hDo.1 r hr
  have := hDo.1 q hq6
  refine J_iload_n dX2_copy_0 rfl ?_
  refine TC_X2_isRow (by decide) (Nat.le_of_ble_eq_true rfl) dX2_copy_1 ?_
  refine t_isRow (by unfold zR at *; omega) (fun b1 => ?_) (fun b1 => ?_)
  · refine J_ri ?_
    refine J_if_eq_n (tgt := 14) dX2_copy_4 (by decide) (by decide) ?_
    refine J_iload_n dX2_copy_7 rfl ?_
    refine TC_X2_isRow (by decide) (Nat.le_of_ble_eq_true rfl) dX2_copy_8 ?_
    refine t_isRow (by unfold zR at *; omega) (fun b8 => ?_) (fun b8 => ?_)
    · refine J_ri ?_
      refine J_if_ne_y (tgt := 16) dX2_copy_11 (by decide) (by decide) ?_
      refine J_iload dX2_copy_16 rfl ?_
      refine J_if_ge_z (tgt := 27) dX2_copy_18 (by decide) (by unfold zR at *; omega) (fun c18 => ?_) (fun c18 => ?_)
      · skip
        refine J_aload_n dX2_copy_27 rfl ?_
        refine TG_sizes dX2_copy_28 ?_
        refine J_iload_n dX2_copy_31 rfl ?_
        refine TJ_iald 3 (r) ⟨rfl, rfl, by decide⟩ (by omega) (show r < 6 by omega) dX2_copy_32 ?_
        refine J_top (zI (rs r)) (hDt.1 r (by omega)) ?_
        refine J_if_lt_z (tgt := 45) dX2_copy_33 (by decide) (by unfold zR at *; omega) (fun c33 => ?_) (fun c33 => ?_)
        · skip
          refine J_aload_n dX2_copy_45 rfl ?_
          refine J_iconst (zI 1) dX2_copy_46 rfl ?_
          refine TC_X2_found (by decide) (Nat.le_of_ble_eq_true rfl) dX2_copy_47 ?_
          refine t_found (m := _) (by decide) ?_
          refine J_ri ?_
          exact J_iret rfl dX2_copy_50 (by exact hq)
        · skip
          refine J_aload_n dX2_copy_36 rfl ?_
          refine TG_sizes dX2_copy_37 ?_
          refine J_iload_n dX2_copy_40 rfl ?_
          refine TJ_iald 3 (q) ⟨rfl, rfl, by decide⟩ (by omega) (show q < 6 by omega) dX2_copy_41 ?_
          refine J_top (zI (rs q)) (hDt.1 q (by omega)) ?_
          refine J_if_ge_z (tgt := 51) dX2_copy_42 (by decide) (by unfold zR at *; omega) (fun c42 => ?_) (fun c42 => ?_)
          · exfalso; omega
          · skip
            refine J_aload_n dX2_copy_45 rfl ?_
            refine J_iconst (zI 1) dX2_copy_46 rfl ?_
            refine TC_X2_found (by decide) (Nat.le_of_ble_eq_true rfl) dX2_copy_47 ?_
            refine t_found (m := _) (by decide) ?_
            refine J_ri ?_
            exact J_iret rfl dX2_copy_50 (by exact hq)
      · exfalso; omega
    · exfalso; omega
  · exfalso; omega
theorem t_copy_out {E : jEnv} {α : Nat → Nat} {σ : tS} {Q : Option Value → tS → Prop} {rs : Nat → Int} {rd : Nat → Nat → Int32} {ts : Nat → Int} {tb : Nat → Nat → Int} {r q : Nat} {i j cn : Int} (hDt : tDt rs rd ts tb σ) (hDo : dtOK rs ts tb) (hr : r < 6) (hq6 : q < 6) (ri : zR i) (rj : zR j) (rc : zR cn) (hc : 0 ≤ cn) (h0 : 0 ≤ rs r ∧ 0 ≤ rs q) (ho : i < 0 ∨ j < 0 ∨ rs r < i + cn ∨ rs q < j + cn) (hq : Q (some (.int (zI (-3)))) (setA (setI σ 1 (zI 2)) 2 (upd (σ.2.1 2) 2 (σ.2.1 2 2 + zI 1)))) : jX2_copy E α 0 [some (.ref (α 0)), some (.int (zI (r : Nat))), some (.int (zI (i))), some (.int (zI (q : Nat))), some (.int (zI (j))), some (.int (zI (cn))), none] [] σ Q := by
  have := hDo.1 r hr
  have := hDo.1 q hq6
  refine J_iload_n dX2_copy_0 rfl ?_
  refine TC_X2_isRow (by decide) (Nat.le_of_ble_eq_true rfl) dX2_copy_1 ?_
  refine t_isRow (by unfold zR at *; omega) (fun b1 => ?_) (fun b1 => ?_)
  · refine J_ri ?_
    refine J_if_eq_n (tgt := 14) dX2_copy_4 (by decide) (by decide) ?_
    refine J_iload_n dX2_copy_7 rfl ?_
    refine TC_X2_isRow (by decide) (Nat.le_of_ble_eq_true rfl) dX2_copy_8 ?_
    refine t_isRow (by unfold zR at *; omega) (fun b8 => ?_) (fun b8 => ?_)
    · refine J_ri ?_
      refine J_if_ne_y (tgt := 16) dX2_copy_11 (by decide) (by decide) ?_
      refine J_iload dX2_copy_16 rfl ?_
      refine J_if_ge_z (tgt := 27) dX2_copy_18 (by decide) (by unfold zR at *; omega) (fun c18 => ?_) (fun c18 => ?_)
      · skip
        refine J_aload_n dX2_copy_27 rfl ?_
        refine TG_sizes dX2_copy_28 ?_
        refine J_iload_n dX2_copy_31 rfl ?_
        refine TJ_iald 3 (r) ⟨rfl, rfl, by decide⟩ (by omega) (show r < 6 by omega) dX2_copy_32 ?_
        refine J_top (zI (rs r)) (hDt.1 r (by omega)) ?_
        refine J_if_lt_z (tgt := 45) dX2_copy_33 (by decide) (by unfold zR at *; omega) (fun c33 => ?_) (fun c33 => ?_)
        · exfalso; omega
        · skip
          refine J_aload_n dX2_copy_36 rfl ?_
          refine TG_sizes dX2_copy_37 ?_
          refine J_iload_n dX2_copy_40 rfl ?_
          refine TJ_iald 3 (q) ⟨rfl, rfl, by decide⟩ (by omega) (show q < 6 by omega) dX2_copy_41 ?_
          refine J_top (zI (rs q)) (hDt.1 q (by omega)) ?_
          refine J_if_ge_z (tgt := 51) dX2_copy_42 (by decide) (by unfold zR at *; omega) (fun c42 => ?_) (fun c42 => ?_)
          · skip
            refine J_iload_n dX2_copy_51 rfl ?_
            refine J_if_lt_z (tgt := 95) dX2_copy_52 (by decide) (by unfold zR at *; omega) (fun c52 => ?_) (fun c52 => ?_)
            · skip
              refine J_aload_n dX2_copy_95 rfl ?_
              refine J_iconst (zI 2) dX2_copy_96 rfl ?_
              refine TC_X2_found (by decide) (Nat.le_of_ble_eq_true rfl) dX2_copy_97 ?_
              refine t_found (m := _) (by decide) ?_
              refine J_ri ?_
              exact J_iret rfl dX2_copy_100 (by exact hq)
            · skip
              refine J_iload dX2_copy_55 rfl ?_
              refine J_if_lt_z (tgt := 95) dX2_copy_57 (by decide) (by unfold zR at *; omega) (fun c57 => ?_) (fun c57 => ?_)
              · skip
                refine J_aload_n dX2_copy_95 rfl ?_
                refine J_iconst (zI 2) dX2_copy_96 rfl ?_
                refine TC_X2_found (by decide) (Nat.le_of_ble_eq_true rfl) dX2_copy_97 ?_
                refine t_found (m := _) (by decide) ?_
                refine J_ri ?_
                exact J_iret rfl dX2_copy_100 (by exact hq)
              · skip
                refine J_iload_n dX2_copy_60 rfl ?_
                refine J_i2l dX2_copy_61 ?_
                refine J_iload dX2_copy_62 rfl ?_
                refine J_i2l dX2_copy_64 ?_
                refine J_ladd dX2_copy_65 ?_
                refine J_aload_n dX2_copy_66 rfl ?_
                refine TG_sizes dX2_copy_67 ?_
                refine J_iload_n dX2_copy_70 rfl ?_
                refine TJ_iald 3 (r) ⟨rfl, rfl, by decide⟩ (by omega) (show r < 6 by omega) dX2_copy_71 ?_
                refine J_top (zI (rs r)) (hDt.1 r (by omega)) ?_
                refine J_i2l dX2_copy_72 ?_
                refine J_lcmp dX2_copy_73 ?_
                refine J_if_gt (tgt := 95) dX2_copy_74 (by decide) (fun c74 => ?_) (fun c74 => ?_)
                · skip
                  have c74 := (cmp_gt (by unfold zR at *; omega) (by unfold zR at *; omega) (by unfold zR at *; omega)).mp c74
                  refine J_aload_n dX2_copy_95 rfl ?_
                  refine J_iconst (zI 2) dX2_copy_96 rfl ?_
                  refine TC_X2_found (by decide) (Nat.le_of_ble_eq_true rfl) dX2_copy_97 ?_
                  refine t_found (m := _) (by decide) ?_
                  refine J_ri ?_
                  exact J_iret rfl dX2_copy_100 (by exact hq)
                · skip
                  have c74 := mt (cmp_gt (by unfold zR at *; omega) (by unfold zR at *; omega) (by unfold zR at *; omega)).mpr c74
                  refine J_iload dX2_copy_77 rfl ?_
                  refine J_i2l dX2_copy_79 ?_
                  refine J_iload dX2_copy_80 rfl ?_
                  refine J_i2l dX2_copy_82 ?_
                  refine J_ladd dX2_copy_83 ?_
                  refine J_aload_n dX2_copy_84 rfl ?_
                  refine TG_sizes dX2_copy_85 ?_
                  refine J_iload_n dX2_copy_88 rfl ?_
                  refine TJ_iald 3 (q) ⟨rfl, rfl, by decide⟩ (by omega) (show q < 6 by omega) dX2_copy_89 ?_
                  refine J_top (zI (rs q)) (hDt.1 q (by omega)) ?_
                  refine J_i2l dX2_copy_90 ?_
                  refine J_lcmp dX2_copy_91 ?_
                  refine J_if_le (tgt := 101) dX2_copy_92 (by decide) (fun c92 => ?_) (fun c92 => ?_)
                  · skip
                    have c92 := mt (cmp_gt (by unfold zR at *; omega) (by unfold zR at *; omega) (by unfold zR at *; omega)).mpr (fun z => absurd c92 (Int32.not_le.mpr z))
                    exfalso; omega
                  · skip
                    have c92 := (cmp_gt (by unfold zR at *; omega) (by unfold zR at *; omega) (by unfold zR at *; omega)).mp (Int32.not_le.mp c92)
                    refine J_aload_n dX2_copy_95 rfl ?_
                    refine J_iconst (zI 2) dX2_copy_96 rfl ?_
                    refine TC_X2_found (by decide) (Nat.le_of_ble_eq_true rfl) dX2_copy_97 ?_
                    refine t_found (m := _) (by decide) ?_
                    refine J_ri ?_
                    exact J_iret rfl dX2_copy_100 (by exact hq)
          · exfalso; omega
      · exfalso; omega
    · exfalso; omega
  · exfalso; omega
theorem tl_copy136 {E : jEnv} {α : Nat → Nat} {σ : tS} {Q : Option Value → tS → Prop} {r i q j cn : Nat} (hb : q < 6 ∧ j + cn ≤ 40) (hqq : ∀ σ1, tEq [] [4] σ σ1 → σ1.2.1 4 = va_cpy (σ.2.1 5) (σ.2.1 4) 0 (40 * q + j) cn → Q (some (.int (zI 1))) σ1) : ∀ (n : Nat) (k : Nat) (σ1 : tS), k ≤ cn → tEq [] [4] σ σ1 → σ1.2.1 4 = va_cpy (σ.2.1 5) (σ.2.1 4) 0 (40 * q + j) k → cn - k < n → jX2_copy E α 136 [some (.ref (α 0)), some (.int (zI (r : Nat))), some (.int (zI (i : Nat))), some (.int (zI (q : Nat))), some (.int (zI (j : Nat))), some (.int (zI (cn : Nat))), some (.int (zI (k : Nat)))] [] σ1 Q := by
  intro n
  induction n with
  | zero => intro k σ1 h1 h2 h3 hn; exact absurd hn (Nat.not_lt_zero _)
  | succ n ih =>
    intro k σ1 h1 h2 h3 hn
    refine J_iload dX2_copy_136 rfl ?_
    refine J_iload dX2_copy_138 rfl ?_
    refine J_icmp_ge_z (tgt := 171) dX2_copy_140 (by decide) (by unfold zR; omega) (by unfold zR; omega) (fun c140 => ?_) (fun c140 => ?_)
    · skip
      have ek : k = cn := by omega
      rw [ek] at h3
      refine J_iconst (zI 1) dX2_copy_171 rfl ?_
      exact J_iret rfl dX2_copy_172 (by exact hqq σ1 h2 h3)
    · skip
      refine J_aload_n dX2_copy_143 rfl ?_
      refine TG_rows dX2_copy_144 ?_
      refine J_bipush (zI 40) dX2_copy_147 rfl ?_
      refine J_iload_n dX2_copy_149 rfl ?_
      refine J_imul_z dX2_copy_150 ?_
      refine J_iload dX2_copy_151 rfl ?_
      refine J_iadd_z dX2_copy_153 ?_
      refine J_iload dX2_copy_154 rfl ?_
      refine J_iadd_z dX2_copy_156 ?_
      refine J_aload_n dX2_copy_157 rfl ?_
      refine TG_copied dX2_copy_158 ?_
      refine J_iload dX2_copy_161 rfl ?_
      refine TJ_iald 5 (k) ⟨rfl, rfl, by decide⟩ (by omega) (show k < 40 by omega) dX2_copy_163 ?_
      refine TJ_iast 4 ((((40 * q) + j) + k)) ⟨rfl, rfl, by decide⟩ (by omega) (show (((40 * q) + j) + k) < 240 by omega) dX2_copy_164 ?_
      refine J_iinc_z ((((k + 1)) : Nat) : Int) (by omega) dX2_copy_165 rfl rfl (by decide) _ rfl ?_
      refine J_goto (tgt := 136) dX2_copy_168 (by decide) ?_
      exact ih (k + 1) _ (by omega) (h2.sA (by decide)) (by exact cpy_stepE h3 (h2.2.1 5 (by decide)) (by omega) (by omega)) (by omega)
theorem tl_copy104 {E : jEnv} {α : Nat → Nat} {σ : tS} {Q : Option Value → tS → Prop} {r i q j cn : Nat} (hb : r < 6 ∧ i + cn ≤ 40) (hx : ∀ σ1, tEq [] [5] σ σ1 → σ1.2.1 5 = va_cpy (σ.2.1 4) (σ.2.1 5) (40 * r + i) 0 cn → jX2_copy E α 133 [some (.ref (α 0)), some (.int (zI (r : Nat))), some (.int (zI (i : Nat))), some (.int (zI (q : Nat))), some (.int (zI (j : Nat))), some (.int (zI (cn : Nat))), none] [] σ1 Q) : ∀ (n : Nat) (k : Nat) (σ1 : tS), k ≤ cn → tEq [] [5] σ σ1 → σ1.2.1 5 = va_cpy (σ.2.1 4) (σ.2.1 5) (40 * r + i) 0 k → cn - k < n → jX2_copy E α 104 [some (.ref (α 0)), some (.int (zI (r : Nat))), some (.int (zI (i : Nat))), some (.int (zI (q : Nat))), some (.int (zI (j : Nat))), some (.int (zI (cn : Nat))), some (.int (zI (k : Nat)))] [] σ1 Q := by
  intro n
  induction n with
  | zero => intro k σ1 h1 h2 h3 hn; exact absurd hn (Nat.not_lt_zero _)
  | succ n ih =>
    intro k σ1 h1 h2 h3 hn
    refine J_iload dX2_copy_104 rfl ?_
    refine J_iload dX2_copy_106 rfl ?_
    refine J_icmp_ge_z (tgt := 133) dX2_copy_108 (by decide) (by unfold zR; omega) (by unfold zR; omega) (fun c108 => ?_) (fun c108 => ?_)
    · skip
      have ek : k = cn := by omega
      rw [ek] at h3
      refine J_fg (L' := [some (.ref (α 0)), some (.int (zI (r : Nat))), some (.int (zI (i : Nat))), some (.int (zI (q : Nat))), some (.int (zI (j : Nat))), some (.int (zI (cn : Nat))), none]) (by repeat' constructor) ?_
      exact hx σ1 h2 h3
    · skip
      refine J_aload_n dX2_copy_111 rfl ?_
      refine TG_copied dX2_copy_112 ?_
      refine J_iload dX2_copy_115 rfl ?_
      refine J_aload_n dX2_copy_117 rfl ?_
      refine J_iload_n dX2_copy_118 rfl ?_
      refine J_iload_n dX2_copy_119 rfl ?_
      refine J_iload dX2_copy_120 rfl ?_
      refine J_iadd_z dX2_copy_122 ?_
      refine TC_X2_rowAt (by decide) (Nat.le_of_ble_eq_true rfl) dX2_copy_123 ?_
      refine t_rowAt (r := r) (i := i + k) (by omega) (by omega) ?_
      refine J_ri ?_
      refine TJ_iast 5 (k) ⟨rfl, rfl, by decide⟩ (by omega) (show k < 40 by omega) dX2_copy_126 ?_
      refine J_iinc_z ((((k + 1)) : Nat) : Int) (by omega) dX2_copy_127 rfl rfl (by decide) _ rfl ?_
      refine J_goto (tgt := 104) dX2_copy_130 (by decide) ?_
      exact ih (k + 1) _ (by omega) (h2.sA (by decide)) (by exact cpy_stepE h3 (h2.2.1 4 (by decide)) (by omega) (by omega)) (by omega)
def cpR (rd : Nat → Nat → Int32) (r i q j n : Nat) : Nat → Nat → Int32 := upk rd q (fun k => if j ≤ k ∧ k < j + n then rd r (i + (k - j)) else rd q k)
theorem copy_ok {rs : Nat → Int} {rd : Nat → Nat → Int32} {ts : Nat → Int} {tb : Nat → Nat → Int} {σ σ1 σ2 : tS} {r i q j cn : Nat} (h : tDt rs rd ts tb σ) (hb : ∀ r, r < 6 → -1 ≤ rs r ∧ rs r ≤ 40) (hr : r < 6) (hq : q < 6) (h1 : ((i + cn : Nat) : Int) ≤ rs r) (h2 : ((j + cn : Nat) : Int) ≤ rs q) (e1 : tEq [] [5] σ σ1) (c1 : σ1.2.1 5 = va_cpy (σ.2.1 4) (σ.2.1 5) (40 * r + i) 0 cn) (e2 : tEq [] [4] σ1 σ2) (c2 : σ2.2.1 4 = va_cpy (σ1.2.1 5) (σ1.2.1 4) 0 (40 * q + j) cn) : tDt rs (cpR rd r i q j cn) ts tb σ2 := by
  have a3 : σ2.2.1 3 = σ.2.1 3 := (e2.2.1 3 (by decide)).trans (e1.2.1 3 (by decide))
  have a6 : σ2.2.1 6 = σ.2.1 6 := (e2.2.1 6 (by decide)).trans (e1.2.1 6 (by decide))
  have a7 : σ2.2.1 7 = σ.2.1 7 := (e2.2.1 7 (by decide)).trans (e1.2.1 7 (by decide))
  have a4 : σ1.2.1 4 = σ.2.1 4 := e1.2.1 4 (by decide)
  have b1 := hb r hr
  have b2 := hb q hq
  refine ⟨by rw [a3]; exact h.1, fun p k hp hk => ?_, by rw [a6]; exact h.2.2.1, by rw [a7]; exact h.2.2.2⟩
  rw [c2, c1, a4]
  have b3 := hb p hp
  unfold cpR upk
  by_cases z : p = q
  · subst z
    rw [if_pos rfl]
    by_cases y : j ≤ k ∧ k < j + cn
    · rw [if_pos y, pk_cpy_in (by omega) (by omega), pk_cpy_in (by omega) (by omega), ← h.2.1 r (i + (k - j)) hr (by omega)]
      refine congrArg (σ.2.1 4) ?_
      omega
    · rw [if_neg y, pk_cpy_out (by omega)]
      exact h.2.1 p k hp hk
  · rw [if_neg z, pk_cpy_out (by omega)]
    exact h.2.1 p k hp hk
theorem t_copy {E : jEnv} {α : Nat → Nat} {σ : tS} {Q : Option Value → tS → Prop} {rs : Nat → Int} {rd : Nat → Nat → Int32} {ts : Nat → Int} {tb : Nat → Nat → Int} {r i q j cn : Nat} (hDt : tDt rs rd ts tb σ) (hDo : dtOK rs ts tb) (hr : r < 6) (hq6 : q < 6) (hi : ((i + cn : Nat) : Int) ≤ rs r) (hj : ((j + cn : Nat) : Int) ≤ rs q) (hqq : ∀ σ1, tEq [] [4, 5] σ σ1 → tDt rs (cpR rd r i q j cn) ts tb σ1 → Q (some (.int (zI 1))) σ1) : jX2_copy E α 0 [some (.ref (α 0)), some (.int (zI (r : Nat))), some (.int (zI (i : Nat))), some (.int (zI (q : Nat))), some (.int (zI (j : Nat))), some (.int (zI (cn : Nat))), none] [] σ Q := by
  have := hDo.1 r hr
  have := hDo.1 q hq6
  refine J_iload_n dX2_copy_0 rfl ?_
  refine TC_X2_isRow (by decide) (Nat.le_of_ble_eq_true rfl) dX2_copy_1 ?_
  refine t_isRow (by unfold zR at *; omega) (fun b1 => ?_) (fun b1 => ?_)
  · refine J_ri ?_
    refine J_if_eq_n (tgt := 14) dX2_copy_4 (by decide) (by decide) ?_
    refine J_iload_n dX2_copy_7 rfl ?_
    refine TC_X2_isRow (by decide) (Nat.le_of_ble_eq_true rfl) dX2_copy_8 ?_
    refine t_isRow (by unfold zR at *; omega) (fun b8 => ?_) (fun b8 => ?_)
    · refine J_ri ?_
      refine J_if_ne_y (tgt := 16) dX2_copy_11 (by decide) (by decide) ?_
      refine J_iload dX2_copy_16 rfl ?_
      refine J_if_ge_z (tgt := 27) dX2_copy_18 (by decide) (by unfold zR; omega) (fun c18 => ?_) (fun c18 => ?_)
      · skip
        refine J_aload_n dX2_copy_27 rfl ?_
        refine TG_sizes dX2_copy_28 ?_
        refine J_iload_n dX2_copy_31 rfl ?_
        refine TJ_iald 3 (r) ⟨rfl, rfl, by decide⟩ (by omega) (show r < 6 by omega) dX2_copy_32 ?_
        refine J_top (zI (rs r)) (hDt.1 r (by omega)) ?_
        refine J_if_lt_z (tgt := 45) dX2_copy_33 (by decide) (by unfold zR; omega) (fun c33 => ?_) (fun c33 => ?_)
        · exfalso; omega
        · skip
          refine J_aload_n dX2_copy_36 rfl ?_
          refine TG_sizes dX2_copy_37 ?_
          refine J_iload_n dX2_copy_40 rfl ?_
          refine TJ_iald 3 (q) ⟨rfl, rfl, by decide⟩ (by omega) (show q < 6 by omega) dX2_copy_41 ?_
          refine J_top (zI (rs q)) (hDt.1 q (by omega)) ?_
          refine J_if_ge_z (tgt := 51) dX2_copy_42 (by decide) (by unfold zR; omega) (fun c42 => ?_) (fun c42 => ?_)
          · skip
            refine J_iload_n dX2_copy_51 rfl ?_
            refine J_if_lt_z (tgt := 95) dX2_copy_52 (by decide) (by unfold zR; omega) (fun c52 => ?_) (fun c52 => ?_)
            · exfalso; omega
            · skip
              refine J_iload dX2_copy_55 rfl ?_
              refine J_if_lt_z (tgt := 95) dX2_copy_57 (by decide) (by unfold zR; omega) (fun c57 => ?_) (fun c57 => ?_)
              · exfalso; omega
              · skip
                refine J_iload_n dX2_copy_60 rfl ?_
                refine J_i2l dX2_copy_61 ?_
                refine J_iload dX2_copy_62 rfl ?_
                refine J_i2l dX2_copy_64 ?_
                refine J_ladd dX2_copy_65 ?_
                refine J_aload_n dX2_copy_66 rfl ?_
                refine TG_sizes dX2_copy_67 ?_
                refine J_iload_n dX2_copy_70 rfl ?_
                refine TJ_iald 3 (r) ⟨rfl, rfl, by decide⟩ (by omega) (show r < 6 by omega) dX2_copy_71 ?_
                refine J_top (zI (rs r)) (hDt.1 r (by omega)) ?_
                refine J_i2l dX2_copy_72 ?_
                refine J_lcmp dX2_copy_73 ?_
                refine J_if_gt (tgt := 95) dX2_copy_74 (by decide) (fun c74 => ?_) (fun c74 => ?_)
                · have c74 := (cmp_gt (by unfold zR; omega) (by unfold zR; omega) (by unfold zR; omega)).mp c74; exfalso; omega
                · skip
                  refine J_iload dX2_copy_77 rfl ?_
                  refine J_i2l dX2_copy_79 ?_
                  refine J_iload dX2_copy_80 rfl ?_
                  refine J_i2l dX2_copy_82 ?_
                  refine J_ladd dX2_copy_83 ?_
                  refine J_aload_n dX2_copy_84 rfl ?_
                  refine TG_sizes dX2_copy_85 ?_
                  refine J_iload_n dX2_copy_88 rfl ?_
                  refine TJ_iald 3 (q) ⟨rfl, rfl, by decide⟩ (by omega) (show q < 6 by omega) dX2_copy_89 ?_
                  refine J_top (zI (rs q)) (hDt.1 q (by omega)) ?_
                  refine J_i2l dX2_copy_90 ?_
                  refine J_lcmp dX2_copy_91 ?_
                  refine J_if_le (tgt := 101) dX2_copy_92 (by decide) (fun c92 => ?_) (fun c92 => ?_)
                  · skip
                    refine J_iconst (zI 0) dX2_copy_101 rfl ?_
                    refine J_istore dX2_copy_102 rfl (by decide) _ rfl ?_
                    refine tl_copy104 (by omega) (fun σ1 e1 c1 => ?_) _ 0 _ (by omega) tEq.refl cpy_0 (Nat.lt_succ_self _)
                    refine J_iconst (zI 0) dX2_copy_133 rfl ?_
                    refine J_istore dX2_copy_134 rfl (by decide) _ rfl ?_
                    exact tl_copy136 (by omega) (fun σ2 e2 c2 => hqq σ2 ((e1.mono (by decide) (by decide)).trans (e2.mono (by decide) (by decide))) (copy_ok hDt hDo.1 hr hq6 hi hj e1 c1 e2 c2)) _ 0 _ (by omega) tEq.refl cpy_0 (Nat.lt_succ_self _)
                  · have c92 := (cmp_gt (by unfold zR; omega) (by unfold zR; omega) (by unfold zR; omega)).mp (Int32.not_le.mp c92); exfalso; omega
          · exfalso; omega
      · exfalso; omega
    · exfalso; omega
  · exfalso; omega
