set_option maxRecDepth 100000
/-! the twin: readsFrame -/
theorem cur_step {a a' : Nat → Int32} {m k : Nat} {R : Nat → Int} {v : Int} (ha : a = a') (h : ∀ i, i < k → a' (7 * m + i) = zI (R i) ∧ 0 ≤ R i ∧ R i ≤ 100) (hv : 0 ≤ v ∧ v ≤ 100) : ∀ i, i < k + 1 → upd a (7 * m + k) (zI v) (7 * m + i) = zI (if i = k then v else R i) ∧ 0 ≤ (if i = k then v else R i) ∧ (if i = k then v else R i) ≤ 100 := by
  intro i hi
  subst ha
  by_cases z : i = k
  · subst z
    rw [upd_s, if_pos rfl]
    exact ⟨rfl, hv⟩
  · rw [upd_n (by omega), if_neg z]
    exact h i (by omega)
theorem cur_0 {a : Nat → Int32} {m : Nat} {kd : Int} (hv : 0 ≤ kd ∧ kd ≤ 100) : ∀ i, i < 1 → upd a (7 * m + 0) (zI kd) (7 * m + i) = zI kd ∧ 0 ≤ kd ∧ kd ≤ 100 := by
  intro i hi
  obtain rfl : i = 0 := by omega
  exact ⟨upd_s _ _ _, hv⟩
theorem frm_ok {a : Nat → Int32} {m : Nat} {R : Nat → Int} {R0 : Nat → Nat → Int} (h6 : ∀ f k, f < m → k < 7 → a (7 * f + k) = zI (R0 f k)) (h7 : ∀ i, i < 7 → a (7 * m + i) = zI (R i) ∧ 0 ≤ R i ∧ R i ≤ 100) : ∀ f k, f < m + 1 → k < 7 → a (7 * f + k) = zI ((if f = m then R else R0 f) k) := by
  intro f k hf hk
  by_cases z : f = m
  · subst z
    rw [if_pos rfl]
    exact (h7 k hk).1
  · rw [if_neg z]
    exact h6 f k (by omega) hk
theorem row_step {a a' : Nat → Int32} {m k : Nat} {R0 : Nat → Nat → Int} {x : Int32} (ha : a = a') (h : ∀ f k, f < m → k < 7 → a' (7 * f + k) = zI (R0 f k)) : ∀ f i, f < m → i < 7 → upd a (7 * m + k) x (7 * f + i) = zI (R0 f i) := by
  intro f i hf hi
  subst ha
  rw [upd_n (by omega)]
  exact h f i hf hi
theorem tl_readsFrame32 {E : jEnv} {α : Nat → Nat} {σ : tS} {Q : Option Value → tS → Prop} {t n0 : Nat} {b : Nat → Int} {m a0 : Nat} {kd : Int} {R0 : Nat → Nat → Int} (hX : tTx t n0 b σ) (ht : t < 4) (hn0 : n0 ≤ 120) (hby : ∀ i, -128 ≤ b i ∧ b i ≤ 127) (hm8 : m < 8) (q0 : ∀ p, (mFrS b n0 6 1 a0 (fun _ => kd)) = .error p → ∀ σ1, tEq [13, 14, 15, 16, 17] [22] σ σ1 → σ1.1 17 = zI (p : Nat) → Q (some (.int (zI 0))) σ1) (hx : ∀ R e, (mFrS b n0 6 1 a0 (fun _ => kd)) = .ok (R, e) → ∀ σ1, tEq [13, 14, 15, 16, 17] [22] σ σ1 → σ1.1 13 = zI (e : Nat) → e ≤ n0 → (∀ f k, f < m → k < 7 → σ1.2.1 22 (7 * f + k) = zI (R0 f k)) → (∀ i, i < 7 → σ1.2.1 22 (7 * m + i) = zI (R i) ∧ 0 ≤ R i ∧ R i ≤ 100) → jX2_readsFrame E α 133 [some (.ref (α 0)), some (.int (zI (t : Nat))), some (.int (zI (kd))), some (.int (zI (7 * (m : Int)))), none] [] σ1 Q) : ∀ (n : Nat) (k a : Nat) (R : Nat → Int) (σ1 : tS), 1 ≤ k ∧ k ≤ 7 → (mFrS b n0 6 1 a0 (fun _ => kd)) = mFrS b n0 (7 - k) k a R → tEq [13, 14, 15, 16, 17] [22] σ σ1 → a ≤ n0 → σ1.1 13 = zI (a : Nat) → (∀ f k, f < m → k < 7 → σ1.2.1 22 (7 * f + k) = zI (R0 f k)) → (∀ i, i < k → σ1.2.1 22 (7 * m + i) = zI (R i) ∧ 0 ≤ R i ∧ R i ≤ 100) → 7 - k < n → jX2_readsFrame E α 32 [some (.ref (α 0)), some (.int (zI (t : Nat))), some (.int (zI (kd))), some (.int (zI (7 * (m : Int)))), some (.int (zI (k : Nat)))] [] σ1 Q := by
  intro n
  induction n with
  | zero => intro k a R σ1 h1 h2 h3 h4 h5 h6 h7 hn; exact absurd hn (Nat.not_lt_zero _)
  | succ n ih =>
    intro k a R σ1 h1 h2 h3 h4 h5 h6 h7 hn
    have hX := hX.eq h3 (by decide) (by decide)
    have hA := h5
    refine J_iload dX2_readsFrame_32 rfl ?_
    refine J_bipush (zI 7) dX2_readsFrame_34 rfl ?_
    refine J_icmp_ge_z (tgt := 133) dX2_readsFrame_36 (by decide) (by unfold zR; omega) (by unfold zR; omega) (fun c36 => ?_) (fun c36 => ?_)
    · skip
      obtain rfl : k = 7 := by omega
      refine J_fg (L' := [some (.ref (α 0)), some (.int (zI (t : Nat))), some (.int (zI (kd))), some (.int (zI (7 * (m : Int)))), none]) (by repeat' constructor) ?_
      exact hx R a (by rw [h2]; rfl) σ1 h3 h5 h4 h6 h7
    · skip
      refine J_aload_n dX2_readsFrame_39 rfl ?_
      refine J_iload_n dX2_readsFrame_40 rfl ?_
      refine J_iload dX2_readsFrame_41 rfl ?_
      refine J_iconst (zI 3) dX2_readsFrame_43 rfl ?_
      refine J_icmp_ge_z (tgt := 51) dX2_readsFrame_44 (by decide) (by unfold zR; omega) (by unfold zR; omega) (fun c44 => ?_) (fun c44 => ?_)
      · skip
        refine J_iconst (zI 0) dX2_readsFrame_51 rfl ?_
        refine J_iload dX2_readsFrame_52 rfl ?_
        refine J_iconst (zI 3) dX2_readsFrame_54 rfl ?_
        refine J_icmp_ge_z (tgt := 63) dX2_readsFrame_55 (by decide) (by unfold zR; omega) (by unfold zR; omega) (fun c55 => ?_) (fun c55 => ?_)
        · skip
          refine J_bipush (zI 9) dX2_readsFrame_63 rfl ?_
          refine TC_X2_number (by decide) (Nat.le_of_ble_eq_true rfl) dX2_readsFrame_65 ?_
          refine t_number hX ht hn0 hby hA h4 (by omega)  (fun v e hm σ2 e1 A1 V1 T1 => ?_) (fun p hm σ2 e1 F1 => ?_)
          · refine J_ri ?_
            have hm1 : mNum b n0 (if k < 3 then 1 else 0) (if k < 3 then 16 else 9) a = .ok (v, e) := by rw [if_neg (by omega), if_neg (by omega)]; exact hm
            have hb := mNum_b h4 hm
            refine J_if_ne_y (tgt := 73) dX2_readsFrame_68 (by decide) (by decide) ?_
            refine J_aload_n dX2_readsFrame_73 rfl ?_
            refine TG_read dX2_readsFrame_74 ?_
            refine J_iload_n dX2_readsFrame_77 rfl ?_
            refine J_iload dX2_readsFrame_78 rfl ?_
            refine J_iadd_z dX2_readsFrame_80 ?_
            refine J_aload_n dX2_readsFrame_81 rfl ?_
            refine TG_value dX2_readsFrame_82 ?_
            refine J_top (zI (v)) V1 ?_
            refine TJ_iast 22 (7 * m + k) ⟨rfl, rfl, by decide⟩ (by omega) (show 7 * m + k < 56 by omega) dX2_readsFrame_85 ?_
            refine J_iload dX2_readsFrame_86 rfl ?_
            refine J_iconst (zI 4) dX2_readsFrame_88 rfl ?_
            refine J_icmp_le_z (tgt := 127) dX2_readsFrame_89 (by decide) (by unfold zR; omega) (by unfold zR; omega) (fun c89 => ?_) (fun c89 => ?_)
            · skip
              have hno : ¬ (4 < k ∧ R (k - 4) ≤ R (k - 2) + v) := by omega
              refine J_iinc_z ((((k + 1)) : Nat) : Int) (by omega) dX2_readsFrame_127 rfl rfl (by decide) _ rfl ?_
              refine J_goto (tgt := 32) dX2_readsFrame_130 (by decide) ?_
              exact ih (k + 1) e _ _ (by omega) (by rw [h2, show 7 - k = (7 - (k + 1)) + 1 by omega]; exact mFrS_2 hm1 hno) ((h3.trans (e1.mono (by decide) (by decide))).sA (by decide)) hb.2.2.2 A1 (by exact row_step (e1.2.1 22 (by decide)) h6) (by exact cur_step (e1.2.1 22 (by decide)) h7 (by omega)) (by omega)
            · skip
              have hk2 := h7 (k - 2) (by omega)
              have hk4 := h7 (k - 4) (by omega)
              refine J_aload_n dX2_readsFrame_92 rfl ?_
              refine TG_read dX2_readsFrame_93 ?_
              refine J_iload_n dX2_readsFrame_96 rfl ?_
              refine J_iload dX2_readsFrame_97 rfl ?_
              refine J_iadd_z dX2_readsFrame_99 ?_
              refine J_iconst (zI 2) dX2_readsFrame_100 rfl ?_
              refine J_isub_z dX2_readsFrame_101 ?_
              refine TJ_iald 22 (7 * m + (k - 2)) ⟨rfl, rfl, by decide⟩ (by omega) (show 7 * m + (k - 2) < 56 by omega) dX2_readsFrame_102 ?_
              refine J_top (zI (R (k - 2))) ((by show upd _ _ _ _ = _; rw [upd_n (by omega), e1.2.1 22 (by decide)]; exact (h7 (k - 2) (by omega)).1)) ?_
              refine J_aload_n dX2_readsFrame_103 rfl ?_
              refine TG_value dX2_readsFrame_104 ?_
              refine J_top (zI (v)) V1 ?_
              refine J_iadd_z dX2_readsFrame_107 ?_
              refine J_aload_n dX2_readsFrame_108 rfl ?_
              refine TG_read dX2_readsFrame_109 ?_
              refine J_iload_n dX2_readsFrame_112 rfl ?_
              refine J_iload dX2_readsFrame_113 rfl ?_
              refine J_iadd_z dX2_readsFrame_115 ?_
              refine J_iconst (zI 4) dX2_readsFrame_116 rfl ?_
              refine J_isub_z dX2_readsFrame_117 ?_
              refine TJ_iald 22 (7 * m + (k - 4)) ⟨rfl, rfl, by decide⟩ (by omega) (show 7 * m + (k - 4) < 56 by omega) dX2_readsFrame_118 ?_
              refine J_top (zI (R (k - 4))) ((by show upd _ _ _ _ = _; rw [upd_n (by omega), e1.2.1 22 (by decide)]; exact (h7 (k - 4) (by omega)).1)) ?_
              refine J_icmp_lt_z (tgt := 127) dX2_readsFrame_119 (by decide) (by unfold zR; omega) (by unfold zR; omega) (fun c119 => ?_) (fun c119 => ?_)
              · skip
                have hno : ¬ (4 < k ∧ R (k - 4) ≤ R (k - 2) + v) := by omega
                refine J_iinc_z ((((k + 1)) : Nat) : Int) (by omega) dX2_readsFrame_127 rfl rfl (by decide) _ rfl ?_
                refine J_goto (tgt := 32) dX2_readsFrame_130 (by decide) ?_
                exact ih (k + 1) e _ _ (by omega) (by rw [h2, show 7 - k = (7 - (k + 1)) + 1 by omega]; exact mFrS_2 hm1 hno) ((h3.trans (e1.mono (by decide) (by decide))).sA (by decide)) hb.2.2.2 A1 (by exact row_step (e1.2.1 22 (by decide)) h6) (by exact cur_step (e1.2.1 22 (by decide)) h7 (by omega)) (by omega)
              · skip
                refine J_aload_n dX2_readsFrame_122 rfl ?_
                refine TC_X2_fails (by decide) (Nat.le_of_ble_eq_true rfl) dX2_readsFrame_123 ?_
                refine t_fails (p := sk b n0 a) T1 ?_
                refine J_ri ?_
                exact J_zret rfl dX2_readsFrame_126 rfl (by exact q0 _ (by rw [h2, show 7 - k = (6 - k) + 1 by omega]; exact mFrS_1 hm1 (by omega)) _ (((h3.trans (e1.mono (by decide) (by decide))).sA (by decide)).sI (by decide)) rfl)
          · refine J_ri ?_
            have hm1 : mNum b n0 (if k < 3 then 1 else 0) (if k < 3 then 16 else 9) a = .error p := by rw [if_neg (by omega), if_neg (by omega)]; exact hm
            refine J_if_ne_n (tgt := 73) dX2_readsFrame_68 (by decide) (by decide) ?_
            refine J_iconst (zI 0) dX2_readsFrame_71 rfl ?_
            exact J_zret rfl dX2_readsFrame_72 rfl (by exact q0 p (by rw [h2, show 7 - k = (6 - k) + 1 by omega]; exact mFrS_0 hm1) σ2 (h3.trans (e1.mono (by decide) (by decide))) F1)
        · exfalso; omega
      · skip
        refine J_iconst (zI 1) dX2_readsFrame_47 rfl ?_
        refine J_goto (tgt := 52) dX2_readsFrame_48 (by decide) ?_
        refine J_iload dX2_readsFrame_52 rfl ?_
        refine J_iconst (zI 3) dX2_readsFrame_54 rfl ?_
        refine J_icmp_ge_z (tgt := 63) dX2_readsFrame_55 (by decide) (by unfold zR; omega) (by unfold zR; omega) (fun c55 => ?_) (fun c55 => ?_)
        · exfalso; omega
        · skip
          refine J_bipush (zI 16) dX2_readsFrame_58 rfl ?_
          refine J_goto (tgt := 65) dX2_readsFrame_60 (by decide) ?_
          refine TC_X2_number (by decide) (Nat.le_of_ble_eq_true rfl) dX2_readsFrame_65 ?_
          refine t_number hX ht hn0 hby hA h4 (by omega)  (fun v e hm σ2 e1 A1 V1 T1 => ?_) (fun p hm σ2 e1 F1 => ?_)
          · refine J_ri ?_
            have hm1 : mNum b n0 (if k < 3 then 1 else 0) (if k < 3 then 16 else 9) a = .ok (v, e) := by rw [if_pos (by omega), if_pos (by omega)]; exact hm
            have hb := mNum_b h4 hm
            refine J_if_ne_y (tgt := 73) dX2_readsFrame_68 (by decide) (by decide) ?_
            refine J_aload_n dX2_readsFrame_73 rfl ?_
            refine TG_read dX2_readsFrame_74 ?_
            refine J_iload_n dX2_readsFrame_77 rfl ?_
            refine J_iload dX2_readsFrame_78 rfl ?_
            refine J_iadd_z dX2_readsFrame_80 ?_
            refine J_aload_n dX2_readsFrame_81 rfl ?_
            refine TG_value dX2_readsFrame_82 ?_
            refine J_top (zI (v)) V1 ?_
            refine TJ_iast 22 (7 * m + k) ⟨rfl, rfl, by decide⟩ (by omega) (show 7 * m + k < 56 by omega) dX2_readsFrame_85 ?_
            refine J_iload dX2_readsFrame_86 rfl ?_
            refine J_iconst (zI 4) dX2_readsFrame_88 rfl ?_
            refine J_icmp_le_z (tgt := 127) dX2_readsFrame_89 (by decide) (by unfold zR; omega) (by unfold zR; omega) (fun c89 => ?_) (fun c89 => ?_)
            · skip
              have hno : ¬ (4 < k ∧ R (k - 4) ≤ R (k - 2) + v) := by omega
              refine J_iinc_z ((((k + 1)) : Nat) : Int) (by omega) dX2_readsFrame_127 rfl rfl (by decide) _ rfl ?_
              refine J_goto (tgt := 32) dX2_readsFrame_130 (by decide) ?_
              exact ih (k + 1) e _ _ (by omega) (by rw [h2, show 7 - k = (7 - (k + 1)) + 1 by omega]; exact mFrS_2 hm1 hno) ((h3.trans (e1.mono (by decide) (by decide))).sA (by decide)) hb.2.2.2 A1 (by exact row_step (e1.2.1 22 (by decide)) h6) (by exact cur_step (e1.2.1 22 (by decide)) h7 (by omega)) (by omega)
            · skip
              have hk2 := h7 (k - 2) (by omega)
              have hk4 := h7 (k - 4) (by omega)
              refine J_aload_n dX2_readsFrame_92 rfl ?_
              refine TG_read dX2_readsFrame_93 ?_
              refine J_iload_n dX2_readsFrame_96 rfl ?_
              refine J_iload dX2_readsFrame_97 rfl ?_
              refine J_iadd_z dX2_readsFrame_99 ?_
              refine J_iconst (zI 2) dX2_readsFrame_100 rfl ?_
              refine J_isub_z dX2_readsFrame_101 ?_
              refine TJ_iald 22 (7 * m + (k - 2)) ⟨rfl, rfl, by decide⟩ (by omega) (show 7 * m + (k - 2) < 56 by omega) dX2_readsFrame_102 ?_
              refine J_top (zI (R (k - 2))) ((by show upd _ _ _ _ = _; rw [upd_n (by omega), e1.2.1 22 (by decide)]; exact (h7 (k - 2) (by omega)).1)) ?_
              refine J_aload_n dX2_readsFrame_103 rfl ?_
              refine TG_value dX2_readsFrame_104 ?_
              refine J_top (zI (v)) V1 ?_
              refine J_iadd_z dX2_readsFrame_107 ?_
              refine J_aload_n dX2_readsFrame_108 rfl ?_
              refine TG_read dX2_readsFrame_109 ?_
              refine J_iload_n dX2_readsFrame_112 rfl ?_
              refine J_iload dX2_readsFrame_113 rfl ?_
              refine J_iadd_z dX2_readsFrame_115 ?_
              refine J_iconst (zI 4) dX2_readsFrame_116 rfl ?_
              refine J_isub_z dX2_readsFrame_117 ?_
              refine TJ_iald 22 (7 * m + (k - 4)) ⟨rfl, rfl, by decide⟩ (by omega) (show 7 * m + (k - 4) < 56 by omega) dX2_readsFrame_118 ?_
              refine J_top (zI (R (k - 4))) ((by show upd _ _ _ _ = _; rw [upd_n (by omega), e1.2.1 22 (by decide)]; exact (h7 (k - 4) (by omega)).1)) ?_
              refine J_icmp_lt_z (tgt := 127) dX2_readsFrame_119 (by decide) (by unfold zR; omega) (by unfold zR; omega) (fun c119 => ?_) (fun c119 => ?_)
              · skip
                have hno : ¬ (4 < k ∧ R (k - 4) ≤ R (k - 2) + v) := by omega
                refine J_iinc_z ((((k + 1)) : Nat) : Int) (by omega) dX2_readsFrame_127 rfl rfl (by decide) _ rfl ?_
                refine J_goto (tgt := 32) dX2_readsFrame_130 (by decide) ?_
                exact ih (k + 1) e _ _ (by omega) (by rw [h2, show 7 - k = (7 - (k + 1)) + 1 by omega]; exact mFrS_2 hm1 hno) ((h3.trans (e1.mono (by decide) (by decide))).sA (by decide)) hb.2.2.2 A1 (by exact row_step (e1.2.1 22 (by decide)) h6) (by exact cur_step (e1.2.1 22 (by decide)) h7 (by omega)) (by omega)
              · skip
                refine J_aload_n dX2_readsFrame_122 rfl ?_
                refine TC_X2_fails (by decide) (Nat.le_of_ble_eq_true rfl) dX2_readsFrame_123 ?_
                refine t_fails (p := sk b n0 a) T1 ?_
                refine J_ri ?_
                exact J_zret rfl dX2_readsFrame_126 rfl (by exact q0 _ (by rw [h2, show 7 - k = (6 - k) + 1 by omega]; exact mFrS_1 hm1 (by omega)) _ (((h3.trans (e1.mono (by decide) (by decide))).sA (by decide)).sI (by decide)) rfl)
          · refine J_ri ?_
            have hm1 : mNum b n0 (if k < 3 then 1 else 0) (if k < 3 then 16 else 9) a = .error p := by rw [if_pos (by omega), if_pos (by omega)]; exact hm
            refine J_if_ne_n (tgt := 73) dX2_readsFrame_68 (by decide) (by decide) ?_
            refine J_iconst (zI 0) dX2_readsFrame_71 rfl ?_
            exact J_zret rfl dX2_readsFrame_72 rfl (by exact q0 p (by rw [h2, show 7 - k = (6 - k) + 1 by omega]; exact mFrS_0 hm1) σ2 (h3.trans (e1.mono (by decide) (by decide))) F1)
theorem t_readsFrame {E : jEnv} {α : Nat → Nat} {σ : tS} {Q : Option Value → tS → Prop} {t n0 : Nat} {b : Nat → Int} {s0 : pS} {a p0 : Nat} {kd : Int} (hX : tTx t n0 b σ) (ht : t < 4) (hn0 : n0 ≤ 120) (hby : ∀ i, -128 ≤ b i ∧ b i ≤ 127) (hA : σ.1 13 = zI a) (ha : a ≤ n0) (hR : tPr s0 σ) (hm9 : s0.2.2.2.2.1 ≤ 8) (hkd : 0 ≤ kd ∧ kd ≤ 3) (hT : σ.1 14 = zI p0) (q1 : ∀ s, mFrm b n0 kd p0 a s0 = .ok s → ∀ σ1, tEq [13, 14, 15, 16, 17, 18, 19, 20, 21] [22] σ σ1 → tPs s σ1 → Q (some (.int (zI 1))) σ1) (q0 : ∀ p, mFrm b n0 kd p0 a s0 = .error p → ∀ σ1, tEq [13, 14, 15, 16, 17, 18, 19, 20, 21] [22] σ σ1 → σ1.1 17 = zI (p : Nat) → Q (some (.int (zI 0))) σ1) : jX2_readsFrame E α 0 [some (.ref (α 0)), some (.int (zI (t : Nat))), some (.int (zI (kd))), none, none] [] σ Q := by
  refine J_aload_n dX2_readsFrame_0 rfl ?_
  refine TG_readMany dX2_readsFrame_1 ?_
  refine J_top (zI (s0.2.2.2.2.1)) hR.2.2.2.1 ?_
  refine J_bipush (zI 8) dX2_readsFrame_4 rfl ?_
  refine J_icmp_ne_z (tgt := 14) dX2_readsFrame_6 (by decide) (by unfold zR; omega) (by unfold zR; omega) (fun c6 => ?_) (fun c6 => ?_)
  · skip
    refine J_bipush (zI 7) dX2_readsFrame_14 rfl ?_
    refine J_aload_n dX2_readsFrame_16 rfl ?_
    refine TG_readMany dX2_readsFrame_17 ?_
    refine J_top (zI (s0.2.2.2.2.1)) hR.2.2.2.1 ?_
    refine J_imul_z dX2_readsFrame_20 ?_
    refine J_istore_n dX2_readsFrame_21 rfl (by decide) _ rfl ?_
    refine J_aload_n dX2_readsFrame_22 rfl ?_
    refine TG_read dX2_readsFrame_23 ?_
    refine J_iload_n dX2_readsFrame_26 rfl ?_
    refine J_iload_n dX2_readsFrame_27 rfl ?_
    refine TJ_iast 22 (7 * s0.2.2.2.2.1 + 0) ⟨rfl, rfl, by decide⟩ (by omega) (show 7 * s0.2.2.2.2.1 + 0 < 56 by omega) dX2_readsFrame_28 ?_
    refine J_iconst (zI 1) dX2_readsFrame_29 rfl ?_
    refine J_istore dX2_readsFrame_30 rfl (by decide) _ rfl ?_
    refine tl_readsFrame32 (σ := setA σ 22 (upd (σ.2.1 22) (7 * s0.2.2.2.2.1 + 0) (zI kd))) (m := s0.2.2.2.2.1) (a0 := a) (R0 := s0.2.2.2.2.2) (by exact hX.eq (tEq.refl.sA (I := []) (A := [22]) (by decide)) (by decide) (by decide)) ht hn0 hby (by omega) (fun p hm σ1 e1 F1 => q0 p (mFrm_0 (by omega) hm) σ1 ((tEq.refl.sA (by decide)).trans (e1.mono (by decide) (by decide))) F1) (fun R e hm σ1 e1 A1 hen rows1 cur1 => ?_) _ 1 a (fun _ => kd) _ (by omega) rfl tEq.refl ha hA (by exact row_step rfl hR.2.2.2.2) (by exact cur_0 (by omega)) (Nat.lt_succ_self _)
    have hX1 : tTx t n0 b σ1 := (hX.eq (tEq.refl.sA (I := []) (A := [22]) (by decide)) (by decide) (by decide)).eq e1 (by decide) (by decide)
    refine J_aload_n dX2_readsFrame_133 rfl ?_
    refine J_dup dX2_readsFrame_134 rfl ?_
    refine TG_readMany dX2_readsFrame_135 ?_
    refine J_top (zI (s0.2.2.2.2.1 : Nat)) ((e1.1 21 (by decide)).trans hR.2.2.2.1) ?_
    refine J_iconst (zI 1) dX2_readsFrame_138 rfl ?_
    refine J_iadd_z dX2_readsFrame_139 ?_
    refine TP_readMany dX2_readsFrame_140 ?_
    refine J_aload_n dX2_readsFrame_143 rfl ?_
    refine J_iload_n dX2_readsFrame_144 rfl ?_
    refine TC_X2_ends (by decide) (Nat.le_of_ble_eq_true rfl) dX2_readsFrame_145 ?_
    refine t_ends (hX1.eq (tEq.refl.sI (I := [21]) (A := []) (by decide)) (by decide) (by decide)) ht hn0 hby A1 hen  (fun e3 hm3 σ3 g3 A3 => ?_) (fun p hm3 σ3 g3 F3 => ?_)
    · refine J_ri ?_
      exact J_zret rfl dX2_readsFrame_148 rfl (by exact q1 _ (mFrm_2 (by omega) hm hm3) σ3 (((((tEq.refl.sA (by decide)).trans (e1.mono (by decide) (by decide))).sI (by decide)).trans (g3.mono (by decide) (by decide)))) ⟨A3, (g3.1 18 (by decide)).trans ((e1.1 18 (by decide)).trans hR.1), (g3.1 19 (by decide)).trans ((e1.1 19 (by decide)).trans hR.2.1), (g3.1 20 (by decide)).trans ((e1.1 20 (by decide)).trans hR.2.2.1), g3.1 21 (by decide), fun f k hf hk => (by rw [g3.2.1 22 (by decide)]; exact frm_ok rows1 cur1 f k hf hk)⟩)
    · refine J_ri ?_
      exact J_zret rfl dX2_readsFrame_148 rfl (by exact q0 p (mFrm_1 (by omega) hm hm3) σ3 (((((tEq.refl.sA (by decide)).trans (e1.mono (by decide) (by decide))).sI (by decide)).trans (g3.mono (by decide) (by decide)))) F3)
  · skip
    refine J_aload_n dX2_readsFrame_9 rfl ?_
    refine TC_X2_fails (by decide) (Nat.le_of_ble_eq_true rfl) dX2_readsFrame_10 ?_
    refine t_fails hT ?_
    refine J_ri ?_
    exact J_zret rfl dX2_readsFrame_13 rfl (by exact q0 p0 (mFrm_t (by omega)) _ (tEq.refl.sI (by decide)) rfl)
