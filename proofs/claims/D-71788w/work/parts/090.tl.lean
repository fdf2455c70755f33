set_option maxRecDepth 100000
/-! the twin: tokens -/
/-- the text t: n bytes b -/
def tTx (t n : Nat) (b : Nat → Int) (σ : tS) : Prop := σ.2.1 6 t = zI n ∧ ∀ i, i < n → σ.2.1 7 (120 * t + i) = zI (b i)
theorem tTx.eq {t n : Nat} {b : Nat → Int} {σ σ' : tS} (h : tTx t n b σ) {I A : List Nat} (e : tEq I A σ σ') (h1 : 6 ∉ A) (h2 : 7 ∉ A) : tTx t n b σ' := by
  unfold tTx
  rw [e.2.1 _ h1, e.2.1 _ h2]
  exact h
theorem t_byteAt {E : jEnv} {α : Nat → Nat} {σ : tS} {Q : Option Value → tS → Prop} {t n0 : Nat} {b : Nat → Int} {i : Nat} (hX : tTx t n0 b σ) (ht : t < 4) (hn0 : n0 ≤ 120) (hby : ∀ i, -128 ≤ b i ∧ b i ≤ 127) (hi : i < 100000) (q1 : i < n0 → Q (some (.int (zI (b i)))) σ) (q0 : ¬ i < n0 → Q (some (.int (zI (-1)))) σ) : jX2_byteAt E α 0 [some (.ref (α 0)), some (.int (zI (t : Nat))), some (.int (zI (i : Nat)))] [] σ Q := by
  refine J_iload_n dX2_byteAt_0 rfl ?_
  refine J_aload_n dX2_byteAt_1 rfl ?_
  refine TG_textSizes dX2_byteAt_2 ?_
  refine J_iload_n dX2_byteAt_5 rfl ?_
  refine TJ_iald 6 (t) ⟨rfl, rfl, by decide⟩ (by omega) (show t < 4 by omega) dX2_byteAt_6 ?_
  refine J_top (zI (n0)) (hX.1) ?_
  refine J_icmp_ge_z (tgt := 24) dX2_byteAt_7 (by decide) (by unfold zR; omega) (by unfold zR; omega) (fun c7 => ?_) (fun c7 => ?_)
  · skip
    refine J_iconst (zI (-1)) dX2_byteAt_24 rfl ?_
    exact J_iret rfl dX2_byteAt_25 (by first | exact q1 (by omega) | exact q0 (by omega))
  · skip
    refine J_aload_n dX2_byteAt_10 rfl ?_
    refine TG_bytes dX2_byteAt_11 ?_
    refine J_bipush (zI 120) dX2_byteAt_14 rfl ?_
    refine J_iload_n dX2_byteAt_16 rfl ?_
    refine J_imul_z dX2_byteAt_17 ?_
    refine J_iload_n dX2_byteAt_18 rfl ?_
    refine J_iadd_z dX2_byteAt_19 ?_
    refine TJ_bald 7 (((120 * t) + i)) ⟨rfl, rfl, by decide⟩ (by omega) (show ((120 * t) + i) < 480 by omega) dX2_byteAt_20 ?_
    refine J_top (zI (b i)) (hX.2 i (by omega)) ?_
    refine J_goto (tgt := 25) dX2_byteAt_21 (by decide) ?_
    exact J_iret rfl dX2_byteAt_25 (by first | exact q1 (by omega) | exact q0 (by omega))
theorem t_blanks {E : jEnv} {α : Nat → Nat} {σ : tS} {Q : Option Value → tS → Prop} {t n0 : Nat} {b : Nat → Int}  (hX : tTx t n0 b σ) (ht : t < 4) (hn0 : n0 ≤ 120) (hby : ∀ i, -128 ≤ b i ∧ b i ≤ 127)  : ∀ (n : Nat) (a : Nat) (σ : tS), tTx t n0 b σ → σ.1 13 = zI a → a ≤ n0 → (∀ σ1, tEq [13] [] σ σ1 → σ1.1 13 = zI (sk b n0 a) → Q none σ1) → n0 - a < n → jX2_blanks E α 0 [some (.ref (α 0)), some (.int (zI (t : Nat)))] [] σ Q := by
  intro n
  induction n with
  | zero => intro a σ h1 h2 h3 h4 hn; exact absurd hn (Nat.not_lt_zero _)
  | succ n ih =>
    intro a σ h1 h2 h3 h4 hn
    have hX := h1
    have hA := h2
    have := hby a
    refine J_aload_n dX2_blanks_0 rfl ?_
    refine J_iload_n dX2_blanks_1 rfl ?_
    refine J_aload_n dX2_blanks_2 rfl ?_
    refine TG_readAt dX2_blanks_3 ?_
    refine J_top (zI (a)) hA ?_
    refine TC_X2_byteAt (by decide) (Nat.le_of_ble_eq_true rfl) dX2_blanks_6 ?_
    refine t_byteAt hX ht hn0 hby (by omega) (fun b6 => ?_) (fun b6 => ?_)
    · refine J_ri ?_
      refine J_bipush (zI 32) dX2_blanks_9 rfl ?_
      refine J_icmp_ne_z (tgt := 27) dX2_blanks_11 (by decide) (by unfold zR; omega) (by unfold zR; omega) (fun c11 => ?_) (fun c11 => ?_)
      · skip
        exact J_vret rfl dX2_blanks_27 (by exact h4 σ tEq.refl (by rw [sk, sc_n (fun z => by have := isB_iff.mp z.2; omega)]; exact h2))
      · skip
        refine J_aload_n dX2_blanks_14 rfl ?_
        refine J_dup dX2_blanks_15 rfl ?_
        refine TG_readAt dX2_blanks_16 ?_
        refine J_top (zI (a)) hA ?_
        refine J_iconst (zI 1) dX2_blanks_19 rfl ?_
        refine J_iadd_z dX2_blanks_20 ?_
        refine TP_readAt dX2_blanks_21 ?_
        refine J_goto (tgt := 0) dX2_blanks_24 (by decide) ?_
        exact ih (a + 1) _ (by exact hX.eq (tEq.refl.sI (I := [13]) (A := []) (by decide)) (by decide) (by decide)) rfl (by omega) (fun σ1 e1 r1 => h4 σ1 ((tEq.refl.sI (by decide)).trans e1) (by rw [r1, sk, sk, sc_y b6 (isB_iff.mpr c11)])) (by omega)
    · refine J_ri ?_
      refine J_bipush (zI 32) dX2_blanks_9 rfl ?_
      refine J_icmp_ne_y (tgt := 27) dX2_blanks_11 (by decide) (by decide) ?_
      exact J_vret rfl dX2_blanks_27 (by exact h4 σ tEq.refl (by rw [sk, sc_n (fun z => by have := isB_iff.mp z.2; omega)]; exact h2))
theorem t_isLetter {E : jEnv} {α : Nat → Nat} {σ : tS} {Q : Option Value → tS → Prop} {t n0 : Nat} {b : Nat → Int} {a : Nat} (hX : tTx t n0 b σ) (ht : t < 4) (hn0 : n0 ≤ 120) (hby : ∀ i, -128 ≤ b i ∧ b i ≤ 127) (hA : σ.1 13 = zI a) (ha : a ≤ n0) (h1 : a < n0 → isL (b a) = true → Q (some (.int (zI 1))) σ) (h0 : ¬ (a < n0 ∧ isL (b a) = true) → Q (some (.int (zI 0))) σ) : jX2_isLetter E α 0 [some (.ref (α 0)), some (.int (zI (t : Nat)))] [] σ Q := by
  have := hby a
  refine J_aload_n dX2_isLetter_0 rfl ?_
  refine TG_readAt dX2_isLetter_1 ?_
  refine J_top (zI (a)) hA ?_
  refine J_aload_n dX2_isLetter_4 rfl ?_
  refine TG_textSizes dX2_isLetter_5 ?_
  refine J_iload_n dX2_isLetter_8 rfl ?_
  refine TJ_iald 6 (t) ⟨rfl, rfl, by decide⟩ (by omega) (show t < 4 by omega) dX2_isLetter_9 ?_
  refine J_top (zI (n0)) (hX.1) ?_
  refine J_icmp_ge_z (tgt := 36) dX2_isLetter_10 (by decide) (by unfold zR; omega) (by unfold zR; omega) (fun c10 => ?_) (fun c10 => ?_)
  · skip
    refine J_iconst (zI 0) dX2_isLetter_36 rfl ?_
    exact J_zret rfl dX2_isLetter_37 rfl (by first | exact h1 (by omega) (isL_iff.mpr (by omega)) | exact h0 (fun z => by have := isL_iff.mp z.2; omega))
  · skip
    refine J_aload_n dX2_isLetter_13 rfl ?_
    refine J_iload_n dX2_isLetter_14 rfl ?_
    refine J_aload_n dX2_isLetter_15 rfl ?_
    refine TG_readAt dX2_isLetter_16 ?_
    refine J_top (zI (a)) hA ?_
    refine TC_X2_byteAt (by decide) (Nat.le_of_ble_eq_true rfl) dX2_isLetter_19 ?_
    refine t_byteAt hX ht hn0 hby (by omega) (fun b6 => ?_) (fun b6 => ?_)
    · refine J_ri ?_
      refine J_bipush (zI 97) dX2_isLetter_22 rfl ?_
      refine J_bipush (zI 122) dX2_isLetter_24 rfl ?_
      refine TC_X2_in (by decide) (Nat.le_of_ble_eq_true rfl) dX2_isLetter_26 ?_
      refine t_in (by unfold zR; omega) (by unfold zR; omega) (by unfold zR; omega) (fun b26 => ?_) (fun b26 => ?_)
      · refine J_ri ?_
        refine J_if_eq_n (tgt := 36) dX2_isLetter_29 (by decide) (by decide) ?_
        refine J_iconst (zI 1) dX2_isLetter_32 rfl ?_
        refine J_goto (tgt := 37) dX2_isLetter_33 (by decide) ?_
        exact J_zret rfl dX2_isLetter_37 rfl (by first | exact h1 (by omega) (isL_iff.mpr (by omega)) | exact h0 (fun z => by have := isL_iff.mp z.2; omega))
      · refine J_ri ?_
        refine J_if_eq_y (tgt := 36) dX2_isLetter_29 (by decide) (by decide) ?_
        refine J_iconst (zI 0) dX2_isLetter_36 rfl ?_
        exact J_zret rfl dX2_isLetter_37 rfl (by first | exact h1 (by omega) (isL_iff.mpr (by omega)) | exact h0 (fun z => by have := isL_iff.mp z.2; omega))
    · exfalso; omega
theorem t_isFigure {E : jEnv} {α : Nat → Nat} {σ : tS} {Q : Option Value → tS → Prop} {t n0 : Nat} {b : Nat → Int} {a : Nat} (hX : tTx t n0 b σ) (ht : t < 4) (hn0 : n0 ≤ 120) (hby : ∀ i, -128 ≤ b i ∧ b i ≤ 127) (hA : σ.1 13 = zI a) (ha : a ≤ n0) (h1 : a < n0 → isF (b a) = true → Q (some (.int (zI 1))) σ) (h0 : ¬ (a < n0 ∧ isF (b a) = true) → Q (some (.int (zI 0))) σ) : jX2_isFigure E α 0 [some (.ref (α 0)), some (.int (zI (t : Nat)))] [] σ Q := by
  have := hby a
  refine J_aload_n dX2_isFigure_0 rfl ?_
  refine TG_readAt dX2_isFigure_1 ?_
  refine J_top (zI (a)) hA ?_
  refine J_aload_n dX2_isFigure_4 rfl ?_
  refine TG_textSizes dX2_isFigure_5 ?_
  refine J_iload_n dX2_isFigure_8 rfl ?_
  refine TJ_iald 6 (t) ⟨rfl, rfl, by decide⟩ (by omega) (show t < 4 by omega) dX2_isFigure_9 ?_
  refine J_top (zI (n0)) (hX.1) ?_
  refine J_icmp_ge_z (tgt := 36) dX2_isFigure_10 (by decide) (by unfold zR; omega) (by unfold zR; omega) (fun c10 => ?_) (fun c10 => ?_)
  · skip
    refine J_iconst (zI 0) dX2_isFigure_36 rfl ?_
    exact J_zret rfl dX2_isFigure_37 rfl (by first | exact h1 (by omega) (isF_iff.mpr (by omega)) | exact h0 (fun z => by have := isF_iff.mp z.2; omega))
  · skip
    refine J_aload_n dX2_isFigure_13 rfl ?_
    refine J_iload_n dX2_isFigure_14 rfl ?_
    refine J_aload_n dX2_isFigure_15 rfl ?_
    refine TG_readAt dX2_isFigure_16 ?_
    refine J_top (zI (a)) hA ?_
    refine TC_X2_byteAt (by decide) (Nat.le_of_ble_eq_true rfl) dX2_isFigure_19 ?_
    refine t_byteAt hX ht hn0 hby (by omega) (fun b6 => ?_) (fun b6 => ?_)
    · refine J_ri ?_
      refine J_bipush (zI 48) dX2_isFigure_22 rfl ?_
      refine J_bipush (zI 57) dX2_isFigure_24 rfl ?_
      refine TC_X2_in (by decide) (Nat.le_of_ble_eq_true rfl) dX2_isFigure_26 ?_
      refine t_in (by unfold zR; omega) (by unfold zR; omega) (by unfold zR; omega) (fun b26 => ?_) (fun b26 => ?_)
      · refine J_ri ?_
        refine J_if_eq_n (tgt := 36) dX2_isFigure_29 (by decide) (by decide) ?_
        refine J_iconst (zI 1) dX2_isFigure_32 rfl ?_
        refine J_goto (tgt := 37) dX2_isFigure_33 (by decide) ?_
        exact J_zret rfl dX2_isFigure_37 rfl (by first | exact h1 (by omega) (isF_iff.mpr (by omega)) | exact h0 (fun z => by have := isF_iff.mp z.2; omega))
      · refine J_ri ?_
        refine J_if_eq_y (tgt := 36) dX2_isFigure_29 (by decide) (by decide) ?_
        refine J_iconst (zI 0) dX2_isFigure_36 rfl ?_
        exact J_zret rfl dX2_isFigure_37 rfl (by first | exact h1 (by omega) (isF_iff.mpr (by omega)) | exact h0 (fun z => by have := isF_iff.mp z.2; omega))
    · exfalso; omega
theorem tl_next47 {E : jEnv} {α : Nat → Nat} {σ : tS} {Q : Option Value → tS → Prop} {t n0 : Nat} {b : Nat → Int} {s : Nat} (hX : tTx t n0 b σ) (ht : t < 4) (hn0 : n0 ≤ 120) (hby : ∀ i, -128 ≤ b i ∧ b i ≤ 127) (hx : ∀ σ1, tEq [13] [] σ σ1 → σ1.1 13 = zI (sc isL b n0 s) → Q none σ1) : ∀ (n : Nat) (a : Nat) (σ1 : tS), tEq [13] [] σ σ1 → σ1.1 13 = zI a → a ≤ n0 → sc isL b n0 s = sc isL b n0 a → n0 - a < n → jX2_next E α 47 [some (.ref (α 0)), some (.int (zI (t : Nat)))] [] σ1 Q := by
  intro n
  induction n with
  | zero => intro a σ1 h1 h2 h3 h4 hn; exact absurd hn (Nat.not_lt_zero _)
  | succ n ih =>
    intro a σ1 h1 h2 h3 h4 hn
    have hX := hX.eq h1 (by decide) (by decide)
    have hA := h2
    refine J_aload_n dX2_next_47 rfl ?_
    refine J_iload_n dX2_next_48 rfl ?_
    refine TC_X2_isLetter (by decide) (Nat.le_of_ble_eq_true rfl) dX2_next_49 ?_
    refine t_isLetter hX ht hn0 hby hA (by omega) (fun b49 b50 => ?_) (fun b49 => ?_)
    · refine J_ri ?_
      refine J_if_eq_n (tgt := 179) dX2_next_52 (by decide) (by decide) ?_
      refine J_aload_n dX2_next_55 rfl ?_
      refine J_dup dX2_next_56 rfl ?_
      refine TG_readAt dX2_next_57 ?_
      refine J_top (zI (a)) hA ?_
      refine J_iconst (zI 1) dX2_next_60 rfl ?_
      refine J_iadd_z dX2_next_61 ?_
      refine TP_readAt dX2_next_62 ?_
      refine J_goto (tgt := 47) dX2_next_65 (by decide) ?_
      exact ih (a + 1) _ (h1.sI (by decide)) rfl (by omega) (by rw [h4, sc_y b49 b50]) (by omega)
    · refine J_ri ?_
      refine J_if_eq_y (tgt := 179) dX2_next_52 (by decide) (by decide) ?_
      exact J_vret rfl dX2_next_179 (by exact hx σ1 h1 (by rw [h4, sc_n b49]; exact h2))
theorem tl_next86 {E : jEnv} {α : Nat → Nat} {σ : tS} {Q : Option Value → tS → Prop} {t n0 : Nat} {b : Nat → Int} {s : Nat} (hX : tTx t n0 b σ) (ht : t < 4) (hn0 : n0 ≤ 120) (hby : ∀ i, -128 ≤ b i ∧ b i ≤ 127) (hs : s ≤ n0) (hx : ∀ σ1, tEq [13, 16] [] σ σ1 → σ1.1 13 = zI (sc isF b n0 s) → σ1.1 16 = zI (nvT b s (sc isF b n0 s - s)) → Q none σ1) : ∀ (n : Nat) (a : Nat) (σ1 : tS), tEq [13, 16] [] σ σ1 → σ1.1 13 = zI a → s ≤ a → a ≤ n0 → sc isF b n0 s = sc isF b n0 a → σ1.1 16 = zI (nvT b s (a - s)) → (∀ i, i < a - s → isF (b (s + i)) = true) → n0 - a < n → jX2_next E α 86 [some (.ref (α 0)), some (.int (zI (t : Nat)))] [] σ1 Q := by
  intro n
  induction n with
  | zero => intro a σ1 h1 h2 h3 h4 h5 h6 h7 hn; exact absurd hn (Nat.not_lt_zero _)
  | succ n ih =>
    intro a σ1 h1 h2 h3 h4 h5 h6 h7 hn
    have hX := hX.eq h1 (by decide) (by decide)
    have hA := h2
    have hv := nvT_b (b := b) (s := s) (a - s) h7
    have := hby a
    refine J_aload_n dX2_next_86 rfl ?_
    refine J_iload_n dX2_next_87 rfl ?_
    refine TC_X2_isFigure (by decide) (Nat.le_of_ble_eq_true rfl) dX2_next_88 ?_
    refine t_isFigure hX ht hn0 hby hA (by omega) (fun b88 b89 => ?_) (fun b88 => ?_)
    · refine J_ri ?_
      have b90 := isF_iff.mp b89
      refine J_if_eq_n (tgt := 179) dX2_next_91 (by decide) (by decide) ?_
      refine J_aload_n dX2_next_94 rfl ?_
      refine J_aload_n dX2_next_95 rfl ?_
      refine TG_value dX2_next_96 ?_
      refine J_top (zI (nvT b s (a - s))) h6 ?_
      refine J_bipush (zI 99) dX2_next_99 rfl ?_
      refine J_icmp_le_z (tgt := 110) dX2_next_101 (by decide) (by unfold zR; omega) (by unfold zR; omega) (fun c101 => ?_) (fun c101 => ?_)
      · skip
        refine J_bipush (zI 10) dX2_next_110 rfl ?_
        refine J_aload_n dX2_next_112 rfl ?_
        refine TG_value dX2_next_113 ?_
        refine J_top (zI (nvT b s (a - s))) h6 ?_
        refine J_imul_z dX2_next_116 ?_
        refine J_aload_n dX2_next_117 rfl ?_
        refine J_iload_n dX2_next_118 rfl ?_
        refine J_aload_n dX2_next_119 rfl ?_
        refine TG_readAt dX2_next_120 ?_
        refine J_top (zI (a)) hA ?_
        refine TC_X2_byteAt (by decide) (Nat.le_of_ble_eq_true rfl) dX2_next_123 ?_
        refine t_byteAt hX ht hn0 hby (by omega) (fun b6 => ?_) (fun b6 => ?_)
        · refine J_ri ?_
          refine J_iadd_z dX2_next_126 ?_
          refine J_bipush (zI 48) dX2_next_127 rfl ?_
          refine J_isub_z dX2_next_129 ?_
          refine J_top (zI (nvT b s (a + 1 - s))) (congrArg zI (by rw [show a + 1 - s = (a - s) + 1 by omega, nvT, show s + (a - s) = a by omega]; split <;> omega)) ?_
          refine TP_value dX2_next_130 ?_
          refine J_aload_n dX2_next_133 rfl ?_
          refine J_dup dX2_next_134 rfl ?_
          refine TG_readAt dX2_next_135 ?_
          refine J_top (zI (a)) hA ?_
          refine J_iconst (zI 1) dX2_next_138 rfl ?_
          refine J_iadd_z dX2_next_139 ?_
          refine TP_readAt dX2_next_140 ?_
          refine J_goto (tgt := 86) dX2_next_143 (by decide) ?_
          exact ih (a + 1) _ ((h1.sI (by decide)).sI (by decide)) rfl (by omega) (by omega) (by rw [h5, sc_y b88 b89]) rfl (fun i hi => Decidable.byCases (fun z : i = a - s => by rw [z, show s + (a - s) = a by omega]; exact b89) (fun z => h7 i (by omega))) (by omega)
        · exfalso; omega
      · skip
        refine J_sipush (zI 1000) dX2_next_104 rfl ?_
        refine J_goto (tgt := 130) dX2_next_107 (by decide) ?_
        refine J_top (zI (nvT b s (a + 1 - s))) (congrArg zI (by rw [show a + 1 - s = (a - s) + 1 by omega, nvT, show s + (a - s) = a by omega]; split <;> omega)) ?_
        refine TP_value dX2_next_130 ?_
        refine J_aload_n dX2_next_133 rfl ?_
        refine J_dup dX2_next_134 rfl ?_
        refine TG_readAt dX2_next_135 ?_
        refine J_top (zI (a)) hA ?_
        refine J_iconst (zI 1) dX2_next_138 rfl ?_
        refine J_iadd_z dX2_next_139 ?_
        refine TP_readAt dX2_next_140 ?_
        refine J_goto (tgt := 86) dX2_next_143 (by decide) ?_
        exact ih (a + 1) _ ((h1.sI (by decide)).sI (by decide)) rfl (by omega) (by omega) (by rw [h5, sc_y b88 b89]) rfl (fun i hi => Decidable.byCases (fun z : i = a - s => by rw [z, show s + (a - s) = a by omega]; exact b89) (fun z => h7 i (by omega))) (by omega)
    · refine J_ri ?_
      refine J_if_eq_y (tgt := 179) dX2_next_91 (by decide) (by decide) ?_
      exact J_vret rfl dX2_next_179 (by exact hx σ1 h1 (by rw [h5, sc_n b88]; exact h2) (by rw [h5, sc_n b88]; exact h6))
theorem t_next {E : jEnv} {α : Nat → Nat} {σ : tS} {Q : Option Value → tS → Prop} {t n0 : Nat} {b : Nat → Int} {a : Nat} (hX : tTx t n0 b σ) (ht : t < 4) (hn0 : n0 ≤ 120) (hby : ∀ i, -128 ≤ b i ∧ b i ≤ 127) (hA : σ.1 13 = zI a) (ha : a ≤ n0) (hq : ∀ σ1 tk e v, tEq [13, 14, 15, 16] [] σ σ1 → σ1.1 14 = zI ((sk b n0 a) : Nat) → σ1.1 15 = zI tk → σ1.1 13 = zI (e : Nat) → (tk = 2 → σ1.1 16 = zI v) → tkR b n0 (sk b n0 a) tk e v → Q none σ1) : jX2_next E α 0 [some (.ref (α 0)), some (.int (zI (t : Nat)))] [] σ Q := by
  have hsb : a ≤ sk b n0 a ∧ sk b n0 a ≤ n0 := sc_b ha
  have hby1 := hby (sk b n0 a)
  refine J_aload_n dX2_next_0 rfl ?_
  refine J_iload_n dX2_next_1 rfl ?_
  refine TC_X2_blanks (by decide) (Nat.le_of_ble_eq_true rfl) dX2_next_2 ?_
  refine t_blanks hX ht hn0 hby _ _ _ hX hA (by omega) (fun σ1 e1 A1 => ?_) (Nat.lt_succ_self _)
  have hX := (hX.eq e1 (by decide) (by decide)).eq (tEq.refl.sI (I := [14]) (A := []) (k := 14) (v := zI (sk b n0 a)) (by decide)) (by decide) (by decide)
  have hA : σ1.1 13 = zI (sk b n0 a) := A1
  refine J_rv ?_
  refine J_aload_n dX2_next_5 rfl ?_
  refine J_aload_n dX2_next_6 rfl ?_
  refine TG_readAt dX2_next_7 ?_
  refine J_top (zI ((sk b n0 a))) A1 ?_
  refine TP_tokenAt dX2_next_10 ?_
  refine J_aload_n dX2_next_13 rfl ?_
  refine TG_readAt dX2_next_14 ?_
  refine J_top (zI ((sk b n0 a))) A1 ?_
  refine J_aload_n dX2_next_17 rfl ?_
  refine TG_textSizes dX2_next_18 ?_
  refine J_iload_n dX2_next_21 rfl ?_
  refine TJ_iald 6 (t) ⟨rfl, rfl, by decide⟩ (by omega) (show t < 4 by omega) dX2_next_22 ?_
  refine J_top (zI (n0)) (hX.1) ?_
  refine J_icmp_ne_z (tgt := 34) dX2_next_23 (by decide) (by unfold zR; omega) (by unfold zR; omega) (fun c23 => ?_) (fun c23 => ?_)
  · skip
    refine J_aload_n dX2_next_34 rfl ?_
    refine J_iload_n dX2_next_35 rfl ?_
    refine TC_X2_isLetter (by decide) (Nat.le_of_ble_eq_true rfl) dX2_next_36 ?_
    refine t_isLetter hX ht hn0 hby A1 (by omega) (fun b36 b37 => ?_) (fun b36 => ?_)
    · refine J_ri ?_
      refine J_if_eq_n (tgt := 68) dX2_next_39 (by decide) (by decide) ?_
      refine J_aload_n dX2_next_42 rfl ?_
      refine J_iconst (zI 1) dX2_next_43 rfl ?_
      refine TP_token dX2_next_44 ?_
      refine tl_next47 (s := sk b n0 a) (by exact hX.eq (tEq.refl.sI (I := [15]) (A := []) (by decide)) (by decide) (by decide)) ht hn0 hby (fun σ2 e2 r2 => ?_) _ (sk b n0 a) _ tEq.refl (by exact A1) (by omega) rfl (Nat.lt_succ_self _)
      exact hq σ2 1 _ 0 ((((e1.mono (by decide) (by decide)).sI (by decide)).sI (by decide)).trans (e2.mono (by decide) (by decide))) (e2.1 14 (by decide)) (e2.1 15 (by decide)) r2 (fun z => absurd z (by decide)) (Or.inr (Or.inl ⟨rfl, b36, b37, rfl⟩))
    · refine J_ri ?_
      refine J_if_eq_y (tgt := 68) dX2_next_39 (by decide) (by decide) ?_
      refine J_aload_n dX2_next_68 rfl ?_
      refine J_iload_n dX2_next_69 rfl ?_
      refine TC_X2_isFigure (by decide) (Nat.le_of_ble_eq_true rfl) dX2_next_70 ?_
      refine t_isFigure hX ht hn0 hby A1 (by omega) (fun b70 b71 => ?_) (fun b70 => ?_)
      · refine J_ri ?_
        refine J_if_eq_n (tgt := 146) dX2_next_73 (by decide) (by decide) ?_
        refine J_aload_n dX2_next_76 rfl ?_
        refine J_iconst (zI 2) dX2_next_77 rfl ?_
        refine TP_token dX2_next_78 ?_
        refine J_aload_n dX2_next_81 rfl ?_
        refine J_iconst (zI 0) dX2_next_82 rfl ?_
        refine TP_value dX2_next_83 ?_
        refine tl_next86 (s := sk b n0 a) (by exact hX.eq ((tEq.refl.sI (I := [15, 16]) (A := []) (by decide)).sI (by decide)) (by decide) (by decide)) ht hn0 hby (by omega) (fun σ2 e2 r2 w2 => ?_) _ (sk b n0 a) _ tEq.refl (by exact A1) (by omega) (by omega) rfl (by rw [Nat.sub_self]; rfl) (fun i hi => absurd hi (by omega)) (Nat.lt_succ_self _)
        exact hq σ2 2 _ _ (((((e1.mono (by decide) (by decide)).sI (by decide)).sI (by decide)).sI (by decide)).trans (e2.mono (by decide) (by decide))) (e2.1 14 (by decide)) (e2.1 15 (by decide)) r2 (fun _ => w2) (Or.inr (Or.inr (Or.inl ⟨rfl, b70, b71, rfl, rfl⟩)))
      · refine J_ri ?_
        refine J_if_eq_y (tgt := 146) dX2_next_73 (by decide) (by decide) ?_
        refine J_aload_n dX2_next_146 rfl ?_
        refine J_aload_n dX2_next_147 rfl ?_
        refine J_iload_n dX2_next_148 rfl ?_
        refine J_aload_n dX2_next_149 rfl ?_
        refine TG_readAt dX2_next_150 ?_
        refine J_top (zI ((sk b n0 a))) A1 ?_
        refine TC_X2_byteAt (by decide) (Nat.le_of_ble_eq_true rfl) dX2_next_153 ?_
        refine t_byteAt hX ht hn0 hby (by omega) (fun b6 => ?_) (fun b6 => ?_)
        · refine J_ri ?_
          refine J_bipush (zI 59) dX2_next_156 rfl ?_
          refine J_icmp_ne_z (tgt := 165) dX2_next_158 (by decide) (by unfold zR; omega) (by unfold zR; omega) (fun c158 => ?_) (fun c158 => ?_)
          · skip
            refine J_iconst (zI 4) dX2_next_165 rfl ?_
            refine TP_token dX2_next_166 ?_
            refine J_aload_n dX2_next_169 rfl ?_
            refine J_dup dX2_next_170 rfl ?_
            refine TG_readAt dX2_next_171 ?_
            refine J_top (zI ((sk b n0 a))) A1 ?_
            refine J_iconst (zI 1) dX2_next_174 rfl ?_
            refine J_iadd_z dX2_next_175 ?_
            refine TP_readAt dX2_next_176 ?_
            exact J_vret rfl dX2_next_179 (by first | exact hq _ 0 (sk b n0 a) 0 (((e1.mono (by decide) (by decide)).sI (by decide)).sI (by decide)) rfl rfl A1 (fun z => absurd z (by decide)) (Or.inl ⟨rfl, by omega, rfl⟩) | exact hq _ 3 (sk b n0 a + 1) 0 ((((e1.mono (by decide) (by decide)).sI (by decide)).sI (by decide)).sI (by decide)) rfl rfl rfl (fun z => absurd z (by decide)) (Or.inr (Or.inr (Or.inr (Or.inl ⟨rfl, by omega, c158, rfl⟩)))) | exact hq _ 4 (sk b n0 a + 1) 0 ((((e1.mono (by decide) (by decide)).sI (by decide)).sI (by decide)).sI (by decide)) rfl rfl rfl (fun z => absurd z (by decide)) (Or.inr (Or.inr (Or.inr (Or.inr ⟨rfl, by omega, (by cases hc : isL (b (sk b n0 a)) with | false => rfl | true => exact absurd ⟨by omega, hc⟩ b36), (by cases hc : isF (b (sk b n0 a)) with | false => rfl | true => exact absurd ⟨by omega, hc⟩ b70), c158, rfl⟩)))))
          · skip
            refine J_iconst (zI 3) dX2_next_161 rfl ?_
            refine J_goto (tgt := 166) dX2_next_162 (by decide) ?_
            refine TP_token dX2_next_166 ?_
            refine J_aload_n dX2_next_169 rfl ?_
            refine J_dup dX2_next_170 rfl ?_
            refine TG_readAt dX2_next_171 ?_
            refine J_top (zI ((sk b n0 a))) A1 ?_
            refine J_iconst (zI 1) dX2_next_174 rfl ?_
            refine J_iadd_z dX2_next_175 ?_
            refine TP_readAt dX2_next_176 ?_
            exact J_vret rfl dX2_next_179 (by first | exact hq _ 0 (sk b n0 a) 0 (((e1.mono (by decide) (by decide)).sI (by decide)).sI (by decide)) rfl rfl A1 (fun z => absurd z (by decide)) (Or.inl ⟨rfl, by omega, rfl⟩) | exact hq _ 3 (sk b n0 a + 1) 0 ((((e1.mono (by decide) (by decide)).sI (by decide)).sI (by decide)).sI (by decide)) rfl rfl rfl (fun z => absurd z (by decide)) (Or.inr (Or.inr (Or.inr (Or.inl ⟨rfl, by omega, c158, rfl⟩)))) | exact hq _ 4 (sk b n0 a + 1) 0 ((((e1.mono (by decide) (by decide)).sI (by decide)).sI (by decide)).sI (by decide)) rfl rfl rfl (fun z => absurd z (by decide)) (Or.inr (Or.inr (Or.inr (Or.inr ⟨rfl, by omega, (by cases hc : isL (b (sk b n0 a)) with | false => rfl | true => exact absurd ⟨by omega, hc⟩ b36), (by cases hc : isF (b (sk b n0 a)) with | false => rfl | true => exact absurd ⟨by omega, hc⟩ b70), c158, rfl⟩)))))
        · exfalso; omega
  · skip
    refine J_aload_n dX2_next_26 rfl ?_
    refine J_iconst (zI 0) dX2_next_27 rfl ?_
    refine TP_token dX2_next_28 ?_
    refine J_goto (tgt := 179) dX2_next_31 (by decide) ?_
    exact J_vret rfl dX2_next_179 (by first | exact hq _ 0 (sk b n0 a) 0 (((e1.mono (by decide) (by decide)).sI (by decide)).sI (by decide)) rfl rfl A1 (fun z => absurd z (by decide)) (Or.inl ⟨rfl, by omega, rfl⟩) | exact hq _ 3 (sk b n0 a + 1) 0 ((((e1.mono (by decide) (by decide)).sI (by decide)).sI (by decide)).sI (by decide)) rfl rfl rfl (fun z => absurd z (by decide)) (Or.inr (Or.inr (Or.inr (Or.inl ⟨rfl, by omega, c158, rfl⟩)))) | exact hq _ 4 (sk b n0 a + 1) 0 ((((e1.mono (by decide) (by decide)).sI (by decide)).sI (by decide)).sI (by decide)) rfl rfl rfl (fun z => absurd z (by decide)) (Or.inr (Or.inr (Or.inr (Or.inr ⟨rfl, by omega, (by cases hc : isL (b (sk b n0 a)) with | false => rfl | true => exact absurd ⟨by omega, hc⟩ b36), (by cases hc : isF (b (sk b n0 a)) with | false => rfl | true => exact absurd ⟨by omega, hc⟩ b70), c158, rfl⟩)))))
