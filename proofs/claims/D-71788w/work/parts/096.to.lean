set_option maxRecDepth 100000
/-! the twin: word -/
theorem tl_word7 {E : jEnv} {α : Nat → Nat} {σ : tS} {Q : Option Value → tS → Prop} {t n0 : Nat} {b : Nat → Int} {s e : Nat} (hX : tTx t n0 b σ) (ht : t < 4) (hn0 : n0 ≤ 120) (hby : ∀ i, -128 ≤ b i ∧ b i ≤ 127) (hT : σ.1 14 = zI s) (hA : σ.1 13 = zI e) (hse : s ≤ e ∧ e ≤ n0) (hq : Q (some (.int (zI (mWord b s e)))) σ) : ∀ (n : Nat) (i : Nat), s ≤ i ∧ i ≤ e ∧ i ≤ s + 6 → s + 6 - i < n → jX2_word E α 7 [some (.ref (α 0)), some (.int (zI (t : Nat))), some (.int (zI (wcd b s (i - s)))), some (.int (zI (i : Nat)))] [] σ Q := by
  intro n
  induction n with
  | zero => intro i h1 hn; exact absurd hn (Nat.not_lt_zero _)
  | succ n ih =>
    intro i h1 hn
    refine J_iload_n dX2_word_7 rfl ?_
    refine J_aload_n dX2_word_8 rfl ?_
    refine TG_readAt dX2_word_9 ?_
    refine J_top (zI (e)) hA ?_
    refine J_icmp_ge_z (tgt := 47) dX2_word_12 (by decide) (by unfold zR; omega) (by unfold zR; omega) (fun c12 => ?_) (fun c12 => ?_)
    · skip
      refine J_aload_n dX2_word_47 rfl ?_
      refine TG_readAt dX2_word_48 ?_
      refine J_top (zI (e)) hA ?_
      refine J_aload_n dX2_word_51 rfl ?_
      refine TG_tokenAt dX2_word_52 ?_
      refine J_top (zI (s)) hT ?_
      refine J_isub_z dX2_word_55 ?_
      refine J_bipush (zI 6) dX2_word_56 rfl ?_
      refine J_icmp_le_z (tgt := 65) dX2_word_58 (by decide) (by unfold zR; omega) (by unfold zR; omega) (fun c58 => ?_) (fun c58 => ?_)
      · skip
        refine J_iload_n dX2_word_65 rfl ?_
        exact J_iret rfl dX2_word_66 (by exact qz hq (by unfold mWord; split <;> first | omega | (rw [show e - s = i - s by omega])))
      · skip
        refine J_iconst (zI 0) dX2_word_61 rfl ?_
        refine J_goto (tgt := 66) dX2_word_62 (by decide) ?_
        exact J_iret rfl dX2_word_66 (by exact qz hq (by unfold mWord; split <;> first | omega | (rw [show e - s = i - s by omega])))
    · skip
      refine J_iload_n dX2_word_15 rfl ?_
      refine J_aload_n dX2_word_16 rfl ?_
      refine TG_tokenAt dX2_word_17 ?_
      refine J_top (zI (s)) hT ?_
      refine J_bipush (zI 6) dX2_word_20 rfl ?_
      refine J_iadd_z dX2_word_22 ?_
      refine J_icmp_ge_z (tgt := 47) dX2_word_23 (by decide) (by unfold zR; omega) (by unfold zR; omega) (fun c23 => ?_) (fun c23 => ?_)
      · skip
        refine J_aload_n dX2_word_47 rfl ?_
        refine TG_readAt dX2_word_48 ?_
        refine J_top (zI (e)) hA ?_
        refine J_aload_n dX2_word_51 rfl ?_
        refine TG_tokenAt dX2_word_52 ?_
        refine J_top (zI (s)) hT ?_
        refine J_isub_z dX2_word_55 ?_
        refine J_bipush (zI 6) dX2_word_56 rfl ?_
        refine J_icmp_le_z (tgt := 65) dX2_word_58 (by decide) (by unfold zR; omega) (by unfold zR; omega) (fun c58 => ?_) (fun c58 => ?_)
        · skip
          refine J_iload_n dX2_word_65 rfl ?_
          exact J_iret rfl dX2_word_66 (by exact qz hq (by unfold mWord; split <;> first | omega | (rw [show e - s = i - s by omega])))
        · skip
          refine J_iconst (zI 0) dX2_word_61 rfl ?_
          refine J_goto (tgt := 66) dX2_word_62 (by decide) ?_
          exact J_iret rfl dX2_word_66 (by exact qz hq (by unfold mWord; split <;> first | omega | (rw [show e - s = i - s by omega])))
      · skip
        refine J_bipush (zI 27) dX2_word_26 rfl ?_
        refine J_iload_n dX2_word_28 rfl ?_
        refine J_imul_z dX2_word_29 ?_
        refine J_aload_n dX2_word_30 rfl ?_
        refine J_iload_n dX2_word_31 rfl ?_
        refine J_iload_n dX2_word_32 rfl ?_
        refine TC_X2_byteAt (by decide) (Nat.le_of_ble_eq_true rfl) dX2_word_33 ?_
        refine t_byteAt hX ht hn0 hby (by omega) (fun b6 => ?_) (fun b6 => ?_)
        · refine J_ri ?_
          refine J_iadd_z dX2_word_36 ?_
          refine J_bipush (zI 96) dX2_word_37 rfl ?_
          refine J_isub_z dX2_word_39 ?_
          refine J_top (zI (wcd b s (i + 1 - s))) (congrArg zI (by rw [show i + 1 - s = (i - s) + 1 by omega, wcd, show s + (i - s) = i by omega])) ?_
          refine J_istore_n dX2_word_40 rfl (by decide) _ rfl ?_
          refine J_iinc_z ((((i + 1)) : Nat) : Int) (by omega) dX2_word_41 rfl rfl (by decide) _ rfl ?_
          refine J_goto (tgt := 7) dX2_word_44 (by decide) ?_
          exact ih (i + 1) (by omega) (by omega)
        · exfalso; omega
theorem t_word {E : jEnv} {α : Nat → Nat} {σ : tS} {Q : Option Value → tS → Prop} {t n0 : Nat} {b : Nat → Int} {s e : Nat} (hX : tTx t n0 b σ) (ht : t < 4) (hn0 : n0 ≤ 120) (hby : ∀ i, -128 ≤ b i ∧ b i ≤ 127) (hT : σ.1 14 = zI s) (hA : σ.1 13 = zI e) (hse : s ≤ e ∧ e ≤ n0) (hq : Q (some (.int (zI (mWord b s e)))) σ) : jX2_word E α 0 [some (.ref (α 0)), some (.int (zI (t : Nat))), none, none] [] σ Q := by
  refine J_iconst (zI 0) dX2_word_0 rfl ?_
  refine J_top (zI (wcd b s (s - s))) (congrArg zI (by rw [Nat.sub_self]; rfl)) ?_
  refine J_istore_n dX2_word_1 rfl (by decide) _ rfl ?_
  refine J_aload_n dX2_word_2 rfl ?_
  refine TG_tokenAt dX2_word_3 ?_
  refine J_top (zI (s)) hT ?_
  refine J_istore_n dX2_word_6 rfl (by decide) _ rfl ?_
  exact tl_word7 hX ht hn0 hby hT hA hse hq _ s (by omega) (Nat.lt_succ_self _)
