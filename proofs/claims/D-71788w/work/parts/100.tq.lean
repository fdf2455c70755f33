set_option maxRecDepth 100000
/-! the twin: faultOf, fault, sheet -/
theorem tl_faultOf30 {E : jEnv} {α : Nat → Nat} {σ : tS} {Q : Option Value → tS → Prop} {t n0 : Nat} {b : Nat → Int}  (hX : tTx t n0 b σ) (ht : t < 4) (hn0 : n0 ≤ 120) (hby : ∀ i, -128 ≤ b i ∧ b i ≤ 127)  : ∀ (n : Nat) (s : pS) (σ1 : tS), tEq [13, 14, 15, 16, 17, 18, 19, 20, 21] [22] σ σ1 → tPs s σ1 → pOK n0 s → (∀ p, mPs b n0 n s = .error p → ∀ σ2, tEq [13, 14, 15, 16, 17, 18, 19, 20, 21] [22] σ σ2 → Q (some (.int (zI (p : Nat)))) σ2) → (∀ s2, mPs b n0 n s = .ok s2 → s2.2.2.2.2.1 = 0 → ∀ σ2, tEq [13, 14, 15, 16, 17, 18, 19, 20, 21] [22] σ σ2 → Q (some (.int (zI (n0 : Nat)))) σ2) → (∀ s2, mPs b n0 n s = .ok s2 → s2.2.2.2.2.1 ≠ 0 → ∀ σ2, tEq [13, 14, 15, 16, 17, 18, 19, 20, 21] [22] σ σ2 → tPs s2 σ2 → pOK n0 s2 → Q (some (.int (zI (-9)))) σ2) → n0 - s.1 < n → jX2_faultOf E α 30 [some (.ref (α 0)), some (.int (zI (t : Nat)))] [] σ1 Q := by
  intro n
  induction n with
  | zero => intro s σ1 h1 h2 h3 h4 h5 h6 hn; exact absurd hn (Nat.not_lt_zero _)
  | succ n ih =>
    intro s σ1 h1 h2 h3 h4 h5 h6 hn
    have hX := hX.eq h1 (by decide) (by decide)
    have hle := h3.1
    have hm8 := h3.2.1
    refine J_aload_n dX2_faultOf_30 rfl ?_
    refine TG_readAt dX2_faultOf_31 ?_
    refine J_top (zI (s.1)) h2.1 ?_
    refine J_aload_n dX2_faultOf_34 rfl ?_
    refine TG_textSizes dX2_faultOf_35 ?_
    refine J_iload_n dX2_faultOf_38 rfl ?_
    refine TJ_iald 6 (t) ⟨rfl, rfl, by decide⟩ (by omega) (show t < 4 by omega) dX2_faultOf_39 ?_
    refine J_top (zI (n0)) (hX.1) ?_
    refine J_icmp_ge_z (tgt := 64) dX2_faultOf_40 (by decide) (by unfold zR; omega) (by unfold zR; omega) (fun c40 => ?_) (fun c40 => ?_)
    · skip
      refine J_aload_n dX2_faultOf_64 rfl ?_
      refine TG_readMany dX2_faultOf_65 ?_
      refine J_top (zI (s.2.2.2.2.1)) h2.2.2.2.2.1 ?_
      refine J_if_ne_z (tgt := 80) dX2_faultOf_68 (by decide) (by unfold zR; omega) (fun c68 => ?_) (fun c68 => ?_)
      · skip
        refine J_bipush (zI (-9)) dX2_faultOf_80 rfl ?_
        exact J_iret rfl dX2_faultOf_82 (by first | exact h5 s (mPs_x (by omega)) (by omega) σ1 h1 | exact h6 s (mPs_x (by omega)) (by omega) σ1 h1 h2 h3)
      · skip
        refine J_aload_n dX2_faultOf_71 rfl ?_
        refine TG_textSizes dX2_faultOf_72 ?_
        refine J_iload_n dX2_faultOf_75 rfl ?_
        refine TJ_iald 6 (t) ⟨rfl, rfl, by decide⟩ (by omega) (show t < 4 by omega) dX2_faultOf_76 ?_
        refine J_top (zI (n0)) (hX.1) ?_
        refine J_goto (tgt := 82) dX2_faultOf_77 (by decide) ?_
        exact J_iret rfl dX2_faultOf_82 (by first | exact h5 s (mPs_x (by omega)) (by omega) σ1 h1 | exact h6 s (mPs_x (by omega)) (by omega) σ1 h1 h2 h3)
    · skip
      refine J_aload_n dX2_faultOf_43 rfl ?_
      refine J_iload_n dX2_faultOf_44 rfl ?_
      refine TC_X2_readsOne (by decide) (Nat.le_of_ble_eq_true rfl) dX2_faultOf_45 ?_
      refine t_readsOne hX ht hn0 hby h2 h3  (fun s2 hm σ2 e2 P2 => ?_) (fun p hm σ2 e2 F2 => ?_)
      · refine J_ri ?_
        refine J_if_ne_y (tgt := 56) dX2_faultOf_48 (by decide) (by decide) ?_
        refine J_aload_n dX2_faultOf_56 rfl ?_
        refine J_iload_n dX2_faultOf_57 rfl ?_
        refine TC_X2_blanks (by decide) (Nat.le_of_ble_eq_true rfl) dX2_faultOf_58 ?_
        obtain ⟨o2, o3⟩ := mOne_ok h3 hm
        have hle2 := o2.1
        have hsb : s2.1 ≤ sk b n0 s2.1 ∧ sk b n0 s2.1 ≤ n0 := sc_b o2.1
        have hX2 := hX.eq e2 (by decide) (by decide)
        refine t_blanks hX2 ht hn0 hby _ _ _ hX2 P2.1 o2.1 (fun σ3 e3 A3 => ?_) (Nat.lt_succ_self _)
        refine J_rv ?_
        refine J_goto (tgt := 30) dX2_faultOf_61 (by decide) ?_
        exact ih (sk b n0 s2.1, s2.2) σ3 ((h1.trans e2).trans (e3.mono (by decide) (by decide))) ⟨A3, (e3.1 18 (by decide)).trans P2.2.1, (e3.1 19 (by decide)).trans P2.2.2.1, (e3.1 20 (by decide)).trans P2.2.2.2.1, (e3.1 21 (by decide)).trans P2.2.2.2.2.1, fun f k hf hk => (by rw [e3.2.1 22 (by decide)]; exact P2.2.2.2.2.2 f k hf hk)⟩ ⟨hsb.2, o2.2⟩ (fun p h => h4 p ((mPs_s (by omega) hm).trans h)) (fun s3 h => h5 s3 ((mPs_s (by omega) hm).trans h)) (fun s3 h => h6 s3 ((mPs_s (by omega) hm).trans h)) (by show n0 - sk b n0 s2.1 < n; omega)
      · refine J_ri ?_
        refine J_if_ne_n (tgt := 56) dX2_faultOf_48 (by decide) (by decide) ?_
        refine J_aload_n dX2_faultOf_51 rfl ?_
        refine TG_faultAt dX2_faultOf_52 ?_
        refine J_top (zI (p)) F2 ?_
        exact J_iret rfl dX2_faultOf_55 (by exact h4 p (mPs_e (by omega) hm) σ2 (h1.trans e2))
theorem t_faultOf {E : jEnv} {α : Nat → Nat} {σ : tS} {Q : Option Value → tS → Prop} {t n0 : Nat} {b : Nat → Int}  (hX : tTx t n0 b σ) (ht : t < 4) (hn0 : n0 ≤ 120) (hby : ∀ i, -128 ≤ b i ∧ b i ≤ 127) (q0 : ∀ p, mRead b n0 = .error p → ∀ σ1, tEq [13, 14, 15, 16, 17, 18, 19, 20, 21] [22] σ σ1 → Q (some (.int (zI (p : Nat)))) σ1) (q1 : ∀ s, mRead b n0 = .ok s → s.2.2.2.2.1 ≠ 0 → ∀ σ1, tEq [13, 14, 15, 16, 17, 18, 19, 20, 21] [22] σ σ1 → tPs s σ1 → pOK n0 s → Q (some (.int (zI (-9)))) σ1) : jX2_faultOf E α 0 [some (.ref (α 0)), some (.int (zI (t : Nat)))] [] σ Q := by
  refine J_aload_n dX2_faultOf_0 rfl ?_
  refine J_iconst (zI 0) dX2_faultOf_1 rfl ?_
  refine TP_readAt dX2_faultOf_2 ?_
  refine J_aload_n dX2_faultOf_5 rfl ?_
  refine J_iconst (zI 0) dX2_faultOf_6 rfl ?_
  refine TP_readWide dX2_faultOf_7 ?_
  refine J_aload_n dX2_faultOf_10 rfl ?_
  refine J_iconst (zI 0) dX2_faultOf_11 rfl ?_
  refine TP_readHigh dX2_faultOf_12 ?_
  refine J_aload_n dX2_faultOf_15 rfl ?_
  refine J_iconst (zI (-1)) dX2_faultOf_16 rfl ?_
  refine TP_readBleed dX2_faultOf_17 ?_
  refine J_aload_n dX2_faultOf_20 rfl ?_
  refine J_iconst (zI 0) dX2_faultOf_21 rfl ?_
  refine TP_readMany dX2_faultOf_22 ?_
  refine J_aload_n dX2_faultOf_25 rfl ?_
  refine J_iload_n dX2_faultOf_26 rfl ?_
  refine TC_X2_blanks (by decide) (Nat.le_of_ble_eq_true rfl) dX2_faultOf_27 ?_
  have hX5 := hX.eq (I := [13, 18, 19, 20, 21]) (A := []) (((((tEq.refl.sI (v := zI 0) (k := 13) (by decide)).sI (v := zI 0) (k := 18) (by decide)).sI (v := zI 0) (k := 19) (by decide)).sI (v := zI (-1)) (k := 20) (by decide)).sI (v := zI 0) (k := 21) (by decide)) (by decide) (by decide)
  refine t_blanks hX5 ht hn0 hby _ 0 _ hX5 rfl (by omega) (fun σ3 e3 A3 => ?_) (Nat.lt_succ_self _)
  have hsb : 0 ≤ sk b n0 0 ∧ sk b n0 0 ≤ n0 := sc_b (by omega)
  refine J_rv ?_
  exact tl_faultOf30 hX ht hn0 hby (n0 + 1) (sk b n0 0, 0, 0, -1, 0, fun _ _ => 0) σ3 ((by exact (((((tEq.refl.sI (by decide)).sI (by decide)).sI (by decide)).sI (by decide)).sI (by decide)) : tEq [13, 14, 15, 16, 17, 18, 19, 20, 21] [22] σ _).trans (e3.mono (by decide) (by decide))) ⟨A3, e3.1 18 (by decide), e3.1 19 (by decide), e3.1 20 (by decide), e3.1 21 (by decide), fun f k hf hk => absurd hf (by simp)⟩ ⟨hsb.2, by simp, Or.inl ⟨rfl, rfl, rfl⟩, by simp, by simp, fun f hf => absurd hf (by simp)⟩ (fun p h => q0 p (mRead_e h)) (fun s h h2 => q0 n0 (mRead_0 h h2)) (fun s h h2 => q1 s (mRead_1 h h2) h2) (by show n0 - sk b n0 0 < n0 + 1; omega)
theorem tDt.tx {rs : Nat → Int} {rd : Nat → Nat → Int32} {ts : Nat → Int} {tb : Nat → Nat → Int} {σ : tS} (h : tDt rs rd ts tb σ) {t n : Nat} (ht : t < 4) (hn : ts t = n) : tTx t n (tb t) σ := ⟨by rw [h.2.2.1 t ht, hn], fun i hi => h.2.2.2 t i ht (by omega)⟩
theorem t_fault_bad {E : jEnv} {α : Nat → Nat} {σ : tS} {Q : Option Value → tS → Prop} {v : Int} (rv : zR v) (hv : ¬ (0 ≤ v ∧ v ≤ 3)) (hq : Q (some (.int (zI (-1)))) σ) : jX2_fault E α 0 [some (.ref (α 0)), some (.int (zI (v)))] [] σ Q := by
  refine J_iload_n dX2_fault_0 rfl ?_
  refine TC_X2_isText (by decide) (Nat.le_of_ble_eq_true rfl) dX2_fault_1 ?_
  refine t_isText (by unfold zR at *; omega) (fun b1 => ?_) (fun b1 => ?_)
  · exfalso; omega
  · refine J_ri ?_
    refine J_if_ne_n (tgt := 11) dX2_fault_4 (by decide) (by decide) ?_
    refine J_iconst (zI (-1)) dX2_fault_7 rfl ?_
    refine J_goto (tgt := 33) dX2_fault_8 (by decide) ?_
    exact J_iret rfl dX2_fault_33 (by exact hq)
theorem t_fault_no {E : jEnv} {α : Nat → Nat} {σ : tS} {Q : Option Value → tS → Prop} {rs : Nat → Int} {rd : Nat → Nat → Int32} {ts : Nat → Int} {tb : Nat → Nat → Int} {t : Nat}  (hDt : tDt rs rd ts tb σ) (hDo : dtOK rs ts tb) (ht : t < 4) (h0 : ts t = -1) (hq : Q (some (.int (zI (-3)))) (setA (setI σ 1 (zI 1)) 2 (upd (σ.2.1 2) 1 (σ.2.1 2 1 + zI 1)))) : jX2_fault E α 0 [some (.ref (α 0)), some (.int (zI (t : Nat)))] [] σ Q := by
  refine J_iload_n dX2_fault_0 rfl ?_
  refine TC_X2_isText (by decide) (Nat.le_of_ble_eq_true rfl) dX2_fault_1 ?_
  refine t_isText (by unfold zR at *; omega) (fun b1 => ?_) (fun b1 => ?_)
  · refine J_ri ?_
    refine J_if_ne_y (tgt := 11) dX2_fault_4 (by decide) (by decide) ?_
    refine J_aload_n dX2_fault_11 rfl ?_
    refine TG_textSizes dX2_fault_12 ?_
    refine J_iload_n dX2_fault_15 rfl ?_
    refine TJ_iald 6 (t) ⟨rfl, rfl, by decide⟩ (by omega) (show t < 4 by omega) dX2_fault_16 ?_
    refine J_top (zI (ts t)) (hDt.2.2.1 t (by omega)) ?_
    refine J_if_ge_z (tgt := 28) dX2_fault_17 (by decide) (by unfold zR; omega) (fun c17 => ?_) (fun c17 => ?_)
    · exfalso; omega
    · skip
      refine J_aload_n dX2_fault_20 rfl ?_
      refine J_iconst (zI 1) dX2_fault_21 rfl ?_
      refine TC_X2_found (by decide) (Nat.le_of_ble_eq_true rfl) dX2_fault_22 ?_
      refine t_found (m := _) (by decide) ?_
      refine J_ri ?_
      refine J_goto (tgt := 33) dX2_fault_25 (by decide) ?_
      exact J_iret rfl dX2_fault_33 (by exact hq)
  · exfalso; omega
theorem t_fault {E : jEnv} {α : Nat → Nat} {σ : tS} {Q : Option Value → tS → Prop} {rs : Nat → Int} {rd : Nat → Nat → Int32} {ts : Nat → Int} {tb : Nat → Nat → Int} {t n0 : Nat}  (hDt : tDt rs rd ts tb σ) (hDo : dtOK rs ts tb) (ht : t < 4) (h0 : ts t = n0) (q0 : ∀ p, mRead (tb t) n0 = .error p → ∀ σ1, tEq [13, 14, 15, 16, 17, 18, 19, 20, 21] [22] σ σ1 → Q (some (.int (zI (p : Nat)))) σ1) (q1 : ∀ s, mRead (tb t) n0 = .ok s → ∀ σ1, tEq [13, 14, 15, 16, 17, 18, 19, 20, 21] [22] σ σ1 → Q (some (.int (zI (-9)))) σ1) : jX2_fault E α 0 [some (.ref (α 0)), some (.int (zI (t : Nat)))] [] σ Q := by
  have hnn := hDo.2.1 t ht
  refine J_iload_n dX2_fault_0 rfl ?_
  refine TC_X2_isText (by decide) (Nat.le_of_ble_eq_true rfl) dX2_fault_1 ?_
  refine t_isText (by unfold zR at *; omega) (fun b1 => ?_) (fun b1 => ?_)
  · refine J_ri ?_
    refine J_if_ne_y (tgt := 11) dX2_fault_4 (by decide) (by decide) ?_
    refine J_aload_n dX2_fault_11 rfl ?_
    refine TG_textSizes dX2_fault_12 ?_
    refine J_iload_n dX2_fault_15 rfl ?_
    refine TJ_iald 6 (t) ⟨rfl, rfl, by decide⟩ (by omega) (show t < 4 by omega) dX2_fault_16 ?_
    refine J_top (zI (n0)) ((by rw [← h0]; exact hDt.2.2.1 t ht)) ?_
    refine J_if_ge_z (tgt := 28) dX2_fault_17 (by decide) (by unfold zR; omega) (fun c17 => ?_) (fun c17 => ?_)
    · skip
      refine J_aload_n dX2_fault_28 rfl ?_
      refine J_iload_n dX2_fault_29 rfl ?_
      refine TC_X2_faultOf (by decide) (Nat.le_of_ble_eq_true rfl) dX2_fault_30 ?_
      refine t_faultOf (hDt.tx ht h0) ht (by omega) (hDo.2.2 t)  (fun p hm σ1 e1 => ?_) (fun s hm hz σ1 e1 P1 o1 => ?_)
      · refine J_ri ?_
        exact J_iret rfl dX2_fault_33 (by exact q0 p hm σ1 e1)
      · refine J_ri ?_
        exact J_iret rfl dX2_fault_33 (by exact q1 s hm σ1 e1)
    · exfalso; omega
  · exfalso; omega
