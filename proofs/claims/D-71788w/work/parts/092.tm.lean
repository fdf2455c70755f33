set_option maxRecDepth 100000
/-! the twin: statements -/
theorem t_fails {E : jEnv} {α : Nat → Nat} {σ : tS} {Q : Option Value → tS → Prop} {p : Nat} (hT : σ.1 14 = zI p) (hq : Q (some (.int (zI 0))) (setI σ 17 (zI p))) : jX2_fails E α 0 [some (.ref (α 0))] [] σ Q := by
  refine J_aload_n dX2_fails_0 rfl ?_
  refine J_aload_n dX2_fails_1 rfl ?_
  refine TG_tokenAt dX2_fails_2 ?_
  refine J_top (zI (p)) hT ?_
  refine TP_faultAt dX2_fails_5 ?_
  refine J_iconst (zI 0) dX2_fails_8 rfl ?_
  exact J_zret rfl dX2_fails_9 rfl (by exact hq)
theorem t_number {E : jEnv} {α : Nat → Nat} {σ : tS} {Q : Option Value → tS → Prop} {t n0 : Nat} {b : Nat → Int} {a : Nat} {lo hi : Int} (hX : tTx t n0 b σ) (ht : t < 4) (hn0 : n0 ≤ 120) (hby : ∀ i, -128 ≤ b i ∧ b i ≤ 127) (hA : σ.1 13 = zI a) (ha : a ≤ n0) (hl : 0 ≤ lo ∧ hi ≤ 100 ∧ lo ≤ 100 ∧ 0 ≤ hi) (q1 : ∀ v e, mNum b n0 lo hi a = .ok (v, e) → ∀ σ1, tEq [13, 14, 15, 16, 17] [] σ σ1 → σ1.1 13 = zI (e : Nat) → σ1.1 16 = zI v → σ1.1 14 = zI (sk b n0 a : Nat) → Q (some (.int (zI 1))) σ1) (q0 : ∀ p, mNum b n0 lo hi a = .error p → ∀ σ1, tEq [13, 14, 15, 16, 17] [] σ σ1 → σ1.1 17 = zI (p : Nat) → Q (some (.int (zI 0))) σ1) : jX2_number E α 0 [some (.ref (α 0)), some (.int (zI (t : Nat))), some (.int (zI (lo))), some (.int (zI (hi)))] [] σ Q := by
  refine J_aload_n dX2_number_0 rfl ?_
  refine J_iload_n dX2_number_1 rfl ?_
  refine TC_X2_next (by decide) (Nat.le_of_ble_eq_true rfl) dX2_number_2 ?_
  refine t_next hX ht hn0 hby hA (by omega) (fun σ1 tk e v e1 T1 K1 A1 V1 R1 => ?_)
  have hsb : a ≤ sk b n0 a ∧ sk b n0 a ≤ n0 := sc_b ha
  have htk := tkR_b R1 hsb.2
  refine J_rv ?_
  refine J_aload_n dX2_number_5 rfl ?_
  refine TG_token dX2_number_6 ?_
  refine J_top (zI (tk)) K1 ?_
  refine J_iconst (zI 2) dX2_number_9 rfl ?_
  refine J_icmp_ne_z (tgt := 25) dX2_number_10 (by decide) (by unfold zR; omega) (by unfold zR; omega) (fun c10 => ?_) (fun c10 => ?_)
  · skip
    refine J_aload_n dX2_number_25 rfl ?_
    refine TC_X2_fails (by decide) (Nat.le_of_ble_eq_true rfl) dX2_number_26 ?_
    refine t_fails T1 ?_
    refine J_ri ?_
    refine J_if_eq_y (tgt := 36) dX2_number_29 (by decide) (by decide) ?_
    refine J_iconst (zI 0) dX2_number_36 rfl ?_
    exact J_zret rfl dX2_number_37 rfl (by first | exact q1 v e (mNum_y R1 c10 b19) σ1 (e1.mono (by decide) (by decide)) A1 (V1 c10) T1 | exact q0 _ (mNum_n ha R1 (by omega)) _ ((e1.mono (by decide) (by decide)).sI (by decide)) rfl)
  · skip
    have hv := htk.2.2.2.2 c10
    refine J_aload_n dX2_number_13 rfl ?_
    refine TG_value dX2_number_14 ?_
    refine J_top (zI (v)) (V1 c10) ?_
    refine J_iload_n dX2_number_17 rfl ?_
    refine J_iload_n dX2_number_18 rfl ?_
    refine TC_X2_in (by decide) (Nat.le_of_ble_eq_true rfl) dX2_number_19 ?_
    refine t_in (by unfold zR; omega) (by unfold zR; omega) (by unfold zR; omega) (fun b19 => ?_) (fun b19 => ?_)
    · refine J_ri ?_
      refine J_if_ne_y (tgt := 32) dX2_number_22 (by decide) (by decide) ?_
      refine J_iconst (zI 1) dX2_number_32 rfl ?_
      refine J_goto (tgt := 37) dX2_number_33 (by decide) ?_
      exact J_zret rfl dX2_number_37 rfl (by first | exact q1 v e (mNum_y R1 c10 b19) σ1 (e1.mono (by decide) (by decide)) A1 (V1 c10) T1 | exact q0 _ (mNum_n ha R1 (by omega)) _ ((e1.mono (by decide) (by decide)).sI (by decide)) rfl)
    · refine J_ri ?_
      refine J_if_ne_n (tgt := 32) dX2_number_22 (by decide) (by decide) ?_
      refine J_aload_n dX2_number_25 rfl ?_
      refine TC_X2_fails (by decide) (Nat.le_of_ble_eq_true rfl) dX2_number_26 ?_
      refine t_fails T1 ?_
      refine J_ri ?_
      refine J_if_eq_y (tgt := 36) dX2_number_29 (by decide) (by decide) ?_
      refine J_iconst (zI 0) dX2_number_36 rfl ?_
      exact J_zret rfl dX2_number_37 rfl (by first | exact q1 v e (mNum_y R1 c10 b19) σ1 (e1.mono (by decide) (by decide)) A1 (V1 c10) T1 | exact q0 _ (mNum_n ha R1 (by omega)) _ ((e1.mono (by decide) (by decide)).sI (by decide)) rfl)
theorem t_ends {E : jEnv} {α : Nat → Nat} {σ : tS} {Q : Option Value → tS → Prop} {t n0 : Nat} {b : Nat → Int} {a : Nat} (hX : tTx t n0 b σ) (ht : t < 4) (hn0 : n0 ≤ 120) (hby : ∀ i, -128 ≤ b i ∧ b i ≤ 127) (hA : σ.1 13 = zI a) (ha : a ≤ n0) (q1 : ∀ e, mEnd b n0 a = .ok e → ∀ σ1, tEq [13, 14, 15, 16, 17] [] σ σ1 → σ1.1 13 = zI (e : Nat) → Q (some (.int (zI 1))) σ1) (q0 : ∀ p, mEnd b n0 a = .error p → ∀ σ1, tEq [13, 14, 15, 16, 17] [] σ σ1 → σ1.1 17 = zI (p : Nat) → Q (some (.int (zI 0))) σ1) : jX2_ends E α 0 [some (.ref (α 0)), some (.int (zI (t : Nat)))] [] σ Q := by
  refine J_aload_n dX2_ends_0 rfl ?_
  refine J_iload_n dX2_ends_1 rfl ?_
  refine TC_X2_next (by decide) (Nat.le_of_ble_eq_true rfl) dX2_ends_2 ?_
  refine t_next hX ht hn0 hby hA (by omega) (fun σ1 tk e v e1 T1 K1 A1 V1 R1 => ?_)
  have hsb : a ≤ sk b n0 a ∧ sk b n0 a ≤ n0 := sc_b ha
  have htk := tkR_b R1 hsb.2
  refine J_rv ?_
  refine J_aload_n dX2_ends_5 rfl ?_
  refine TG_token dX2_ends_6 ?_
  refine J_top (zI (tk)) K1 ?_
  refine J_iconst (zI 3) dX2_ends_9 rfl ?_
  refine J_icmp_eq_z (tgt := 20) dX2_ends_10 (by decide) (by unfold zR; omega) (by unfold zR; omega) (fun c10 => ?_) (fun c10 => ?_)
  · skip
    refine J_iconst (zI 1) dX2_ends_20 rfl ?_
    refine J_goto (tgt := 25) dX2_ends_21 (by decide) ?_
    exact J_zret rfl dX2_ends_25 rfl (by first | exact q1 e (mEnd_y R1 c10) σ1 (e1.mono (by decide) (by decide)) A1 | exact q0 _ (mEnd_n R1 c10) _ ((e1.mono (by decide) (by decide)).sI (by decide)) rfl)
  · skip
    refine J_aload_n dX2_ends_13 rfl ?_
    refine TC_X2_fails (by decide) (Nat.le_of_ble_eq_true rfl) dX2_ends_14 ?_
    refine t_fails T1 ?_
    refine J_ri ?_
    refine J_if_eq_y (tgt := 24) dX2_ends_17 (by decide) (by decide) ?_
    refine J_iconst (zI 0) dX2_ends_24 rfl ?_
    exact J_zret rfl dX2_ends_25 rfl (by first | exact q1 e (mEnd_y R1 c10) σ1 (e1.mono (by decide) (by decide)) A1 | exact q0 _ (mEnd_n R1 c10) _ ((e1.mono (by decide) (by decide)).sI (by decide)) rfl)
/-- what is read so far -/
def tPs (s : pS) (σ : tS) : Prop := σ.1 13 = zI (s.1 : Nat) ∧ σ.1 18 = zI s.2.1 ∧ σ.1 19 = zI s.2.2.1 ∧ σ.1 20 = zI s.2.2.2.1 ∧ σ.1 21 = zI (s.2.2.2.2.1 : Nat) ∧ ∀ f k, f < s.2.2.2.2.1 → k < 7 → σ.2.1 22 (7 * f + k) = zI (s.2.2.2.2.2 f k)
theorem tPs.eq {s : pS} {σ σ' : tS} (h : tPs s σ) {I A : List Nat} (e : tEq I A σ σ') (h1 : 13 ∉ I) (h2 : 18 ∉ I) (h3 : 19 ∉ I) (h4 : 20 ∉ I) (h5 : 21 ∉ I) (h6 : 22 ∉ A) : tPs s σ' := ⟨(e.1 _ h1).trans h.1, (e.1 _ h2).trans h.2.1, (e.1 _ h3).trans h.2.2.1, (e.1 _ h4).trans h.2.2.2.1, (e.1 _ h5).trans h.2.2.2.2.1, fun f k hf hk => by rw [e.2.1 _ h6]; exact h.2.2.2.2.2 f k hf hk⟩
/-- all but the place -/
def tPr (s : pS) (σ : tS) : Prop := σ.1 18 = zI s.2.1 ∧ σ.1 19 = zI s.2.2.1 ∧ σ.1 20 = zI s.2.2.2.1 ∧ σ.1 21 = zI (s.2.2.2.2.1 : Nat) ∧ ∀ f k, f < s.2.2.2.2.1 → k < 7 → σ.2.1 22 (7 * f + k) = zI (s.2.2.2.2.2 f k)
theorem tPr.eq {s : pS} {σ σ' : tS} (h : tPr s σ) {I A : List Nat} (e : tEq I A σ σ') (h2 : 18 ∉ I) (h3 : 19 ∉ I) (h4 : 20 ∉ I) (h5 : 21 ∉ I) (h6 : 22 ∉ A) : tPr s σ' := ⟨(e.1 _ h2).trans h.1, (e.1 _ h3).trans h.2.1, (e.1 _ h4).trans h.2.2.1, (e.1 _ h5).trans h.2.2.2.1, fun f k hf hk => by rw [e.2.1 _ h6]; exact h.2.2.2.2 f k hf hk⟩
theorem t_readsPage {E : jEnv} {α : Nat → Nat} {σ : tS} {Q : Option Value → tS → Prop} {t n0 : Nat} {b : Nat → Int} {s0 : pS} {a : Nat} (hX : tTx t n0 b σ) (ht : t < 4) (hn0 : n0 ≤ 120) (hby : ∀ i, -128 ≤ b i ∧ b i ≤ 127) (hA : σ.1 13 = zI a) (ha : a ≤ n0) (hR : tPr s0 σ) (q1 : ∀ s, mPgS b n0 a s0 = .ok s → ∀ σ1, tEq [13, 14, 15, 16, 17, 18, 19, 20, 21] [22] σ σ1 → tPs s σ1 → Q (some (.int (zI 1))) σ1) (q0 : ∀ p, mPgS b n0 a s0 = .error p → ∀ σ1, tEq [13, 14, 15, 16, 17, 18, 19, 20, 21] [22] σ σ1 → σ1.1 17 = zI (p : Nat) → Q (some (.int (zI 0))) σ1) : jX2_readsPage E α 0 [some (.ref (α 0)), some (.int (zI (t : Nat)))] [] σ Q := by
  refine J_aload_n dX2_readsPage_0 rfl ?_
  refine J_iload_n dX2_readsPage_1 rfl ?_
  refine J_iconst (zI 4) dX2_readsPage_2 rfl ?_
  refine J_bipush (zI 16) dX2_readsPage_3 rfl ?_
  refine TC_X2_number (by decide) (Nat.le_of_ble_eq_true rfl) dX2_readsPage_5 ?_
  refine t_number hX ht hn0 hby hA ha (by omega)  (fun v e hm σ1 e1 A1 V1 T1 => ?_) (fun p hm σ1 e1 F1 => ?_)
  · refine J_ri ?_
    have hb := mNum_b ha hm
    have hX := (hX.eq e1 (by decide) (by decide)).eq (tEq.refl.sI (I := [18]) (A := []) (k := 18) (v := zI v) (by decide)) (by decide) (by decide)
    refine J_if_ne_y (tgt := 13) dX2_readsPage_8 (by decide) (by decide) ?_
    refine J_aload_n dX2_readsPage_13 rfl ?_
    refine J_aload_n dX2_readsPage_14 rfl ?_
    refine TG_value dX2_readsPage_15 ?_
    refine J_top (zI (v)) V1 ?_
    refine TP_readWide dX2_readsPage_18 ?_
    refine J_aload_n dX2_readsPage_21 rfl ?_
    refine J_iload_n dX2_readsPage_22 rfl ?_
    refine J_iconst (zI 4) dX2_readsPage_23 rfl ?_
    refine J_bipush (zI 16) dX2_readsPage_24 rfl ?_
    refine TC_X2_number (by decide) (Nat.le_of_ble_eq_true rfl) dX2_readsPage_26 ?_
    refine t_number hX ht hn0 hby A1 (by omega) (by omega)  (fun v2 e2 hm2 σ2 g2 A2 V2 T2 => ?_) (fun p hm2 σ2 g2 F2 => ?_)
    · refine J_ri ?_
      have hb2 := mNum_b hb.2.2.2 hm2
      have hX := (hX.eq g2 (by decide) (by decide)).eq (tEq.refl.sI (I := [19]) (A := []) (k := 19) (v := zI v2) (by decide)) (by decide) (by decide)
      refine J_if_ne_y (tgt := 34) dX2_readsPage_29 (by decide) (by decide) ?_
      refine J_aload_n dX2_readsPage_34 rfl ?_
      refine J_aload_n dX2_readsPage_35 rfl ?_
      refine TG_value dX2_readsPage_36 ?_
      refine J_top (zI v2) V2 ?_
      refine TP_readHigh dX2_readsPage_39 ?_
      refine J_aload_n dX2_readsPage_42 rfl ?_
      refine J_iload_n dX2_readsPage_43 rfl ?_
      refine TC_X2_ends (by decide) (Nat.le_of_ble_eq_true rfl) dX2_readsPage_44 ?_
      refine t_ends hX ht hn0 hby A2 (by omega)  (fun e3 hm3 σ3 g3 A3 => ?_) (fun p hm3 σ3 g3 F3 => ?_)
      · refine J_ri ?_
        exact J_zret rfl dX2_readsPage_47 rfl (by exact q1 _ (mPgS_3 hm hm2 hm3) σ3 (((((e1.mono (by decide) (by decide)).sI (by decide)).trans (g2.mono (by decide) (by decide))).sI (by decide)).trans (g3.mono (by decide) (by decide))) ⟨A3, (g3.1 18 (by decide)).trans (g2.1 18 (by decide)), g3.1 19 (by decide), (g3.1 20 (by decide)).trans ((g2.1 20 (by decide)).trans ((e1.1 20 (by decide)).trans hR.2.2.1)), (g3.1 21 (by decide)).trans ((g2.1 21 (by decide)).trans ((e1.1 21 (by decide)).trans hR.2.2.2.1)), fun f k hf hk => (by rw [g3.2.1 22 (by decide)]; show σ2.2.1 22 _ = _; rw [g2.2.1 22 (by decide)]; show σ1.2.1 22 _ = _; rw [e1.2.1 22 (by decide)]; exact hR.2.2.2.2 f k hf hk)⟩)
      · refine J_ri ?_
        exact J_zret rfl dX2_readsPage_47 rfl (by exact q0 p (mPgS_2 hm hm2 hm3) σ3 (((((e1.mono (by decide) (by decide)).sI (by decide)).trans (g2.mono (by decide) (by decide))).sI (by decide)).trans (g3.mono (by decide) (by decide))) F3)
    · refine J_ri ?_
      refine J_if_ne_n (tgt := 34) dX2_readsPage_29 (by decide) (by decide) ?_
      refine J_iconst (zI 0) dX2_readsPage_32 rfl ?_
      exact J_zret rfl dX2_readsPage_33 rfl (by exact q0 p (mPgS_1 hm hm2) σ2 (((e1.mono (by decide) (by decide)).sI (by decide)).trans (g2.mono (by decide) (by decide))) F2)
  · refine J_ri ?_
    refine J_if_ne_n (tgt := 13) dX2_readsPage_8 (by decide) (by decide) ?_
    refine J_iconst (zI 0) dX2_readsPage_11 rfl ?_
    exact J_zret rfl dX2_readsPage_12 rfl (by exact q0 p (mPgS_0 hm) σ1 (e1.mono (by decide) (by decide)) F1)
theorem t_readsBleed {E : jEnv} {α : Nat → Nat} {σ : tS} {Q : Option Value → tS → Prop} {t n0 : Nat} {b : Nat → Int} {s0 : pS} {a p0 : Nat} (hX : tTx t n0 b σ) (ht : t < 4) (hn0 : n0 ≤ 120) (hby : ∀ i, -128 ≤ b i ∧ b i ≤ 127) (hA : σ.1 13 = zI a) (ha : a ≤ n0) (hR : tPr s0 σ) (hbl : -1 ≤ s0.2.2.2.1 ∧ s0.2.2.2.1 ≤ 2) (hT : σ.1 14 = zI p0) (q1 : ∀ s, mBlS b n0 p0 a s0 = .ok s → ∀ σ1, tEq [13, 14, 15, 16, 17, 18, 19, 20, 21] [22] σ σ1 → tPs s σ1 → Q (some (.int (zI 1))) σ1) (q0 : ∀ p, mBlS b n0 p0 a s0 = .error p → ∀ σ1, tEq [13, 14, 15, 16, 17, 18, 19, 20, 21] [22] σ σ1 → σ1.1 17 = zI (p : Nat) → Q (some (.int (zI 0))) σ1) : jX2_readsBleed E α 0 [some (.ref (α 0)), some (.int (zI (t : Nat)))] [] σ Q := by
  refine J_aload_n dX2_readsBleed_0 rfl ?_
  refine TG_readBleed dX2_readsBleed_1 ?_
  refine J_top (zI (s0.2.2.2.1)) hR.2.2.1 ?_
  refine J_if_lt_z (tgt := 12) dX2_readsBleed_4 (by decide) (by unfold zR; omega) (fun c4 => ?_) (fun c4 => ?_)
  · skip
    refine J_aload_n dX2_readsBleed_12 rfl ?_
    refine J_iload_n dX2_readsBleed_13 rfl ?_
    refine J_iconst (zI 0) dX2_readsBleed_14 rfl ?_
    refine J_iconst (zI 2) dX2_readsBleed_15 rfl ?_
    refine TC_X2_number (by decide) (Nat.le_of_ble_eq_true rfl) dX2_readsBleed_16 ?_
    refine t_number hX ht hn0 hby hA ha (by omega)  (fun v e hm σ1 e1 A1 V1 T1 => ?_) (fun p hm σ1 e1 F1 => ?_)
    · refine J_ri ?_
      have hb := mNum_b ha hm
      have hX := (hX.eq e1 (by decide) (by decide)).eq (tEq.refl.sI (I := [20]) (A := []) (k := 20) (v := zI v) (by decide)) (by decide) (by decide)
      refine J_if_ne_y (tgt := 24) dX2_readsBleed_19 (by decide) (by decide) ?_
      refine J_aload_n dX2_readsBleed_24 rfl ?_
      refine J_aload_n dX2_readsBleed_25 rfl ?_
      refine TG_value dX2_readsBleed_26 ?_
      refine J_top (zI (v)) V1 ?_
      refine TP_readBleed dX2_readsBleed_29 ?_
      refine J_aload_n dX2_readsBleed_32 rfl ?_
      refine J_iload_n dX2_readsBleed_33 rfl ?_
      refine TC_X2_ends (by decide) (Nat.le_of_ble_eq_true rfl) dX2_readsBleed_34 ?_
      refine t_ends hX ht hn0 hby A1 (by omega)  (fun e3 hm3 σ3 g3 A3 => ?_) (fun p hm3 σ3 g3 F3 => ?_)
      · refine J_ri ?_
        exact J_zret rfl dX2_readsBleed_37 rfl (by exact q1 _ (mBlS_2 (by omega) hm hm3) σ3 (((e1.mono (by decide) (by decide)).sI (by decide)).trans (g3.mono (by decide) (by decide))) ⟨A3, (g3.1 18 (by decide)).trans ((e1.1 18 (by decide)).trans hR.1), (g3.1 19 (by decide)).trans ((e1.1 19 (by decide)).trans hR.2.1), g3.1 20 (by decide), (g3.1 21 (by decide)).trans ((e1.1 21 (by decide)).trans hR.2.2.2.1), fun f k hf hk => (by rw [g3.2.1 22 (by decide)]; show σ1.2.1 22 _ = _; rw [e1.2.1 22 (by decide)]; exact hR.2.2.2.2 f k hf hk)⟩)
      · refine J_ri ?_
        exact J_zret rfl dX2_readsBleed_37 rfl (by exact q0 p (mBlS_1 (by omega) hm hm3) σ3 (((e1.mono (by decide) (by decide)).sI (by decide)).trans (g3.mono (by decide) (by decide))) F3)
    · refine J_ri ?_
      refine J_if_ne_n (tgt := 24) dX2_readsBleed_19 (by decide) (by decide) ?_
      refine J_iconst (zI 0) dX2_readsBleed_22 rfl ?_
      exact J_zret rfl dX2_readsBleed_23 rfl (by exact q0 p (mBlS_0 (by omega) hm) σ1 (e1.mono (by decide) (by decide)) F1)
  · skip
    refine J_aload_n dX2_readsBleed_7 rfl ?_
    refine TC_X2_fails (by decide) (Nat.le_of_ble_eq_true rfl) dX2_readsBleed_8 ?_
    refine t_fails hT ?_
    refine J_ri ?_
    exact J_zret rfl dX2_readsBleed_11 rfl (by exact q0 p0 (mBlS_t (by omega)) _ (tEq.refl.sI (by decide)) rfl)
