set_option maxRecDepth 100000
/-! the twin: deeds -/
def tLg (dm : Nat) (H : Nat → mPl) (σ : tS) : Prop := σ.1 36 = zI dm ∧ ∀ d, d < dm → tRow (σ.2.1 37) (33 * d) (H d)
def tKp (kc : Nat → Int) (KH : Nat → Nat → mPl) (KN : Nat → mPl) (σ : tS) : Prop := ∀ k, k < 3 → σ.2.1 38 k = zI (kc k) ∧ (0 ≤ kc k → tRow (σ.2.1 39) (1353 * k) (KN k) ∧ ∀ d : Nat, (d : Int) < kc k → tRow (σ.2.1 39) (1353 * k + 33 + 33 * d) (KH k d))
theorem tPl.row {P : Nat → Nat → Int} {rule : Int} {σ : tS} (h : tPl P rule σ) : tRow (σ.2.1 23) 0 (P, rule) := ⟨fun f k hf hk => by rw [Nat.zero_add]; exact h.1 f k hf hk, by rw [Nat.zero_add]; exact h.2⟩
theorem tRow.pl {p : mPl} {σ : tS} (h : tRow (σ.2.1 23) 0 p) : tPl p.1 p.2 σ := ⟨fun f k hf hk => by have := h.1 f k hf hk; rwa [Nat.zero_add] at this, by have := h.2; rwa [Nat.zero_add] at this⟩
theorem tLg.eq {dm : Nat} {H : Nat → mPl} {σ σ' : tS} (h : tLg dm H σ) {I A : List Nat} (e : tEq I A σ σ') (h1 : 36 ∉ I) (h2 : 37 ∉ A) : tLg dm H σ' := ⟨(e.1 _ h1).trans h.1, fun d hd => by rw [e.2.1 _ h2]; exact h.2 d hd⟩
theorem tKp.eq {kc : Nat → Int} {KH : Nat → Nat → mPl} {KN : Nat → mPl} {σ σ' : tS} (h : tKp kc KH KN σ) {I A : List Nat} (e : tEq I A σ σ') (h1 : 38 ∉ A) (h2 : 39 ∉ A) : tKp kc KH KN σ' := fun k hk => by rw [e.2.1 _ h1, e.2.1 _ h2]; exact h k hk
theorem tl_remember2 {E : jEnv} {α : Nat → Nat} {σ : tS} {Q : Option Value → tS → Prop} {dm : Nat} (hD : σ.1 36 = zI dm) (hd : dm < 40) (hq : ∀ σ1, tEq [36] [37] σ σ1 → σ1.1 36 = zI (dm + 1) → σ1.2.1 37 = va_cpy (σ.2.1 23) (σ.2.1 37) 0 (33 * dm) 33 → Q none σ1) : ∀ (n : Nat) (i : Nat) (σ1 : tS), i ≤ 33 → tEq [] [37] σ σ1 → σ1.2.1 37 = va_cpy (σ.2.1 23) (σ.2.1 37) (0) (33 * dm) i → 33 - i < n → jX2_remember E α 2 [some (.ref (α 0)), some (.int (zI (i : Nat)))] [] σ1 Q := by
  intro n
  induction n with
  | zero => intro i σ1 h1 h2 h3 hn; exact absurd hn (Nat.not_lt_zero _)
  | succ n ih =>
    intro i σ1 h1 h2 h3 hn
    refine J_iload_n dX2_remember_2 rfl ?_
    refine J_bipush (zI 33) dX2_remember_3 rfl ?_
    refine J_icmp_ge_z (tgt := 34) dX2_remember_5 (by decide) (by unfold zR; omega) (by unfold zR; omega) (fun c5 => ?_) (fun c5 => ?_)
    · skip
      obtain rfl : i = 33 := by omega
      refine J_aload_n dX2_remember_34 rfl ?_
      refine J_dup dX2_remember_35 rfl ?_
      refine TG_deedMany dX2_remember_36 ?_
      refine J_top (zI (dm)) ((h2.1 36 (by decide)).trans hD) ?_
      refine J_iconst (zI 1) dX2_remember_39 rfl ?_
      refine J_iadd_z dX2_remember_40 ?_
      refine TP_deedMany dX2_remember_41 ?_
      exact J_vret rfl dX2_remember_44 (by exact hq _ ((h2.mono (by decide) (by decide)).sI (by decide)) rfl h3)
    · skip
      refine J_aload_n dX2_remember_8 rfl ?_
      refine TG_log dX2_remember_9 ?_
      refine J_bipush (zI 33) dX2_remember_12 rfl ?_
      refine J_aload_n dX2_remember_14 rfl ?_
      refine TG_deedMany dX2_remember_15 ?_
      refine J_top (zI (dm)) ((h2.1 36 (by decide)).trans hD) ?_
      refine J_imul_z dX2_remember_18 ?_
      refine J_iload_n dX2_remember_19 rfl ?_
      refine J_iadd_z dX2_remember_20 ?_
      refine J_aload_n dX2_remember_21 rfl ?_
      refine TG_now dX2_remember_22 ?_
      refine J_iload_n dX2_remember_25 rfl ?_
      refine TJ_iald 23 (i) ⟨rfl, rfl, by decide⟩ (by omega) (show i < 33 by omega) dX2_remember_26 ?_
      refine TJ_iast 37 (((33 * dm) + i)) ⟨rfl, rfl, by decide⟩ (by omega) (show ((33 * dm) + i) < 1320 by omega) dX2_remember_27 ?_
      refine J_iinc_z ((((i + 1)) : Nat) : Int) (by omega) dX2_remember_28 rfl rfl (by decide) _ rfl ?_
      refine J_goto (tgt := 2) dX2_remember_31 (by decide) ?_
      exact ih (i + 1) _ (by omega) (h2.sA (by decide)) (by exact cpy_stepE h3 (h2.2.1 23 (by decide)) (by omega) (by omega)) (by omega)
theorem t_remember {E : jEnv} {α : Nat → Nat} {σ : tS} {Q : Option Value → tS → Prop} {P : Nat → Nat → Int} {rule : Int} {dm : Nat} {H : Nat → mPl}  (hP : tPl P rule σ) (hL : tLg dm H σ) (hd : dm < 40) (hq : ∀ σ1, tEq [36] [37] σ σ1 → tLg (dm + 1) (updH H dm (P, rule)) σ1 → Q none σ1) : jX2_remember E α 0 [some (.ref (α 0)), none] [] σ Q := by
  refine J_iconst (zI 0) dX2_remember_0 rfl ?_
  refine J_istore_n dX2_remember_1 rfl (by decide) _ rfl ?_
  exact tl_remember2 hL.1 hd (fun σ1 e1 e2 e3 => hq σ1 e1 ⟨by rw [e2]; rfl, fun d hd2 => by
      rw [e3, updH]
      by_cases z : d = dm
      · subst z
        rw [if_pos rfl]
        have := hP.row.cpy (d := σ.2.1 37) (o1 := 33 * d) (n := 33) (m := 0) (o2 := 0) (by omega)
        exact this
      · rw [if_neg z]
        exact (hL.2 d (by omega)).out (by omega)⟩) _ 0 σ (by omega) tEq.refl cpy_0 (Nat.lt_succ_self _)
theorem t_undo_bad {E : jEnv} {α : Nat → Nat} {σ : tS} {Q : Option Value → tS → Prop} {dm : Nat} {H : Nat → mPl} {n : Int} (hL : tLg dm H σ) (hd : dm ≤ 40) (rn : zR n) (hn : ¬ (0 ≤ n ∧ n ≤ dm)) (hq : Q (some (.int (zI (-1)))) σ) : jX2_undo E α 0 [some (.ref (α 0)), some (.int (zI (n))), none, none] [] σ Q := by
  refine J_iload_n dX2_undo_0 rfl ?_
  refine J_iconst (zI 0) dX2_undo_1 rfl ?_
  refine J_aload_n dX2_undo_2 rfl ?_
  refine TG_deedMany dX2_undo_3 ?_
  refine J_top (zI (dm)) hL.1 ?_
  refine TC_X2_in (by decide) (Nat.le_of_ble_eq_true rfl) dX2_undo_6 ?_
  refine t_in (by unfold zR at *; omega) (by unfold zR at *; omega) (by unfold zR at *; omega) (fun b6 => ?_) (fun b6 => ?_)
  · exfalso; omega
  · refine J_ri ?_
    refine J_if_ne_n (tgt := 14) dX2_undo_9 (by decide) (by decide) ?_
    refine J_iconst (zI (-1)) dX2_undo_12 rfl ?_
    exact J_iret rfl dX2_undo_13 (by exact hq)
theorem tl_undo23 {E : jEnv} {α : Nat → Nat} {σ : tS} {Q : Option Value → tS → Prop} {dm m : Nat} (hm : m < dm) (hd : dm ≤ 40) (hq : ∀ σ1, tEq [36] [23] σ σ1 → σ1.1 36 = zI m → σ1.2.1 23 = va_cpy (σ.2.1 37) (σ.2.1 23) (33 * m) 0 33 → Q (some (.int (zI (dm - m)))) σ1) : ∀ (n : Nat) (i : Nat) (σ1 : tS), i ≤ 33 → tEq [] [23] σ σ1 → σ1.2.1 23 = va_cpy (σ.2.1 37) (σ.2.1 23) (33 * m) (0) i → 33 - i < n → jX2_undo E α 23 [some (.ref (α 0)), some (.int (zI (m : Nat))), some (.int (zI (dm - m))), some (.int (zI (i : Nat)))] [] σ1 Q := by
  intro n
  induction n with
  | zero => intro i σ1 h1 h2 h3 hn; exact absurd hn (Nat.not_lt_zero _)
  | succ n ih =>
    intro i σ1 h1 h2 h3 hn
    refine J_iload_n dX2_undo_23 rfl ?_
    refine J_bipush (zI 33) dX2_undo_24 rfl ?_
    refine J_icmp_ge_z (tgt := 56) dX2_undo_26 (by decide) (by unfold zR; omega) (by unfold zR; omega) (fun c26 => ?_) (fun c26 => ?_)
    · skip
      obtain rfl : i = 33 := by omega
      refine J_aload_n dX2_undo_56 rfl ?_
      refine J_iload_n dX2_undo_57 rfl ?_
      refine TP_deedMany dX2_undo_58 ?_
      refine J_iload_n dX2_undo_61 rfl ?_
      exact J_iret rfl dX2_undo_62 (by exact hq _ ((h2.mono (by decide) (by decide)).sI (by decide)) rfl h3)
    · skip
      refine J_iload_n dX2_undo_29 rfl ?_
      refine J_if_le_z (tgt := 56) dX2_undo_30 (by decide) (by unfold zR; omega) (fun c30 => ?_) (fun c30 => ?_)
      · exfalso; omega
      · skip
        refine J_aload_n dX2_undo_33 rfl ?_
        refine TG_now dX2_undo_34 ?_
        refine J_iload_n dX2_undo_37 rfl ?_
        refine J_aload_n dX2_undo_38 rfl ?_
        refine TG_log dX2_undo_39 ?_
        refine J_bipush (zI 33) dX2_undo_42 rfl ?_
        refine J_iload_n dX2_undo_44 rfl ?_
        refine J_imul_z dX2_undo_45 ?_
        refine J_iload_n dX2_undo_46 rfl ?_
        refine J_iadd_z dX2_undo_47 ?_
        refine TJ_iald 37 (((33 * m) + i)) ⟨rfl, rfl, by decide⟩ (by omega) (show ((33 * m) + i) < 1320 by omega) dX2_undo_48 ?_
        refine TJ_iast 23 (i) ⟨rfl, rfl, by decide⟩ (by omega) (show i < 33 by omega) dX2_undo_49 ?_
        refine J_iinc_z ((((i + 1)) : Nat) : Int) (by omega) dX2_undo_50 rfl rfl (by decide) _ rfl ?_
        refine J_goto (tgt := 23) dX2_undo_53 (by decide) ?_
        exact ih (i + 1) _ (by omega) (h2.sA (by decide)) (by exact cpy_stepE h3 (h2.2.1 37 (by decide)) (by omega) (by omega)) (by omega)
theorem t_undo {E : jEnv} {α : Nat → Nat} {σ : tS} {Q : Option Value → tS → Prop} {dm : Nat} {H : Nat → mPl} {m : Nat} (hL : tLg dm H σ) (hd : dm ≤ 40) (hm : m < dm) (hq : ∀ σ1, tEq [36] [23] σ σ1 → tPl (H m).1 (H m).2 σ1 → tLg m H σ1 → Q (some (.int (zI (dm - m)))) σ1) : jX2_undo E α 0 [some (.ref (α 0)), some (.int (zI (m : Nat))), none, none] [] σ Q := by
  refine J_iload_n dX2_undo_0 rfl ?_
  refine J_iconst (zI 0) dX2_undo_1 rfl ?_
  refine J_aload_n dX2_undo_2 rfl ?_
  refine TG_deedMany dX2_undo_3 ?_
  refine J_top (zI (dm)) hL.1 ?_
  refine TC_X2_in (by decide) (Nat.le_of_ble_eq_true rfl) dX2_undo_6 ?_
  refine t_in (by unfold zR; omega) (by unfold zR; omega) (by unfold zR; omega) (fun b6 => ?_) (fun b6 => ?_)
  · refine J_ri ?_
    refine J_if_ne_y (tgt := 14) dX2_undo_9 (by decide) (by decide) ?_
    refine J_aload_n dX2_undo_14 rfl ?_
    refine TG_deedMany dX2_undo_15 ?_
    refine J_top (zI (dm)) hL.1 ?_
    refine J_iload_n dX2_undo_18 rfl ?_
    refine J_isub_z dX2_undo_19 ?_
    refine J_istore_n dX2_undo_20 rfl (by decide) _ rfl ?_
    refine J_iconst (zI 0) dX2_undo_21 rfl ?_
    refine J_istore_n dX2_undo_22 rfl (by decide) _ rfl ?_
    exact tl_undo23 hm hd (fun σ1 e1 e2 e3 => hq σ1 e1 (tRow.pl (by rw [e3]; exact (hL.2 m hm).cpy (d := σ.2.1 23) (o1 := 0) (n := 33) (m := 0) (by omega))) ⟨e2, fun d hd2 => by rw [e1.2.1 37 (by decide)]; exact hL.2 d (by omega)⟩) _ 0 σ (by omega) tEq.refl cpy_0 (Nat.lt_succ_self _)
  · exfalso; omega
theorem t_undo_no {E : jEnv} {α : Nat → Nat} {σ : tS} {Q : Option Value → tS → Prop} {dm : Nat} {H : Nat → mPl}  (hL : tLg dm H σ) (hd : dm ≤ 40) (hq : ∀ σ1, tEq [36] [] σ σ1 → σ1.1 36 = zI dm → Q (some (.int (zI (dm - dm)))) σ1) : jX2_undo E α 0 [some (.ref (α 0)), some (.int (zI (dm : Nat))), none, none] [] σ Q := by
  refine J_iload_n dX2_undo_0 rfl ?_
  refine J_iconst (zI 0) dX2_undo_1 rfl ?_
  refine J_aload_n dX2_undo_2 rfl ?_
  refine TG_deedMany dX2_undo_3 ?_
  refine J_top (zI (dm)) hL.1 ?_
  refine TC_X2_in (by decide) (Nat.le_of_ble_eq_true rfl) dX2_undo_6 ?_
  refine t_in (by unfold zR; omega) (by unfold zR; omega) (by unfold zR; omega) (fun b6 => ?_) (fun b6 => ?_)
  · refine J_ri ?_
    refine J_if_ne_y (tgt := 14) dX2_undo_9 (by decide) (by decide) ?_
    refine J_aload_n dX2_undo_14 rfl ?_
    refine TG_deedMany dX2_undo_15 ?_
    refine J_top (zI (dm)) hL.1 ?_
    refine J_iload_n dX2_undo_18 rfl ?_
    refine J_isub_z dX2_undo_19 ?_
    refine J_istore_n dX2_undo_20 rfl (by decide) _ rfl ?_
    refine J_iconst (zI 0) dX2_undo_21 rfl ?_
    refine J_istore_n dX2_undo_22 rfl (by decide) _ rfl ?_
    refine J_iload_n dX2_undo_23 rfl ?_
    refine J_bipush (zI 33) dX2_undo_24 rfl ?_
    refine J_icmp_ge_n (tgt := 56) dX2_undo_26 (by decide) (by decide) ?_
    refine J_iload_n dX2_undo_29 rfl ?_
    refine J_if_le_z (tgt := 56) dX2_undo_30 (by decide) (by unfold zR; omega) (fun c30 => ?_) (fun c30 => ?_)
    · skip
      refine J_aload_n dX2_undo_56 rfl ?_
      refine J_iload_n dX2_undo_57 rfl ?_
      refine TP_deedMany dX2_undo_58 ?_
      refine J_iload_n dX2_undo_61 rfl ?_
      exact J_iret rfl dX2_undo_62 (by exact hq _ (tEq.refl.sI (by decide)) rfl)
    · exfalso; omega
  · exfalso; omega
