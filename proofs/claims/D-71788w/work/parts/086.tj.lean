set_option maxRecDepth 100000
/-! the twin: rows, texts -/
theorem cmp_gt {a b c : Int} (ha : zR a) (hb : zR b) (hc : zR c) : 0 < lg_cmp ((zI a).toInt64 + (zI b).toInt64) (zI c).toInt64 ↔ c < a + b := by
  rw [lg_cmp_gt, Int64.lt_iff_toInt_lt, Int64.toInt_add, Int32.toInt_toInt64, Int32.toInt_toInt64, Int32.toInt_toInt64, zI_toInt ha, zI_toInt hb, zI_toInt hc]
  unfold zR at *
  rw [Int.bmod_eq_of_le (by omega) (by omega)]
def mnS (f : Nat → Int32) : Nat → Int64
  | 0 => 0
  | n + 1 => mnS f n + (f n).toInt64
def by8 (z : Int) : Int := ((zI z).toInt8.toInt32).toInt
theorem by8_z (z : Int) : (zI z).toInt8.toInt32.toInt8.toInt32 = zI (by8 z) := by
  have h := pk_vb (zI z)
  rw [vp_nar_byte] at h
  rw [h]
  unfold by8
  exact (Int32.ofInt_toInt _).symm
theorem t_row_bad {E : jEnv} {α : Nat → Nat} {σ : tS} {Q : Option Value → tS → Prop} {v n : Int} (rv : zR v) (rn : zR n) (hv : ¬ (0 ≤ v ∧ v ≤ 5) ∨ 40 < n) (hq : Q (some (.int (zI (-1)))) σ) : jX2_row E α 0 [some (.ref (α 0)), some (.int (zI (v))), some (.int (zI (n))), none] [] σ Q := by
  refine J_iload_n dX2_row_0 rfl ?_
  refine TC_X2_isRow (by decide) (Nat.le_of_ble_eq_true rfl) dX2_row_1 ?_
  refine t_isRow (by unfold zR at *; omega) (fun b1 => ?_) (fun b1 => ?_)
  · refine J_ri ?_
    refine J_if_eq_n (tgt := 13) dX2_row_4 (by decide) (by decide) ?_
    refine J_iload_n dX2_row_7 rfl ?_
    refine J_bipush (zI 40) dX2_row_8 rfl ?_
    refine J_icmp_le_z (tgt := 15) dX2_row_10 (by decide) (by unfold zR at *; omega) (by unfold zR at *; omega) (fun c10 => ?_) (fun c10 => ?_)
    · exfalso; omega
    · skip
      refine J_iconst (zI (-1)) dX2_row_13 rfl ?_
      exact J_iret rfl dX2_row_14 (by exact hq)
  · refine J_ri ?_
    refine J_if_eq_y (tgt := 13) dX2_row_4 (by decide) (by decide) ?_
    refine J_iconst (zI (-1)) dX2_row_13 rfl ?_
    exact J_iret rfl dX2_row_14 (by exact hq)
theorem t_row_neg {E : jEnv} {α : Nat → Nat} {σ : tS} {Q : Option Value → tS → Prop} {r : Nat} {n : Int} (hr : r < 6) (rn : zR n) (hn : n < 0) (hq : Q (some (.int (zI (-3)))) (setA (setI σ 1 (zI 5)) 2 (upd (σ.2.1 2) 5 (σ.2.1 2 5 + zI 1)))) : jX2_row E α 0 [some (.ref (α 0)), some (.int (zI (r : Nat))), some (.int (zI (n))), none] [] σ Q := by
  refine J_iload_n dX2_row_0 rfl ?_
  refine TC_X2_isRow (by decide) (Nat.le_of_ble_eq_true rfl) dX2_row_1 ?_
  refine t_isRow (by unfold zR at *; omega) (fun b1 => ?_) (fun b1 => ?_)
  · refine J_ri ?_
    refine J_if_eq_n (tgt := 13) dX2_row_4 (by decide) (by decide) ?_
    refine J_iload_n dX2_row_7 rfl ?_
    refine J_bipush (zI 40) dX2_row_8 rfl ?_
    refine J_icmp_le_z (tgt := 15) dX2_row_10 (by decide) (by unfold zR at *; omega) (by unfold zR at *; omega) (fun c10 => ?_) (fun c10 => ?_)
    · skip
      refine J_iload_n dX2_row_15 rfl ?_
      refine J_if_ge_z (tgt := 25) dX2_row_16 (by decide) (by unfold zR at *; omega) (fun c16 => ?_) (fun c16 => ?_)
      · exfalso; omega
      · skip
        refine J_aload_n dX2_row_19 rfl ?_
        refine J_iconst (zI 5) dX2_row_20 rfl ?_
        refine TC_X2_found (by decide) (Nat.le_of_ble_eq_true rfl) dX2_row_21 ?_
        refine t_found (m := _) (by decide) ?_
        refine J_ri ?_
        exact J_iret rfl dX2_row_24 (by exact hq)
    · exfalso; omega
  · exfalso; omega
theorem tl_row34 {E : jEnv} {α : Nat → Nat} {σ : tS} {Q : Option Value → tS → Prop} {r m : Nat} (hr : r < 6) (hq : ∀ σ1, tEq [] [4] σ σ1 → σ1.2.1 4 = va_cpy (fun _ => zI 0) (σ.2.1 4) 0 (40 * r) 40 → Q (some (.int (zI (m : Nat)))) σ1) : ∀ (n : Nat) (i : Nat) (σ1 : tS), i ≤ 40 → tEq [] [4] σ σ1 → σ1.2.1 4 = va_cpy (fun _ => zI 0) (σ.2.1 4) 0 (40 * r) i → 40 - i < n → jX2_row E α 34 [some (.ref (α 0)), some (.int (zI (r : Nat))), some (.int (zI (m : Nat))), some (.int (zI (i : Nat)))] [] σ1 Q := by
  intro n
  induction n with
  | zero => intro i σ1 h1 h2 h3 hn; exact absurd hn (Nat.not_lt_zero _)
  | succ n ih =>
    intro i σ1 h1 h2 h3 hn
    refine J_iload_n dX2_row_34 rfl ?_
    refine J_bipush (zI 40) dX2_row_35 rfl ?_
    refine J_icmp_ge_z (tgt := 58) dX2_row_37 (by decide) (by unfold zR; omega) (by unfold zR; omega) (fun c37 => ?_) (fun c37 => ?_)
    · skip
      obtain rfl : i = 40 := by omega
      refine J_iload_n dX2_row_58 rfl ?_
      exact J_iret rfl dX2_row_59 (by exact hq σ1 h2 h3)
    · skip
      refine J_aload_n dX2_row_40 rfl ?_
      refine TG_rows dX2_row_41 ?_
      refine J_bipush (zI 40) dX2_row_44 rfl ?_
      refine J_iload_n dX2_row_46 rfl ?_
      refine J_imul_z dX2_row_47 ?_
      refine J_iload_n dX2_row_48 rfl ?_
      refine J_iadd_z dX2_row_49 ?_
      refine J_iconst (zI 0) dX2_row_50 rfl ?_
      refine TJ_iast 4 (((40 * r) + i)) ⟨rfl, rfl, by decide⟩ (by omega) (show ((40 * r) + i) < 240 by omega) dX2_row_51 ?_
      refine J_iinc_z ((((i + 1)) : Nat) : Int) (by omega) dX2_row_52 rfl rfl (by decide) _ rfl ?_
      refine J_goto (tgt := 34) dX2_row_55 (by decide) ?_
      exact ih (i + 1) _ (by omega) (h2.sA (by decide)) (by exact cpy_stepE (s' := fun _ => zI 0) (q := 0 + i) h3 rfl (by omega) rfl) (by omega)
theorem row_ok {rs : Nat → Int} {rd : Nat → Nat → Int32} {ts : Nat → Int} {tb : Nat → Nat → Int} {σ σ1 : tS} {r n : Nat} (h : tDt rs rd ts tb σ) (hr : r < 6) (e : tEq [] [4] (setA σ 3 (upd (σ.2.1 3) r (zI n))) σ1) (c : σ1.2.1 4 = va_cpy (fun _ => zI 0) (σ.2.1 4) 0 (40 * r) 40) (hn : n ≤ 40) (hb : ∀ r, r < 6 → -1 ≤ rs r ∧ rs r ≤ 40) : tDt (upk rs r n) (upk rd r (fun _ => zI 0)) ts tb σ1 := by
  have h3 : σ1.2.1 3 = upd (σ.2.1 3) r (zI n) := e.2.1 3 (by decide)
  have h6 : σ1.2.1 6 = σ.2.1 6 := e.2.1 6 (by decide)
  have h7 : σ1.2.1 7 = σ.2.1 7 := e.2.1 7 (by decide)
  refine ⟨fun q hq => ?_, fun q i hq hi => ?_, by rw [h6]; exact h.2.2.1, by rw [h7]; exact h.2.2.2⟩
  · rw [h3]
    unfold upk upd
    split
    · rfl
    · exact h.1 q hq
  · rw [c]
    unfold upk at *
    by_cases z : q = r
    · subst z
      rw [if_pos rfl] at hi ⊢
      rw [pk_cpy_in (by omega) (by omega)]
    · rw [if_neg z] at hi ⊢
      have := hb q hq
      rw [pk_cpy_out (by omega)]
      exact h.2.1 q i hq hi
theorem text_ok {rs : Nat → Int} {rd : Nat → Nat → Int32} {ts : Nat → Int} {tb : Nat → Nat → Int} {σ σ1 : tS} {r n : Nat} (h : tDt rs rd ts tb σ) (hr : r < 4) (e : tEq [] [7] (setA σ 6 (upd (σ.2.1 6) r (zI n))) σ1) (c : σ1.2.1 7 = va_cpy (fun _ => zI 32) (σ.2.1 7) 0 (120 * r) 120) (hn : n ≤ 120) (hb : ∀ r, r < 4 → -1 ≤ ts r ∧ ts r ≤ 120) : tDt rs rd (upk ts r n) (upk tb r (fun _ => 32)) σ1 := by
  have h3 : σ1.2.1 6 = upd (σ.2.1 6) r (zI n) := e.2.1 6 (by decide)
  have h6 : σ1.2.1 3 = σ.2.1 3 := e.2.1 3 (by decide)
  have h7 : σ1.2.1 4 = σ.2.1 4 := e.2.1 4 (by decide)
  refine ⟨by rw [h6]; exact h.1, by rw [h7]; exact h.2.1, fun q hq => ?_, fun q i hq hi => ?_⟩
  · rw [h3]
    unfold upk upd
    split
    · rfl
    · exact h.2.2.1 q hq
  · rw [c]
    unfold upk at *
    by_cases z : q = r
    · subst z
      rw [if_pos rfl] at hi ⊢
      rw [pk_cpy_in (by omega) (by omega)]
    · rw [if_neg z] at hi ⊢
      have := hb q hq
      rw [pk_cpy_out (by omega)]
      exact h.2.2.2 q i hq hi
theorem t_row {E : jEnv} {α : Nat → Nat} {σ : tS} {Q : Option Value → tS → Prop} {rs : Nat → Int} {rd : Nat → Nat → Int32} {ts : Nat → Int} {tb : Nat → Nat → Int} {r n : Nat} (hDt : tDt rs rd ts tb σ) (hDo : dtOK rs ts tb) (hr : r < 6) (hn : n ≤ 40) (hq : ∀ σ1, tEq [] [3, 4] σ σ1 → tDt (upk rs r n) (upk rd r (fun _ => zI 0)) ts tb σ1 → Q (some (.int (zI (n : Nat)))) σ1) : jX2_row E α 0 [some (.ref (α 0)), some (.int (zI (r : Nat))), some (.int (zI (n : Nat))), none] [] σ Q := by
  refine J_iload_n dX2_row_0 rfl ?_
  refine TC_X2_isRow (by decide) (Nat.le_of_ble_eq_true rfl) dX2_row_1 ?_
  refine t_isRow (by unfold zR at *; omega) (fun b1 => ?_) (fun b1 => ?_)
  · refine J_ri ?_
    refine J_if_eq_n (tgt := 13) dX2_row_4 (by decide) (by decide) ?_
    refine J_iload_n dX2_row_7 rfl ?_
    refine J_bipush (zI 40) dX2_row_8 rfl ?_
    refine J_icmp_le_z (tgt := 15) dX2_row_10 (by decide) (by unfold zR; omega) (by unfold zR; omega) (fun c10 => ?_) (fun c10 => ?_)
    · skip
      refine J_iload_n dX2_row_15 rfl ?_
      refine J_if_ge_z (tgt := 25) dX2_row_16 (by decide) (by unfold zR; omega) (fun c16 => ?_) (fun c16 => ?_)
      · skip
        refine J_aload_n dX2_row_25 rfl ?_
        refine TG_sizes dX2_row_26 ?_
        refine J_iload_n dX2_row_29 rfl ?_
        refine J_iload_n dX2_row_30 rfl ?_
        refine TJ_iast 3 (r) ⟨rfl, rfl, by decide⟩ (by omega) (show r < 6 by omega) dX2_row_31 ?_
        refine J_iconst (zI 0) dX2_row_32 rfl ?_
        refine J_istore_n dX2_row_33 rfl (by decide) _ rfl ?_
        exact tl_row34 hr (fun σ1 e1 c1 => hq σ1 ((tEq.refl.sA (by decide)).trans (e1.mono (by decide) (by decide))) (row_ok hDt hr e1 c1 hn hDo.1)) _ 0 _ (by omega) tEq.refl cpy_0 (Nat.lt_succ_self _)
      · exfalso; omega
    · exfalso; omega
  · exfalso; omega
theorem t_text_bad {E : jEnv} {α : Nat → Nat} {σ : tS} {Q : Option Value → tS → Prop} {v n : Int} (rv : zR v) (rn : zR n) (hv : ¬ (0 ≤ v ∧ v ≤ 3) ∨ 120 < n) (hq : Q (some (.int (zI (-1)))) σ) : jX2_text E α 0 [some (.ref (α 0)), some (.int (zI (v))), some (.int (zI (n))), none] [] σ Q := by
  refine J_iload_n dX2_text_0 rfl ?_
  refine TC_X2_isText (by decide) (Nat.le_of_ble_eq_true rfl) dX2_text_1 ?_
  refine t_isText (by unfold zR at *; omega) (fun b1 => ?_) (fun b1 => ?_)
  · refine J_ri ?_
    refine J_if_eq_n (tgt := 13) dX2_text_4 (by decide) (by decide) ?_
    refine J_iload_n dX2_text_7 rfl ?_
    refine J_bipush (zI 120) dX2_text_8 rfl ?_
    refine J_icmp_le_z (tgt := 15) dX2_text_10 (by decide) (by unfold zR at *; omega) (by unfold zR at *; omega) (fun c10 => ?_) (fun c10 => ?_)
    · exfalso; omega
    · skip
      refine J_iconst (zI (-1)) dX2_text_13 rfl ?_
      exact J_iret rfl dX2_text_14 (by exact hq)
  · refine J_ri ?_
    refine J_if_eq_y (tgt := 13) dX2_text_4 (by decide) (by decide) ?_
    refine J_iconst (zI (-1)) dX2_text_13 rfl ?_
    exact J_iret rfl dX2_text_14 (by exact hq)
theorem t_text_neg {E : jEnv} {α : Nat → Nat} {σ : tS} {Q : Option Value → tS → Prop} {r : Nat} {n : Int} (hr : r < 4) (rn : zR n) (hn : n < 0) (hq : Q (some (.int (zI (-3)))) (setA (setI σ 1 (zI 5)) 2 (upd (σ.2.1 2) 5 (σ.2.1 2 5 + zI 1)))) : jX2_text E α 0 [some (.ref (α 0)), some (.int (zI (r : Nat))), some (.int (zI (n))), none] [] σ Q := by
  refine J_iload_n dX2_text_0 rfl ?_
  refine TC_X2_isText (by decide) (Nat.le_of_ble_eq_true rfl) dX2_text_1 ?_
  refine t_isText (by unfold zR at *; omega) (fun b1 => ?_) (fun b1 => ?_)
  · refine J_ri ?_
    refine J_if_eq_n (tgt := 13) dX2_text_4 (by decide) (by decide) ?_
    refine J_iload_n dX2_text_7 rfl ?_
    refine J_bipush (zI 120) dX2_text_8 rfl ?_
    refine J_icmp_le_z (tgt := 15) dX2_text_10 (by decide) (by unfold zR at *; omega) (by unfold zR at *; omega) (fun c10 => ?_) (fun c10 => ?_)
    · skip
      refine J_iload_n dX2_text_15 rfl ?_
      refine J_if_ge_z (tgt := 25) dX2_text_16 (by decide) (by unfold zR at *; omega) (fun c16 => ?_) (fun c16 => ?_)
      · exfalso; omega
      · skip
        refine J_aload_n dX2_text_19 rfl ?_
        refine J_iconst (zI 5) dX2_text_20 rfl ?_
        refine TC_X2_found (by decide) (Nat.le_of_ble_eq_true rfl) dX2_text_21 ?_
        refine t_found (m := _) (by decide) ?_
        refine J_ri ?_
        exact J_iret rfl dX2_text_24 (by exact hq)
    · exfalso; omega
  · exfalso; omega
theorem tl_text34 {E : jEnv} {α : Nat → Nat} {σ : tS} {Q : Option Value → tS → Prop} {r m : Nat} (hr : r < 4) (hq : ∀ σ1, tEq [] [7] σ σ1 → σ1.2.1 7 = va_cpy (fun _ => zI 32) (σ.2.1 7) 0 (120 * r) 120 → Q (some (.int (zI (m : Nat)))) σ1) : ∀ (n : Nat) (i : Nat) (σ1 : tS), i ≤ 120 → tEq [] [7] σ σ1 → σ1.2.1 7 = va_cpy (fun _ => zI 32) (σ.2.1 7) 0 (120 * r) i → 120 - i < n → jX2_text E α 34 [some (.ref (α 0)), some (.int (zI (r : Nat))), some (.int (zI (m : Nat))), some (.int (zI (i : Nat)))] [] σ1 Q := by
  intro n
  induction n with
  | zero => intro i σ1 h1 h2 h3 hn; exact absurd hn (Nat.not_lt_zero _)
  | succ n ih =>
    intro i σ1 h1 h2 h3 hn
    refine J_iload_n dX2_text_34 rfl ?_
    refine J_bipush (zI 120) dX2_text_35 rfl ?_
    refine J_icmp_ge_z (tgt := 59) dX2_text_37 (by decide) (by unfold zR; omega) (by unfold zR; omega) (fun c37 => ?_) (fun c37 => ?_)
    · skip
      obtain rfl : i = 120 := by omega
      refine J_iload_n dX2_text_59 rfl ?_
      exact J_iret rfl dX2_text_60 (by exact hq σ1 h2 h3)
    · skip
      refine J_aload_n dX2_text_40 rfl ?_
      refine TG_bytes dX2_text_41 ?_
      refine J_bipush (zI 120) dX2_text_44 rfl ?_
      refine J_iload_n dX2_text_46 rfl ?_
      refine J_imul_z dX2_text_47 ?_
      refine J_iload_n dX2_text_48 rfl ?_
      refine J_iadd_z dX2_text_49 ?_
      refine J_bipush (zI 32) dX2_text_50 rfl ?_
      refine TJ_bast 7 (((120 * r) + i)) ⟨rfl, rfl, by decide⟩ (by omega) (show ((120 * r) + i) < 480 by omega) dX2_text_52 ?_
      refine J_iinc_z ((((i + 1)) : Nat) : Int) (by omega) dX2_text_53 rfl rfl (by decide) _ rfl ?_
      refine J_goto (tgt := 34) dX2_text_56 (by decide) ?_
      exact ih (i + 1) _ (by omega) (h2.sA (by decide)) (by exact cpy_stepE (s' := fun _ => zI 32) (q := 0 + i) h3 rfl (by omega) rfl) (by omega)
theorem t_text {E : jEnv} {α : Nat → Nat} {σ : tS} {Q : Option Value → tS → Prop} {rs : Nat → Int} {rd : Nat → Nat → Int32} {ts : Nat → Int} {tb : Nat → Nat → Int} {r n : Nat} (hDt : tDt rs rd ts tb σ) (hDo : dtOK rs ts tb) (hr : r < 4) (hn : n ≤ 120) (hq : ∀ σ1, tEq [] [6, 7] σ σ1 → tDt rs rd (upk ts r n) (upk tb r (fun _ => 32)) σ1 → Q (some (.int (zI (n : Nat)))) σ1) : jX2_text E α 0 [some (.ref (α 0)), some (.int (zI (r : Nat))), some (.int (zI (n : Nat))), none] [] σ Q := by
  refine J_iload_n dX2_text_0 rfl ?_
  refine TC_X2_isText (by decide) (Nat.le_of_ble_eq_true rfl) dX2_text_1 ?_
  refine t_isText (by unfold zR at *; omega) (fun b1 => ?_) (fun b1 => ?_)
  · refine J_ri ?_
    refine J_if_eq_n (tgt := 13) dX2_text_4 (by decide) (by decide) ?_
    refine J_iload_n dX2_text_7 rfl ?_
    refine J_bipush (zI 120) dX2_text_8 rfl ?_
    refine J_icmp_le_z (tgt := 15) dX2_text_10 (by decide) (by unfold zR; omega) (by unfold zR; omega) (fun c10 => ?_) (fun c10 => ?_)
    · skip
      refine J_iload_n dX2_text_15 rfl ?_
      refine J_if_ge_z (tgt := 25) dX2_text_16 (by decide) (by unfold zR; omega) (fun c16 => ?_) (fun c16 => ?_)
      · skip
        refine J_aload_n dX2_text_25 rfl ?_
        refine TG_textSizes dX2_text_26 ?_
        refine J_iload_n dX2_text_29 rfl ?_
        refine J_iload_n dX2_text_30 rfl ?_
        refine TJ_iast 6 (r) ⟨rfl, rfl, by decide⟩ (by omega) (show r < 4 by omega) dX2_text_31 ?_
        refine J_iconst (zI 0) dX2_text_32 rfl ?_
        refine J_istore_n dX2_text_33 rfl (by decide) _ rfl ?_
        exact tl_text34 hr (fun σ1 e1 c1 => hq σ1 ((tEq.refl.sA (by decide)).trans (e1.mono (by decide) (by decide))) (text_ok hDt hr e1 c1 hn hDo.2.1)) _ 0 _ (by omega) tEq.refl cpy_0 (Nat.lt_succ_self _)
      · exfalso; omega
    · exfalso; omega
  · exfalso; omega
theorem t_lay_bad {E : jEnv} {α : Nat → Nat} {σ : tS} {Q : Option Value → tS → Prop} {v : Int} {i : Int} {x : Int32} (rv : zR v) (hv : ¬ (0 ≤ v ∧ v ≤ 5)) (hq : Q (some (.int (zI (-1)))) σ) : jX2_lay E α 0 [some (.ref (α 0)), some (.int (zI (v))), some (.int (zI (i))), some (.int (x)), none] [] σ Q := by
  refine J_iload_n dX2_lay_0 rfl ?_
  refine TC_X2_isRow (by decide) (Nat.le_of_ble_eq_true rfl) dX2_lay_1 ?_
  refine t_isRow (by unfold zR at *; omega) (fun b1 => ?_) (fun b1 => ?_)
  · exfalso; omega
  · refine J_ri ?_
    refine J_if_ne_n (tgt := 9) dX2_lay_4 (by decide) (by decide) ?_
    refine J_iconst (zI (-1)) dX2_lay_7 rfl ?_
    exact J_iret rfl dX2_lay_8 (by exact hq)
theorem t_lay_no {E : jEnv} {α : Nat → Nat} {σ : tS} {Q : Option Value → tS → Prop} {rs : Nat → Int} {rd : Nat → Nat → Int32} {ts : Nat → Int} {tb : Nat → Nat → Int} {r : Nat} {i : Int} {x : Int32} (hDt : tDt rs rd ts tb σ) (hDo : dtOK rs ts tb) (hr : r < 6) (h0 : rs r = -1) (hq : Q (some (.int (zI (-3)))) (setA (setI σ 1 (zI 1)) 2 (upd (σ.2.1 2) 1 (σ.2.1 2 1 + zI 1)))) : jX2_lay E α 0 [some (.ref (α 0)), some (.int (zI (r : Nat))), some (.int (zI (i))), some (.int (x)), none] [] σ Q := by
  refine J_iload_n dX2_lay_0 rfl ?_
  refine TC_X2_isRow (by decide) (Nat.le_of_ble_eq_true rfl) dX2_lay_1 ?_
  refine t_isRow (by unfold zR at *; omega) (fun b1 => ?_) (fun b1 => ?_)
  · refine J_ri ?_
    refine J_if_ne_y (tgt := 9) dX2_lay_4 (by decide) (by decide) ?_
    refine J_aload_n dX2_lay_9 rfl ?_
    refine TG_sizes dX2_lay_10 ?_
    refine J_iload_n dX2_lay_13 rfl ?_
    refine TJ_iald 3 (r) ⟨rfl, rfl, by decide⟩ (by omega) (show r < 6 by omega) dX2_lay_14 ?_
    refine J_top (zI (rs r)) (hDt.1 r (by omega)) ?_
    refine J_if_ge_z (tgt := 24) dX2_lay_15 (by decide) (by unfold zR; omega) (fun c15 => ?_) (fun c15 => ?_)
    · exfalso; omega
    · skip
      refine J_aload_n dX2_lay_18 rfl ?_
      refine J_iconst (zI 1) dX2_lay_19 rfl ?_
      refine TC_X2_found (by decide) (Nat.le_of_ble_eq_true rfl) dX2_lay_20 ?_
      refine t_found (m := _) (by decide) ?_
      refine J_ri ?_
      exact J_iret rfl dX2_lay_23 (by exact hq)
  · exfalso; omega
theorem t_lay_out {E : jEnv} {α : Nat → Nat} {σ : tS} {Q : Option Value → tS → Prop} {rs : Nat → Int} {rd : Nat → Nat → Int32} {ts : Nat → Int} {tb : Nat → Nat → Int} {r : Nat} {i : Int} {x : Int32} (hDt : tDt rs rd ts tb σ) (hDo : dtOK rs ts tb) (hr : r < 6) (h0 : 0 ≤ rs r) (ri : zR i) (hi : ¬ (0 ≤ i ∧ i < rs r)) (hq : Q (some (.int (zI (-3)))) (setA (setI σ 1 (zI 2)) 2 (upd (σ.2.1 2) 2 (σ.2.1 2 2 + zI 1)))) : jX2_lay E α 0 [some (.ref (α 0)), some (.int (zI (r : Nat))), some (.int (zI (i))), some (.int (x)), none] [] σ Q := by
  have := hDo.1 r hr
  refine J_iload_n dX2_lay_0 rfl ?_
  refine TC_X2_isRow (by decide) (Nat.le_of_ble_eq_true rfl) dX2_lay_1 ?_
  refine t_isRow (by unfold zR at *; omega) (fun b1 => ?_) (fun b1 => ?_)
  · refine J_ri ?_
    refine J_if_ne_y (tgt := 9) dX2_lay_4 (by decide) (by decide) ?_
    refine J_aload_n dX2_lay_9 rfl ?_
    refine TG_sizes dX2_lay_10 ?_
    refine J_iload_n dX2_lay_13 rfl ?_
    refine TJ_iald 3 (r) ⟨rfl, rfl, by decide⟩ (by omega) (show r < 6 by omega) dX2_lay_14 ?_
    refine J_top (zI (rs r)) (hDt.1 r (by omega)) ?_
    refine J_if_ge_z (tgt := 24) dX2_lay_15 (by decide) (by unfold zR at *; omega) (fun c15 => ?_) (fun c15 => ?_)
    · skip
      refine J_iload_n dX2_lay_24 rfl ?_
      refine J_iconst (zI 0) dX2_lay_25 rfl ?_
      refine J_aload_n dX2_lay_26 rfl ?_
      refine TG_sizes dX2_lay_27 ?_
      refine J_iload_n dX2_lay_30 rfl ?_
      refine TJ_iald 3 (r) ⟨rfl, rfl, by decide⟩ (by omega) (show r < 6 by omega) dX2_lay_31 ?_
      refine J_top (zI (rs r)) (hDt.1 r (by omega)) ?_
      refine J_iconst (zI 1) dX2_lay_32 rfl ?_
      refine J_isub_z dX2_lay_33 ?_
      refine TC_X2_in (by decide) (Nat.le_of_ble_eq_true rfl) dX2_lay_34 ?_
      refine t_in (by unfold zR at *; omega) (by unfold zR at *; omega) (by unfold zR at *; omega) (fun b34 => ?_) (fun b34 => ?_)
      · exfalso; omega
      · refine J_ri ?_
        refine J_if_ne_n (tgt := 46) dX2_lay_37 (by decide) (by decide) ?_
        refine J_aload_n dX2_lay_40 rfl ?_
        refine J_iconst (zI 2) dX2_lay_41 rfl ?_
        refine TC_X2_found (by decide) (Nat.le_of_ble_eq_true rfl) dX2_lay_42 ?_
        refine t_found (m := _) (by decide) ?_
        refine J_ri ?_
        exact J_iret rfl dX2_lay_45 (by exact hq)
    · exfalso; omega
  · exfalso; omega
theorem t_at_bad {E : jEnv} {α : Nat → Nat} {σ : tS} {Q : Option Value → tS → Prop} {v : Int} {i : Int} (rv : zR v) (hv : ¬ (0 ≤ v ∧ v ≤ 5)) (hq : Q (some (.int (zI (-1)))) σ) : jX2_at E α 0 [some (.ref (α 0)), some (.int (zI (v))), some (.int (zI (i)))] [] σ Q := by
  refine J_iload_n dX2_at_0 rfl ?_
  refine TC_X2_isRow (by decide) (Nat.le_of_ble_eq_true rfl) dX2_at_1 ?_
  refine t_isRow (by unfold zR at *; omega) (fun b1 => ?_) (fun b1 => ?_)
  · exfalso; omega
  · refine J_ri ?_
    refine J_if_ne_n (tgt := 9) dX2_at_4 (by decide) (by decide) ?_
    refine J_iconst (zI (-1)) dX2_at_7 rfl ?_
    exact J_iret rfl dX2_at_8 (by exact hq)
theorem t_at_no {E : jEnv} {α : Nat → Nat} {σ : tS} {Q : Option Value → tS → Prop} {rs : Nat → Int} {rd : Nat → Nat → Int32} {ts : Nat → Int} {tb : Nat → Nat → Int} {r : Nat} {i : Int} (hDt : tDt rs rd ts tb σ) (hDo : dtOK rs ts tb) (hr : r < 6) (h0 : rs r = -1) (hq : Q (some (.int (zI (-3)))) (setA (setI σ 1 (zI 1)) 2 (upd (σ.2.1 2) 1 (σ.2.1 2 1 + zI 1)))) : jX2_at E α 0 [some (.ref (α 0)), some (.int (zI (r : Nat))), some (.int (zI (i)))] [] σ Q := by
  refine J_iload_n dX2_at_0 rfl ?_
  refine TC_X2_isRow (by decide) (Nat.le_of_ble_eq_true rfl) dX2_at_1 ?_
  refine t_isRow (by unfold zR at *; omega) (fun b1 => ?_) (fun b1 => ?_)
  · refine J_ri ?_
    refine J_if_ne_y (tgt := 9) dX2_at_4 (by decide) (by decide) ?_
    refine J_aload_n dX2_at_9 rfl ?_
    refine TG_sizes dX2_at_10 ?_
    refine J_iload_n dX2_at_13 rfl ?_
    refine TJ_iald 3 (r) ⟨rfl, rfl, by decide⟩ (by omega) (show r < 6 by omega) dX2_at_14 ?_
    refine J_top (zI (rs r)) (hDt.1 r (by omega)) ?_
    refine J_if_ge_z (tgt := 24) dX2_at_15 (by decide) (by unfold zR; omega) (fun c15 => ?_) (fun c15 => ?_)
    · exfalso; omega
    · skip
      refine J_aload_n dX2_at_18 rfl ?_
      refine J_iconst (zI 1) dX2_at_19 rfl ?_
      refine TC_X2_found (by decide) (Nat.le_of_ble_eq_true rfl) dX2_at_20 ?_
      refine t_found (m := _) (by decide) ?_
      refine J_ri ?_
      exact J_iret rfl dX2_at_23 (by exact hq)
  · exfalso; omega
theorem t_at_out {E : jEnv} {α : Nat → Nat} {σ : tS} {Q : Option Value → tS → Prop} {rs : Nat → Int} {rd : Nat → Nat → Int32} {ts : Nat → Int} {tb : Nat → Nat → Int} {r : Nat} {i : Int} (hDt : tDt rs rd ts tb σ) (hDo : dtOK rs ts tb) (hr : r < 6) (h0 : 0 ≤ rs r) (ri : zR i) (hi : ¬ (0 ≤ i ∧ i < rs r)) (hq : Q (some (.int (zI (-3)))) (setA (setI σ 1 (zI 2)) 2 (upd (σ.2.1 2) 2 (σ.2.1 2 2 + zI 1)))) : jX2_at E α 0 [some (.ref (α 0)), some (.int (zI (r : Nat))), some (.int (zI (i)))] [] σ Q := by
  have := hDo.1 r hr
  refine J_iload_n dX2_at_0 rfl ?_
  refine TC_X2_isRow (by decide) (Nat.le_of_ble_eq_true rfl) dX2_at_1 ?_
  refine t_isRow (by unfold zR at *; omega) (fun b1 => ?_) (fun b1 => ?_)
  · refine J_ri ?_
    refine J_if_ne_y (tgt := 9) dX2_at_4 (by decide) (by decide) ?_
    refine J_aload_n dX2_at_9 rfl ?_
    refine TG_sizes dX2_at_10 ?_
    refine J_iload_n dX2_at_13 rfl ?_
    refine TJ_iald 3 (r) ⟨rfl, rfl, by decide⟩ (by omega) (show r < 6 by omega) dX2_at_14 ?_
    refine J_top (zI (rs r)) (hDt.1 r (by omega)) ?_
    refine J_if_ge_z (tgt := 24) dX2_at_15 (by decide) (by unfold zR at *; omega) (fun c15 => ?_) (fun c15 => ?_)
    · skip
      refine J_iload_n dX2_at_24 rfl ?_
      refine J_iconst (zI 0) dX2_at_25 rfl ?_
      refine J_aload_n dX2_at_26 rfl ?_
      refine TG_sizes dX2_at_27 ?_
      refine J_iload_n dX2_at_30 rfl ?_
      refine TJ_iald 3 (r) ⟨rfl, rfl, by decide⟩ (by omega) (show r < 6 by omega) dX2_at_31 ?_
      refine J_top (zI (rs r)) (hDt.1 r (by omega)) ?_
      refine J_iconst (zI 1) dX2_at_32 rfl ?_
      refine J_isub_z dX2_at_33 ?_
      refine TC_X2_in (by decide) (Nat.le_of_ble_eq_true rfl) dX2_at_34 ?_
      refine t_in (by unfold zR at *; omega) (by unfold zR at *; omega) (by unfold zR at *; omega) (fun b34 => ?_) (fun b34 => ?_)
      · exfalso; omega
      · refine J_ri ?_
        refine J_if_eq_y (tgt := 54) dX2_at_37 (by decide) (by decide) ?_
        refine J_aload_n dX2_at_54 rfl ?_
        refine J_iconst (zI 2) dX2_at_55 rfl ?_
        refine TC_X2_found (by decide) (Nat.le_of_ble_eq_true rfl) dX2_at_56 ?_
        refine t_found (m := _) (by decide) ?_
        refine J_ri ?_
        exact J_iret rfl dX2_at_59 (by exact hq)
    · exfalso; omega
  · exfalso; omega
theorem t_at {E : jEnv} {α : Nat → Nat} {σ : tS} {Q : Option Value → tS → Prop} {rs : Nat → Int} {rd : Nat → Nat → Int32} {ts : Nat → Int} {tb : Nat → Nat → Int} {r i : Nat} (hDt : tDt rs rd ts tb σ) (hDo : dtOK rs ts tb) (hr : r < 6) (hi : (i : Int) < rs r) (hq : Q (some (.int (zI 1))) (setI σ 0 (rd r i))) : jX2_at E α 0 [some (.ref (α 0)), some (.int (zI (r : Nat))), some (.int (zI (i : Nat)))] [] σ Q := by
  have := hDo.1 r hr
  refine J_iload_n dX2_at_0 rfl ?_
  refine TC_X2_isRow (by decide) (Nat.le_of_ble_eq_true rfl) dX2_at_1 ?_
  refine t_isRow (by unfold zR at *; omega) (fun b1 => ?_) (fun b1 => ?_)
  · refine J_ri ?_
    refine J_if_ne_y (tgt := 9) dX2_at_4 (by decide) (by decide) ?_
    refine J_aload_n dX2_at_9 rfl ?_
    refine TG_sizes dX2_at_10 ?_
    refine J_iload_n dX2_at_13 rfl ?_
    refine TJ_iald 3 (r) ⟨rfl, rfl, by decide⟩ (by omega) (show r < 6 by omega) dX2_at_14 ?_
    refine J_top (zI (rs r)) (hDt.1 r (by omega)) ?_
    refine J_if_ge_z (tgt := 24) dX2_at_15 (by decide) (by unfold zR; omega) (fun c15 => ?_) (fun c15 => ?_)
    · skip
      refine J_iload_n dX2_at_24 rfl ?_
      refine J_iconst (zI 0) dX2_at_25 rfl ?_
      refine J_aload_n dX2_at_26 rfl ?_
      refine TG_sizes dX2_at_27 ?_
      refine J_iload_n dX2_at_30 rfl ?_
      refine TJ_iald 3 (r) ⟨rfl, rfl, by decide⟩ (by omega) (show r < 6 by omega) dX2_at_31 ?_
      refine J_top (zI (rs r)) (hDt.1 r (by omega)) ?_
      refine J_iconst (zI 1) dX2_at_32 rfl ?_
      refine J_isub_z dX2_at_33 ?_
      refine TC_X2_in (by decide) (Nat.le_of_ble_eq_true rfl) dX2_at_34 ?_
      refine t_in (by unfold zR; omega) (by unfold zR; omega) (by unfold zR; omega) (fun b34 => ?_) (fun b34 => ?_)
      · refine J_ri ?_
        refine J_if_eq_n (tgt := 54) dX2_at_37 (by decide) (by decide) ?_
        refine J_aload_n dX2_at_40 rfl ?_
        refine J_aload_n dX2_at_41 rfl ?_
        refine J_iload_n dX2_at_42 rfl ?_
        refine J_iload_n dX2_at_43 rfl ?_
        refine TC_X2_rowAt (by decide) (Nat.le_of_ble_eq_true rfl) dX2_at_44 ?_
        refine t_rowAt (by omega) (by omega) ?_
        refine J_ri ?_
        refine J_top (rd r i) (hDt.2.1 r i hr hi) ?_
        refine J_iconst (zI 1) dX2_at_47 rfl ?_
        refine TC_X2_tells (by decide) (Nat.le_of_ble_eq_true rfl) dX2_at_48 ?_
        refine t_tells  ?_
        refine J_ri ?_
        refine J_goto (tgt := 59) dX2_at_51 (by decide) ?_
        exact J_iret rfl dX2_at_59 (by exact hq)
      · exfalso; omega
    · exfalso; omega
  · exfalso; omega
theorem lay_ok {rs : Nat → Int} {rd : Nat → Nat → Int32} {ts : Nat → Int} {tb : Nat → Nat → Int} {σ : tS} {r i : Nat} {x y : Int32} (h : tDt rs rd ts tb σ) (hb : ∀ r, r < 6 → -1 ≤ rs r ∧ rs r ≤ 40) (hr : r < 6) (hi : (i : Int) < rs r) : tDt rs (upk rd r (upk (rd r) i x)) ts tb (setI (setA σ 4 (upd (σ.2.1 4) (40 * r + i) x)) 0 y) := by
  refine ⟨h.1, fun q j hq hj => ?_, h.2.2.1, h.2.2.2⟩
  show upd (σ.2.1 4) (40 * r + i) x (40 * q + j) = _
  have h1 := hb q hq
  have h2 := hb r hr
  by_cases z : q = r
  · subst z
    by_cases y : j = i
    · subst y
      rw [upd_s]
      simp [upk]
    · rw [upd_n (by omega), h.2.1 q j hq hj]
      simp [upk, y]
  · rw [upd_n (by omega), h.2.1 q j hq hj]
    simp [upk, z]
theorem put_ok {rs : Nat → Int} {rd : Nat → Nat → Int32} {ts : Nat → Int} {tb : Nat → Nat → Int} {σ : tS} {r i : Nat} {x : Int32} {z : Int} (h : tDt rs rd ts tb σ) (hb : ∀ r, r < 4 → -1 ≤ ts r ∧ ts r ≤ 120) (hr : r < 4) (hi : (i : Int) < ts r) (hx : x = zI z) : tDt rs rd ts (upk tb r (upk (tb r) i z)) (setA σ 7 (upd (σ.2.1 7) (120 * r + i) x)) := by
  refine ⟨h.1, h.2.1, h.2.2.1, fun q j hq hj => ?_⟩
  show upd (σ.2.1 7) (120 * r + i) x (120 * q + j) = _
  have h1 := hb q hq
  have h2 := hb r hr
  by_cases w : q = r
  · subst w
    by_cases y : j = i
    · subst y
      rw [upd_s]
      simp [upk, hx]
    · rw [upd_n (by omega), h.2.2.2 q j hq hj]
      simp [upk, y]
  · rw [upd_n (by omega), h.2.2.2 q j hq hj]
    simp [upk, w]
theorem t_layR {E : jEnv} {α : Nat → Nat} {σ : tS} {Q : Option Value → tS → Prop} {rs : Nat → Int} {rd : Nat → Nat → Int32} {ts : Nat → Int} {tb : Nat → Nat → Int} {r i : Nat} {x : Int32} (hDt : tDt rs rd ts tb σ) (hDo : dtOK rs ts tb) (hr : r < 6) (hi : (i : Int) < rs r) (hq : ∀ σ1, tEq [0] [4] σ σ1 → tDt rs (upk rd r (upk (rd r) i x)) ts tb σ1 → σ1.1 0 = rd r i → Q (some (.int (zI 1))) σ1) : jX2_lay E α 0 [some (.ref (α 0)), some (.int (zI (r : Nat))), some (.int (zI (i : Nat))), some (.int (x)), none] [] σ Q := by
  have := hDo.1 r hr
  refine J_iload_n dX2_lay_0 rfl ?_
  refine TC_X2_isRow (by decide) (Nat.le_of_ble_eq_true rfl) dX2_lay_1 ?_
  refine t_isRow (by unfold zR at *; omega) (fun b1 => ?_) (fun b1 => ?_)
  · refine J_ri ?_
    refine J_if_ne_y (tgt := 9) dX2_lay_4 (by decide) (by decide) ?_
    refine J_aload_n dX2_lay_9 rfl ?_
    refine TG_sizes dX2_lay_10 ?_
    refine J_iload_n dX2_lay_13 rfl ?_
    refine TJ_iald 3 (r) ⟨rfl, rfl, by decide⟩ (by omega) (show r < 6 by omega) dX2_lay_14 ?_
    refine J_top (zI (rs r)) (hDt.1 r (by omega)) ?_
    refine J_if_ge_z (tgt := 24) dX2_lay_15 (by decide) (by unfold zR; omega) (fun c15 => ?_) (fun c15 => ?_)
    · skip
      refine J_iload_n dX2_lay_24 rfl ?_
      refine J_iconst (zI 0) dX2_lay_25 rfl ?_
      refine J_aload_n dX2_lay_26 rfl ?_
      refine TG_sizes dX2_lay_27 ?_
      refine J_iload_n dX2_lay_30 rfl ?_
      refine TJ_iald 3 (r) ⟨rfl, rfl, by decide⟩ (by omega) (show r < 6 by omega) dX2_lay_31 ?_
      refine J_top (zI (rs r)) (hDt.1 r (by omega)) ?_
      refine J_iconst (zI 1) dX2_lay_32 rfl ?_
      refine J_isub_z dX2_lay_33 ?_
      refine TC_X2_in (by decide) (Nat.le_of_ble_eq_true rfl) dX2_lay_34 ?_
      refine t_in (by unfold zR; omega) (by unfold zR; omega) (by unfold zR; omega) (fun b34 => ?_) (fun b34 => ?_)
      · refine J_ri ?_
        refine J_if_ne_y (tgt := 46) dX2_lay_37 (by decide) (by decide) ?_
        refine J_aload_n dX2_lay_46 rfl ?_
        refine J_iload_n dX2_lay_47 rfl ?_
        refine J_iload_n dX2_lay_48 rfl ?_
        refine TC_X2_rowAt (by decide) (Nat.le_of_ble_eq_true rfl) dX2_lay_49 ?_
        refine t_rowAt (by omega) (by omega) ?_
        refine J_ri ?_
        refine J_top (rd r i) (hDt.2.1 r i hr hi) ?_
        refine J_istore dX2_lay_52 rfl (by decide) _ rfl ?_
        refine J_aload_n dX2_lay_54 rfl ?_
        refine TG_rows dX2_lay_55 ?_
        refine J_bipush (zI 40) dX2_lay_58 rfl ?_
        refine J_iload_n dX2_lay_60 rfl ?_
        refine J_imul_z dX2_lay_61 ?_
        refine J_iload_n dX2_lay_62 rfl ?_
        refine J_iadd_z dX2_lay_63 ?_
        refine J_iload_n dX2_lay_64 rfl ?_
        refine TJ_iast 4 (((40 * r) + i)) ⟨rfl, rfl, by decide⟩ (by omega) (show ((40 * r) + i) < 240 by omega) dX2_lay_65 ?_
        refine J_aload_n dX2_lay_66 rfl ?_
        refine J_iload dX2_lay_67 rfl ?_
        refine J_iconst (zI 1) dX2_lay_69 rfl ?_
        refine TC_X2_tells (by decide) (Nat.le_of_ble_eq_true rfl) dX2_lay_70 ?_
        refine t_tells  ?_
        refine J_ri ?_
        exact J_iret rfl dX2_lay_73 (by exact hq _ ((tEq.refl.sA (by decide)).sI (by decide)) (lay_ok hDt hDo.1 hr hi) rfl)
      · exfalso; omega
    · exfalso; omega
  · exfalso; omega
theorem t_tear_bad {E : jEnv} {α : Nat → Nat} {σ : tS} {Q : Option Value → tS → Prop} {v : Int} (rv : zR v) (hv : ¬ (0 ≤ v ∧ v ≤ 5)) (hq : Q (some (.int (zI (-1)))) σ) : jX2_tear E α 0 [some (.ref (α 0)), some (.int (zI (v)))] [] σ Q := by
  refine J_iload_n dX2_tear_0 rfl ?_
  refine TC_X2_isRow (by decide) (Nat.le_of_ble_eq_true rfl) dX2_tear_1 ?_
  refine t_isRow (by unfold zR at *; omega) (fun b1 => ?_) (fun b1 => ?_)
  · exfalso; omega
  · refine J_ri ?_
    refine J_if_ne_n (tgt := 9) dX2_tear_4 (by decide) (by decide) ?_
    refine J_iconst (zI (-1)) dX2_tear_7 rfl ?_
    exact J_iret rfl dX2_tear_8 (by exact hq)
theorem t_tear_no {E : jEnv} {α : Nat → Nat} {σ : tS} {Q : Option Value → tS → Prop} {rs : Nat → Int} {rd : Nat → Nat → Int32} {ts : Nat → Int} {tb : Nat → Nat → Int} {r : Nat}  (hDt : tDt rs rd ts tb σ) (hDo : dtOK rs ts tb) (hr : r < 6) (h0 : rs r = -1) (hq : Q (some (.int (zI (-3)))) (setA (setI σ 1 (zI 1)) 2 (upd (σ.2.1 2) 1 (σ.2.1 2 1 + zI 1)))) : jX2_tear E α 0 [some (.ref (α 0)), some (.int (zI (r : Nat)))] [] σ Q := by
  refine J_iload_n dX2_tear_0 rfl ?_
  refine TC_X2_isRow (by decide) (Nat.le_of_ble_eq_true rfl) dX2_tear_1 ?_
  refine t_isRow (by unfold zR at *; omega) (fun b1 => ?_) (fun b1 => ?_)
  · refine J_ri ?_
    refine J_if_ne_y (tgt := 9) dX2_tear_4 (by decide) (by decide) ?_
    refine J_aload_n dX2_tear_9 rfl ?_
    refine TG_sizes dX2_tear_10 ?_
    refine J_iload_n dX2_tear_13 rfl ?_
    refine TJ_iald 3 (r) ⟨rfl, rfl, by decide⟩ (by omega) (show r < 6 by omega) dX2_tear_14 ?_
    refine J_top (zI (rs r)) (hDt.1 r (by omega)) ?_
    refine J_if_ge_z (tgt := 24) dX2_tear_15 (by decide) (by unfold zR; omega) (fun c15 => ?_) (fun c15 => ?_)
    · exfalso; omega
    · skip
      refine J_aload_n dX2_tear_18 rfl ?_
      refine J_iconst (zI 1) dX2_tear_19 rfl ?_
      refine TC_X2_found (by decide) (Nat.le_of_ble_eq_true rfl) dX2_tear_20 ?_
      refine t_found (m := _) (by decide) ?_
      refine J_ri ?_
      exact J_iret rfl dX2_tear_23 (by exact hq)
  · exfalso; omega
theorem tear_ok {rs : Nat → Int} {rd : Nat → Nat → Int32} {ts : Nat → Int} {tb : Nat → Nat → Int} {σ : tS} {r : Nat} (h : tDt rs rd ts tb σ) : tDt (upk rs r (-1)) rd ts tb (setA σ 3 (upd (σ.2.1 3) r (zI (-1)))) := by
  refine ⟨fun q hq => ?_, fun q i hq hi => ?_, h.2.2⟩
  · show upd _ _ _ _ = _
    unfold upk upd
    split
    · rfl
    · exact h.1 q hq
  · unfold upk at hi
    split at hi
    · omega
    · exact h.2.1 q i hq hi
theorem t_tear {E : jEnv} {α : Nat → Nat} {σ : tS} {Q : Option Value → tS → Prop} {rs : Nat → Int} {rd : Nat → Nat → Int32} {ts : Nat → Int} {tb : Nat → Nat → Int} {r : Nat}  (hDt : tDt rs rd ts tb σ) (hDo : dtOK rs ts tb) (hr : r < 6) (h0 : 0 ≤ rs r) (hq : ∀ σ1, tEq [] [3] σ σ1 → tDt (upk rs r (-1)) rd ts tb σ1 → Q (some (.int (zI 1))) σ1) : jX2_tear E α 0 [some (.ref (α 0)), some (.int (zI (r : Nat)))] [] σ Q := by
  have := hDo.1 r hr
  refine J_iload_n dX2_tear_0 rfl ?_
  refine TC_X2_isRow (by decide) (Nat.le_of_ble_eq_true rfl) dX2_tear_1 ?_
  refine t_isRow (by unfold zR at *; omega) (fun b1 => ?_) (fun b1 => ?_)
  · refine J_ri ?_
    refine J_if_ne_y (tgt := 9) dX2_tear_4 (by decide) (by decide) ?_
    refine J_aload_n dX2_tear_9 rfl ?_
    refine TG_sizes dX2_tear_10 ?_
    refine J_iload_n dX2_tear_13 rfl ?_
    refine TJ_iald 3 (r) ⟨rfl, rfl, by decide⟩ (by omega) (show r < 6 by omega) dX2_tear_14 ?_
    refine J_top (zI (rs r)) (hDt.1 r (by omega)) ?_
    refine J_if_ge_z (tgt := 24) dX2_tear_15 (by decide) (by unfold zR; omega) (fun c15 => ?_) (fun c15 => ?_)
    · skip
      refine J_aload_n dX2_tear_24 rfl ?_
      refine TG_sizes dX2_tear_25 ?_
      refine J_iload_n dX2_tear_28 rfl ?_
      refine J_iconst (zI (-1)) dX2_tear_29 rfl ?_
      refine TJ_iast 3 (r) ⟨rfl, rfl, by decide⟩ (by omega) (show r < 6 by omega) dX2_tear_30 ?_
      refine J_iconst (zI 1) dX2_tear_31 rfl ?_
      exact J_iret rfl dX2_tear_32 (by exact hq _ (tEq.refl.sA (by decide)) (tear_ok hDt))
    · exfalso; omega
  · exfalso; omega
theorem t_put_bad {E : jEnv} {α : Nat → Nat} {σ : tS} {Q : Option Value → tS → Prop} {v i x : Int} (rv : zR v) (hv : ¬ (0 ≤ v ∧ v ≤ 3)) (hq : Q (some (.int (zI (-1)))) σ) : jX2_put E α 0 [some (.ref (α 0)), some (.int (zI (v))), some (.int (zI (i))), some (.int (zI (x))), none] [] σ Q := by
  refine J_iload_n dX2_put_0 rfl ?_
  refine TC_X2_isText (by decide) (Nat.le_of_ble_eq_true rfl) dX2_put_1 ?_
  refine t_isText (by unfold zR at *; omega) (fun b1 => ?_) (fun b1 => ?_)
  · exfalso; omega
  · refine J_ri ?_
    refine J_if_ne_n (tgt := 9) dX2_put_4 (by decide) (by decide) ?_
    refine J_iconst (zI (-1)) dX2_put_7 rfl ?_
    exact J_iret rfl dX2_put_8 (by exact hq)
theorem t_put_no {E : jEnv} {α : Nat → Nat} {σ : tS} {Q : Option Value → tS → Prop} {rs : Nat → Int} {rd : Nat → Nat → Int32} {ts : Nat → Int} {tb : Nat → Nat → Int} {r : Nat} {i x : Int} (hDt : tDt rs rd ts tb σ) (hDo : dtOK rs ts tb) (hr : r < 4) (h0 : ts r = -1) (hq : Q (some (.int (zI (-3)))) (setA (setI σ 1 (zI 1)) 2 (upd (σ.2.1 2) 1 (σ.2.1 2 1 + zI 1)))) : jX2_put E α 0 [some (.ref (α 0)), some (.int (zI (r : Nat))), some (.int (zI (i))), some (.int (zI (x))), none] [] σ Q := by
  refine J_iload_n dX2_put_0 rfl ?_
  refine TC_X2_isText (by decide) (Nat.le_of_ble_eq_true rfl) dX2_put_1 ?_
  refine t_isText (by unfold zR at *; omega) (fun b1 => ?_) (fun b1 => ?_)
  · refine J_ri ?_
    refine J_if_ne_y (tgt := 9) dX2_put_4 (by decide) (by decide) ?_
    refine J_aload_n dX2_put_9 rfl ?_
    refine TG_textSizes dX2_put_10 ?_
    refine J_iload_n dX2_put_13 rfl ?_
    refine TJ_iald 6 (r) ⟨rfl, rfl, by decide⟩ (by omega) (show r < 4 by omega) dX2_put_14 ?_
    refine J_top (zI (ts r)) (hDt.2.2.1 r (by omega)) ?_
    refine J_if_ge_z (tgt := 24) dX2_put_15 (by decide) (by unfold zR; omega) (fun c15 => ?_) (fun c15 => ?_)
    · exfalso; omega
    · skip
      refine J_aload_n dX2_put_18 rfl ?_
      refine J_iconst (zI 1) dX2_put_19 rfl ?_
      refine TC_X2_found (by decide) (Nat.le_of_ble_eq_true rfl) dX2_put_20 ?_
      refine t_found (m := _) (by decide) ?_
      refine J_ri ?_
      exact J_iret rfl dX2_put_23 (by exact hq)
  · exfalso; omega
theorem t_put_out {E : jEnv} {α : Nat → Nat} {σ : tS} {Q : Option Value → tS → Prop} {rs : Nat → Int} {rd : Nat → Nat → Int32} {ts : Nat → Int} {tb : Nat → Nat → Int} {r : Nat} {i x : Int} (hDt : tDt rs rd ts tb σ) (hDo : dtOK rs ts tb) (hr : r < 4) (h0 : 0 ≤ ts r) (ri : zR i) (hi : ¬ (0 ≤ i ∧ i < ts r)) (hq : Q (some (.int (zI (-3)))) (setA (setI σ 1 (zI 2)) 2 (upd (σ.2.1 2) 2 (σ.2.1 2 2 + zI 1)))) : jX2_put E α 0 [some (.ref (α 0)), some (.int (zI (r : Nat))), some (.int (zI (i))), some (.int (zI (x))), none] [] σ Q := by
  have := hDo.2.1 r hr
  refine J_iload_n dX2_put_0 rfl ?_
  refine TC_X2_isText (by decide) (Nat.le_of_ble_eq_true rfl) dX2_put_1 ?_
  refine t_isText (by unfold zR at *; omega) (fun b1 => ?_) (fun b1 => ?_)
  · refine J_ri ?_
    refine J_if_ne_y (tgt := 9) dX2_put_4 (by decide) (by decide) ?_
    refine J_aload_n dX2_put_9 rfl ?_
    refine TG_textSizes dX2_put_10 ?_
    refine J_iload_n dX2_put_13 rfl ?_
    refine TJ_iald 6 (r) ⟨rfl, rfl, by decide⟩ (by omega) (show r < 4 by omega) dX2_put_14 ?_
    refine J_top (zI (ts r)) (hDt.2.2.1 r (by omega)) ?_
    refine J_if_ge_z (tgt := 24) dX2_put_15 (by decide) (by unfold zR at *; omega) (fun c15 => ?_) (fun c15 => ?_)
    · skip
      refine J_iload_n dX2_put_24 rfl ?_
      refine J_iconst (zI 0) dX2_put_25 rfl ?_
      refine J_aload_n dX2_put_26 rfl ?_
      refine TG_textSizes dX2_put_27 ?_
      refine J_iload_n dX2_put_30 rfl ?_
      refine TJ_iald 6 (r) ⟨rfl, rfl, by decide⟩ (by omega) (show r < 4 by omega) dX2_put_31 ?_
      refine J_top (zI (ts r)) (hDt.2.2.1 r (by omega)) ?_
      refine J_iconst (zI 1) dX2_put_32 rfl ?_
      refine J_isub_z dX2_put_33 ?_
      refine TC_X2_in (by decide) (Nat.le_of_ble_eq_true rfl) dX2_put_34 ?_
      refine t_in (by unfold zR at *; omega) (by unfold zR at *; omega) (by unfold zR at *; omega) (fun b34 => ?_) (fun b34 => ?_)
      · exfalso; omega
      · refine J_ri ?_
        refine J_if_ne_n (tgt := 46) dX2_put_37 (by decide) (by decide) ?_
        refine J_aload_n dX2_put_40 rfl ?_
        refine J_iconst (zI 2) dX2_put_41 rfl ?_
        refine TC_X2_found (by decide) (Nat.le_of_ble_eq_true rfl) dX2_put_42 ?_
        refine t_found (m := _) (by decide) ?_
        refine J_ri ?_
        exact J_iret rfl dX2_put_45 (by exact hq)
    · exfalso; omega
  · exfalso; omega
theorem t_put {E : jEnv} {α : Nat → Nat} {σ : tS} {Q : Option Value → tS → Prop} {rs : Nat → Int} {rd : Nat → Nat → Int32} {ts : Nat → Int} {tb : Nat → Nat → Int} {r i : Nat} {x : Int} (hDt : tDt rs rd ts tb σ) (hDo : dtOK rs ts tb) (hr : r < 4) (hi : (i : Int) < ts r) (hq : ∀ σ1, tEq [] [7] σ σ1 → tDt rs rd ts (upk tb r (upk (tb r) i (by8 x))) σ1 → Q (some (.int (zI (1000 + tb r i)))) σ1) : jX2_put E α 0 [some (.ref (α 0)), some (.int (zI (r : Nat))), some (.int (zI (i : Nat))), some (.int (zI (x))), none] [] σ Q := by
  have := hDo.2.1 r hr
  refine J_iload_n dX2_put_0 rfl ?_
  refine TC_X2_isText (by decide) (Nat.le_of_ble_eq_true rfl) dX2_put_1 ?_
  refine t_isText (by unfold zR at *; omega) (fun b1 => ?_) (fun b1 => ?_)
  · refine J_ri ?_
    refine J_if_ne_y (tgt := 9) dX2_put_4 (by decide) (by decide) ?_
    refine J_aload_n dX2_put_9 rfl ?_
    refine TG_textSizes dX2_put_10 ?_
    refine J_iload_n dX2_put_13 rfl ?_
    refine TJ_iald 6 (r) ⟨rfl, rfl, by decide⟩ (by omega) (show r < 4 by omega) dX2_put_14 ?_
    refine J_top (zI (ts r)) (hDt.2.2.1 r (by omega)) ?_
    refine J_if_ge_z (tgt := 24) dX2_put_15 (by decide) (by unfold zR; omega) (fun c15 => ?_) (fun c15 => ?_)
    · skip
      refine J_iload_n dX2_put_24 rfl ?_
      refine J_iconst (zI 0) dX2_put_25 rfl ?_
      refine J_aload_n dX2_put_26 rfl ?_
      refine TG_textSizes dX2_put_27 ?_
      refine J_iload_n dX2_put_30 rfl ?_
      refine TJ_iald 6 (r) ⟨rfl, rfl, by decide⟩ (by omega) (show r < 4 by omega) dX2_put_31 ?_
      refine J_top (zI (ts r)) (hDt.2.2.1 r (by omega)) ?_
      refine J_iconst (zI 1) dX2_put_32 rfl ?_
      refine J_isub_z dX2_put_33 ?_
      refine TC_X2_in (by decide) (Nat.le_of_ble_eq_true rfl) dX2_put_34 ?_
      refine t_in (by unfold zR; omega) (by unfold zR; omega) (by unfold zR; omega) (fun b34 => ?_) (fun b34 => ?_)
      · refine J_ri ?_
        refine J_if_ne_y (tgt := 46) dX2_put_37 (by decide) (by decide) ?_
        refine J_aload_n dX2_put_46 rfl ?_
        refine TG_bytes dX2_put_47 ?_
        refine J_bipush (zI 120) dX2_put_50 rfl ?_
        refine J_iload_n dX2_put_52 rfl ?_
        refine J_imul_z dX2_put_53 ?_
        refine J_iload_n dX2_put_54 rfl ?_
        refine J_iadd_z dX2_put_55 ?_
        refine TJ_bald 7 (((120 * r) + i)) ⟨rfl, rfl, by decide⟩ (by omega) (show ((120 * r) + i) < 480 by omega) dX2_put_56 ?_
        refine J_top (zI (tb r i)) (hDt.2.2.2 r i hr hi) ?_
        refine J_istore dX2_put_57 rfl (by decide) _ rfl ?_
        refine J_aload_n dX2_put_59 rfl ?_
        refine TG_bytes dX2_put_60 ?_
        refine J_bipush (zI 120) dX2_put_63 rfl ?_
        refine J_iload_n dX2_put_65 rfl ?_
        refine J_imul_z dX2_put_66 ?_
        refine J_iload_n dX2_put_67 rfl ?_
        refine J_iadd_z dX2_put_68 ?_
        refine J_iload_n dX2_put_69 rfl ?_
        refine J_i2b dX2_put_70 ?_
        refine TJ_bast 7 (((120 * r) + i)) ⟨rfl, rfl, by decide⟩ (by omega) (show ((120 * r) + i) < 480 by omega) dX2_put_71 ?_
        refine J_sipush (zI 1000) dX2_put_72 rfl ?_
        refine J_iload dX2_put_75 rfl ?_
        refine J_iadd_z dX2_put_77 ?_
        exact J_iret rfl dX2_put_78 (by exact hq _ (tEq.refl.sA (by decide)) (put_ok hDt hDo.2.1 hr hi (by8_z x)))
      · exfalso; omega
    · exfalso; omega
  · exfalso; omega
theorem t_mean_bad {E : jEnv} {α : Nat → Nat} {σ : tS} {Q : Option Value → tS → Prop} {v : Int} (rv : zR v) (hv : ¬ (0 ≤ v ∧ v ≤ 5)) (hq : Q (some (.int (zI (-1)))) σ) : jX2_mean E α 0 [some (.ref (α 0)), some (.int (zI (v))), none, none, none] [] σ Q := by
  refine J_iload_n dX2_mean_0 rfl ?_
  refine TC_X2_isRow (by decide) (Nat.le_of_ble_eq_true rfl) dX2_mean_1 ?_
  refine t_isRow (by unfold zR at *; omega) (fun b1 => ?_) (fun b1 => ?_)
  · exfalso; omega
  · refine J_ri ?_
    refine J_if_ne_n (tgt := 9) dX2_mean_4 (by decide) (by decide) ?_
    refine J_iconst (zI (-1)) dX2_mean_7 rfl ?_
    exact J_iret rfl dX2_mean_8 (by exact hq)
theorem t_mean_no {E : jEnv} {α : Nat → Nat} {σ : tS} {Q : Option Value → tS → Prop} {rs : Nat → Int} {rd : Nat → Nat → Int32} {ts : Nat → Int} {tb : Nat → Nat → Int} {r : Nat}  (hDt : tDt rs rd ts tb σ) (hDo : dtOK rs ts tb) (hr : r < 6) (h0 : rs r = -1) (hq : Q (some (.int (zI (-3)))) (setA (setI σ 1 (zI 1)) 2 (upd (σ.2.1 2) 1 (σ.2.1 2 1 + zI 1)))) : jX2_mean E α 0 [some (.ref (α 0)), some (.int (zI (r : Nat))), none, none, none] [] σ Q := by
  refine J_iload_n dX2_mean_0 rfl ?_
  refine TC_X2_isRow (by decide) (Nat.le_of_ble_eq_true rfl) dX2_mean_1 ?_
  refine t_isRow (by unfold zR at *; omega) (fun b1 => ?_) (fun b1 => ?_)
  · refine J_ri ?_
    refine J_if_ne_y (tgt := 9) dX2_mean_4 (by decide) (by decide) ?_
    refine J_aload_n dX2_mean_9 rfl ?_
    refine TG_sizes dX2_mean_10 ?_
    refine J_iload_n dX2_mean_13 rfl ?_
    refine TJ_iald 3 (r) ⟨rfl, rfl, by decide⟩ (by omega) (show r < 6 by omega) dX2_mean_14 ?_
    refine J_top (zI (rs r)) (hDt.1 r (by omega)) ?_
    refine J_if_ge_z (tgt := 24) dX2_mean_15 (by decide) (by unfold zR; omega) (fun c15 => ?_) (fun c15 => ?_)
    · exfalso; omega
    · skip
      refine J_aload_n dX2_mean_18 rfl ?_
      refine J_iconst (zI 1) dX2_mean_19 rfl ?_
      refine TC_X2_found (by decide) (Nat.le_of_ble_eq_true rfl) dX2_mean_20 ?_
      refine t_found (m := _) (by decide) ?_
      refine J_ri ?_
      exact J_iret rfl dX2_mean_23 (by exact hq)
  · exfalso; omega
theorem t_mean_0 {E : jEnv} {α : Nat → Nat} {σ : tS} {Q : Option Value → tS → Prop} {rs : Nat → Int} {rd : Nat → Nat → Int32} {ts : Nat → Int} {tb : Nat → Nat → Int} {r : Nat}  (hDt : tDt rs rd ts tb σ) (hDo : dtOK rs ts tb) (hr : r < 6) (h0 : rs r = 0) (hq : Q (some (.int (zI (-3)))) (setA (setI σ 1 (zI 4)) 2 (upd (σ.2.1 2) 4 (σ.2.1 2 4 + zI 1)))) : jX2_mean E α 0 [some (.ref (α 0)), some (.int (zI (r : Nat))), none, none, none] [] σ Q := by
  refine J_iload_n dX2_mean_0 rfl ?_
  refine TC_X2_isRow (by decide) (Nat.le_of_ble_eq_true rfl) dX2_mean_1 ?_
  refine t_isRow (by unfold zR at *; omega) (fun b1 => ?_) (fun b1 => ?_)
  · refine J_ri ?_
    refine J_if_ne_y (tgt := 9) dX2_mean_4 (by decide) (by decide) ?_
    refine J_aload_n dX2_mean_9 rfl ?_
    refine TG_sizes dX2_mean_10 ?_
    refine J_iload_n dX2_mean_13 rfl ?_
    refine TJ_iald 3 (r) ⟨rfl, rfl, by decide⟩ (by omega) (show r < 6 by omega) dX2_mean_14 ?_
    refine J_top (zI (rs r)) (hDt.1 r (by omega)) ?_
    refine J_if_ge_z (tgt := 24) dX2_mean_15 (by decide) (by unfold zR; omega) (fun c15 => ?_) (fun c15 => ?_)
    · skip
      refine J_aload_n dX2_mean_24 rfl ?_
      refine TG_sizes dX2_mean_25 ?_
      refine J_iload_n dX2_mean_28 rfl ?_
      refine TJ_iald 3 (r) ⟨rfl, rfl, by decide⟩ (by omega) (show r < 6 by omega) dX2_mean_29 ?_
      refine J_top (zI (rs r)) (hDt.1 r (by omega)) ?_
      refine J_if_ne_z (tgt := 39) dX2_mean_30 (by decide) (by unfold zR; omega) (fun c30 => ?_) (fun c30 => ?_)
      · exfalso; omega
      · skip
        refine J_aload_n dX2_mean_33 rfl ?_
        refine J_iconst (zI 4) dX2_mean_34 rfl ?_
        refine TC_X2_found (by decide) (Nat.le_of_ble_eq_true rfl) dX2_mean_35 ?_
        refine t_found (m := _) (by decide) ?_
        refine J_ri ?_
        exact J_iret rfl dX2_mean_38 (by exact hq)
    · exfalso; omega
  · exfalso; omega
theorem tl_mean44 {E : jEnv} {α : Nat → Nat} {σ : tS} {Q : Option Value → tS → Prop} {rs : Nat → Int} {rd : Nat → Nat → Int32} {ts : Nat → Int} {tb : Nat → Nat → Int} {r cn : Nat} (hDt : tDt rs rd ts tb σ) (hDo : dtOK rs ts tb) (hr : r < 6) (h0 : rs r = cn) (hn0 : 0 < cn) (hq : Q (some (.int (zI 1))) (setI σ 0 (mnS (rd r) cn / lN cn).toInt32)) : ∀ (n : Nat) (i : Nat), i ≤ cn → cn - i < n → jX2_mean E α 44 [some (.ref (α 0)), some (.int (zI (r : Nat))), some (.long (mnS (rd r) i)), none, some (.int (zI (i : Nat)))] [] σ Q := by
  intro n
  induction n with
  | zero => intro i h1 hn; exact absurd hn (Nat.not_lt_zero _)
  | succ n ih =>
    intro i h1 hn
    have := hDo.1 r hr
    refine J_iload dX2_mean_44 rfl ?_
    refine J_aload_n dX2_mean_46 rfl ?_
    refine TG_sizes dX2_mean_47 ?_
    refine J_iload_n dX2_mean_50 rfl ?_
    refine TJ_iald 3 (r) ⟨rfl, rfl, by decide⟩ (by omega) (show r < 6 by omega) dX2_mean_51 ?_
    refine J_top (zI (cn)) ((by rw [← h0]; exact hDt.1 r hr)) ?_
    refine J_icmp_ge_z (tgt := 72) dX2_mean_52 (by decide) (by unfold zR; omega) (by unfold zR; omega) (fun c52 => ?_) (fun c52 => ?_)
    · skip
      have ei : i = cn := by omega
      rw [ei]
      refine J_aload_n dX2_mean_72 rfl ?_
      refine J_lload_n dX2_mean_73 rfl ?_
      refine J_aload_n dX2_mean_74 rfl ?_
      refine TG_sizes dX2_mean_75 ?_
      refine J_iload_n dX2_mean_78 rfl ?_
      refine TJ_iald 3 (r) ⟨rfl, rfl, by decide⟩ (by omega) (show r < 6 by omega) dX2_mean_79 ?_
      refine J_top (zI (cn)) ((by rw [← h0]; exact hDt.1 r hr)) ?_
      refine J_i2l dX2_mean_80 ?_
      refine J_topl (lN cn) (l_of (by omega)) ?_
      refine J_ldiv dX2_mean_81 (l_ne (by omega) hn0) ?_
      refine J_l2i dX2_mean_82 ?_
      refine J_iconst (zI 1) dX2_mean_83 rfl ?_
      refine TC_X2_tells (by decide) (Nat.le_of_ble_eq_true rfl) dX2_mean_84 ?_
      refine t_tells  ?_
      refine J_ri ?_
      exact J_iret rfl dX2_mean_87 (by exact hq)
    · skip
      refine J_lload_n dX2_mean_55 rfl ?_
      refine J_aload_n dX2_mean_56 rfl ?_
      refine J_iload_n dX2_mean_57 rfl ?_
      refine J_iload dX2_mean_58 rfl ?_
      refine TC_X2_rowAt (by decide) (Nat.le_of_ble_eq_true rfl) dX2_mean_60 ?_
      refine t_rowAt (by omega) (by omega) ?_
      refine J_ri ?_
      refine J_top (rd r i) (hDt.2.1 r i hr (by omega)) ?_
      refine J_i2l dX2_mean_63 ?_
      refine J_ladd dX2_mean_64 ?_
      refine J_lstore_n dX2_mean_65 rfl (by decide) _ rfl ?_
      refine J_iinc_z ((((i + 1)) : Nat) : Int) (by omega) dX2_mean_66 rfl rfl (by decide) _ rfl ?_
      refine J_goto (tgt := 44) dX2_mean_69 (by decide) ?_
      exact ih (i + 1) (by omega) (by omega)
theorem t_mean {E : jEnv} {α : Nat → Nat} {σ : tS} {Q : Option Value → tS → Prop} {rs : Nat → Int} {rd : Nat → Nat → Int32} {ts : Nat → Int} {tb : Nat → Nat → Int} {r cn : Nat}  (hDt : tDt rs rd ts tb σ) (hDo : dtOK rs ts tb) (hr : r < 6) (h0 : rs r = cn) (hn0 : 0 < cn) (hq : Q (some (.int (zI 1))) (setI σ 0 (mnS (rd r) cn / lN cn).toInt32)) : jX2_mean E α 0 [some (.ref (α 0)), some (.int (zI (r : Nat))), none, none, none] [] σ Q := by
  have := hDo.1 r hr
  refine J_iload_n dX2_mean_0 rfl ?_
  refine TC_X2_isRow (by decide) (Nat.le_of_ble_eq_true rfl) dX2_mean_1 ?_
  refine t_isRow (by unfold zR at *; omega) (fun b1 => ?_) (fun b1 => ?_)
  · refine J_ri ?_
    refine J_if_ne_y (tgt := 9) dX2_mean_4 (by decide) (by decide) ?_
    refine J_aload_n dX2_mean_9 rfl ?_
    refine TG_sizes dX2_mean_10 ?_
    refine J_iload_n dX2_mean_13 rfl ?_
    refine TJ_iald 3 (r) ⟨rfl, rfl, by decide⟩ (by omega) (show r < 6 by omega) dX2_mean_14 ?_
    refine J_top (zI (cn)) ((by rw [← h0]; exact hDt.1 r hr)) ?_
    refine J_if_ge_z (tgt := 24) dX2_mean_15 (by decide) (by unfold zR; omega) (fun c15 => ?_) (fun c15 => ?_)
    · skip
      refine J_aload_n dX2_mean_24 rfl ?_
      refine TG_sizes dX2_mean_25 ?_
      refine J_iload_n dX2_mean_28 rfl ?_
      refine TJ_iald 3 (r) ⟨rfl, rfl, by decide⟩ (by omega) (show r < 6 by omega) dX2_mean_29 ?_
      refine J_top (zI (cn)) ((by rw [← h0]; exact hDt.1 r hr)) ?_
      refine J_if_ne_z (tgt := 39) dX2_mean_30 (by decide) (by unfold zR; omega) (fun c30 => ?_) (fun c30 => ?_)
      · skip
        refine J_lconst 0 dX2_mean_39 rfl ?_
        refine J_lstore_n dX2_mean_40 rfl (by decide) _ rfl ?_
        refine J_iconst (zI 0) dX2_mean_41 rfl ?_
        refine J_istore dX2_mean_42 rfl (by decide) _ rfl ?_
        exact tl_mean44 hDt hDo hr h0 hn0 hq _ 0 (by omega) (Nat.lt_succ_self _)
      · exfalso; omega
    · exfalso; omega
  · exfalso; omega
