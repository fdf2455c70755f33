set_option maxRecDepth 100000
/-! the twin: small methods -/
theorem upd_s (f : Nat → Int32) (k : Nat) (x : Int32) : upd f k x k = x := by simp [upd]
theorem upd_n {f : Nat → Int32} {k j : Nat} {x : Int32} (h : j ≠ k) : upd f k x j = f j := by simp [upd, h]
/-- frame: only these fields, these arrays may differ -/
def tEq (I A : List Nat) (σ σ' : tS) : Prop := (∀ k, k ∉ I → σ'.1 k = σ.1 k) ∧ (∀ j, j ∉ A → σ'.2.1 j = σ.2.1 j) ∧ σ'.2.2 = σ.2.2
theorem tEq.refl {I A : List Nat} {σ : tS} : tEq I A σ σ := ⟨fun _ _ => rfl, fun _ _ => rfl, rfl⟩
theorem tEq.trans {I A : List Nat} {σ σ' σ'' : tS} (h : tEq I A σ σ') (g : tEq I A σ' σ'') : tEq I A σ σ'' := ⟨fun k hk => (g.1 k hk).trans (h.1 k hk), fun k hk => (g.2.1 k hk).trans (h.2.1 k hk), g.2.2.trans h.2.2⟩
theorem tEq.mono {I A I' A' : List Nat} {σ σ' : tS} (h : tEq I A σ σ') (hI : ∀ k ∈ I, k ∈ I') (hA : ∀ k ∈ A, k ∈ A') : tEq I' A' σ σ' := ⟨fun k hk => h.1 k (fun z => hk (hI k z)), fun k hk => h.2.1 k (fun z => hk (hA k z)), h.2.2⟩
theorem tEq.sI {I A : List Nat} {σ σ' : tS} (h : tEq I A σ σ') {k : Nat} {v : Int32} (hk : k ∈ I) : tEq I A σ (setI σ' k v) := ⟨fun j hj => (by have : j ≠ k := fun z => hj (z ▸ hk); simp [setI, this]; exact h.1 j hj), h.2.1, h.2.2⟩
theorem tEq.sA {I A : List Nat} {σ σ' : tS} (h : tEq I A σ σ') {k : Nat} {v : Nat → Int32} (hk : k ∈ A) : tEq I A σ (setA σ' k v) := ⟨h.1, fun j hj => (by have : j ≠ k := fun z => hj (z ▸ hk); simp [setA, this]; exact h.2.1 j hj), h.2.2⟩

theorem t_in {E : jEnv} {α : Nat → Nat} {σ : tS} {Q : Option Value → tS → Prop} {v lo hi : Int} (rv : zR v) (rl : zR lo) (rh : zR hi) (h1 : lo ≤ v ∧ v ≤ hi → Q (some (.int (zI 1))) σ) (h0 : ¬ (lo ≤ v ∧ v ≤ hi) → Q (some (.int (zI 0))) σ) : jX2_in E α 0 [some (.int (zI v)), some (.int (zI lo)), some (.int (zI hi))] [] σ Q := by
  refine J_iload_n dX2_in_0 rfl ?_
  refine J_iload_n dX2_in_1 rfl ?_
  refine J_icmp_lt_z (tgt := 14) dX2_in_2 (by decide) (by assumption) (by assumption) (fun c2 => ?_) (fun c2 => ?_)
  · skip
    refine J_iconst (zI 0) dX2_in_14 rfl ?_
    exact J_zret rfl dX2_in_15 rfl (by first | exact h1 (by omega) | exact h0 (by omega))
  · skip
    refine J_iload_n dX2_in_5 rfl ?_
    refine J_iload_n dX2_in_6 rfl ?_
    refine J_icmp_gt_z (tgt := 14) dX2_in_7 (by decide) (by assumption) (by assumption) (fun c7 => ?_) (fun c7 => ?_)
    · skip
      refine J_iconst (zI 0) dX2_in_14 rfl ?_
      exact J_zret rfl dX2_in_15 rfl (by first | exact h1 (by omega) | exact h0 (by omega))
    · skip
      refine J_iconst (zI 1) dX2_in_10 rfl ?_
      refine J_goto (tgt := 15) dX2_in_11 (by decide) ?_
      exact J_zret rfl dX2_in_15 rfl (by first | exact h1 (by omega) | exact h0 (by omega))
theorem t_found {E : jEnv} {α : Nat → Nat} {σ : tS} {Q : Option Value → tS → Prop} {m : Nat} (hm : m < 6) (hq : Q (some (.int (zI (-3)))) (setA (setI σ 1 (zI m)) 2 (upd (σ.2.1 2) m (σ.2.1 2 m + zI 1)))) : jX2_found E α 0 [some (.ref (α 0)), some (.int (zI (m : Nat)))] [] σ Q := by
  refine J_aload_n dX2_found_0 rfl ?_
  refine J_iload_n dX2_found_1 rfl ?_
  refine TP_latest dX2_found_2 ?_
  refine J_aload_n dX2_found_5 rfl ?_
  refine TG_came dX2_found_6 ?_
  refine J_iload_n dX2_found_9 rfl ?_
  refine J_dup2 dX2_found_10 rfl rfl ?_
  refine TJ_iald 2 (m) ⟨rfl, rfl, by decide⟩ (by omega) (show m < 6 by omega) dX2_found_11 ?_
  refine J_iconst (zI 1) dX2_found_12 rfl ?_
  refine J_iadd dX2_found_13 ?_
  refine TJ_iast 2 (m) ⟨rfl, rfl, by decide⟩ (by omega) (show m < 6 by omega) dX2_found_14 ?_
  refine J_bipush (zI (-3)) dX2_found_15 rfl ?_
  exact J_iret rfl dX2_found_17 (by exact hq)
theorem t_tells {E : jEnv} {α : Nat → Nat} {σ : tS} {Q : Option Value → tS → Prop} {x y : Int32} (hq : Q (some (.int y)) (setI σ 0 x)) : jX2_tells E α 0 [some (.ref (α 0)), some (.int (x)), some (.int (y))] [] σ Q := by
  refine J_aload_n dX2_tells_0 rfl ?_
  refine J_iload_n dX2_tells_1 rfl ?_
  refine TP_told dX2_tells_2 ?_
  refine J_iload_n dX2_tells_5 rfl ?_
  exact J_iret rfl dX2_tells_6 (by exact hq)
theorem t_asked {E : jEnv} {α : Nat → Nat} {σ : tS} {Q : Option Value → tS → Prop}  (hq : Q (some (.int (σ.1 0))) σ) : jX2_asked E α 0 [some (.ref (α 0))] [] σ Q := by
  refine J_aload_n dX2_asked_0 rfl ?_
  refine TG_told dX2_asked_1 ?_
  exact J_iret rfl dX2_asked_4 (by exact hq)
theorem t_finding {E : jEnv} {α : Nat → Nat} {σ : tS} {Q : Option Value → tS → Prop}  (hq : Q (some (.int (σ.1 1))) σ) : jX2_finding E α 0 [some (.ref (α 0))] [] σ Q := by
  refine J_aload_n dX2_finding_0 rfl ?_
  refine TG_latest dX2_finding_1 ?_
  exact J_iret rfl dX2_finding_4 (by exact hq)
theorem t_findings {E : jEnv} {α : Nat → Nat} {σ : tS} {Q : Option Value → tS → Prop} {v : Int} (rv : zR v) (h1 : 1 ≤ v ∧ v ≤ 5 → Q (some (.int (σ.2.1 2 v.toNat))) σ) (h0 : ¬ (1 ≤ v ∧ v ≤ 5) → Q (some (.int (zI (-1)))) σ) : jX2_findings E α 0 [some (.ref (α 0)), some (.int (zI v))] [] σ Q := by
  refine J_iload_n dX2_findings_0 rfl ?_
  refine J_iconst (zI 1) dX2_findings_1 rfl ?_
  refine J_iconst (zI 5) dX2_findings_2 rfl ?_
  refine TC_X2_in (by decide) (Nat.le_of_ble_eq_true rfl) dX2_findings_3 ?_
  refine t_in (by unfold zR at *; omega) (by unfold zR at *; omega) (by unfold zR at *; omega) (fun b3 => ?_) (fun b3 => ?_)
  · refine J_ri ?_
    refine J_if_eq_n (tgt := 18) dX2_findings_6 (by decide) (by decide) ?_
    refine J_aload_n dX2_findings_9 rfl ?_
    refine TG_came dX2_findings_10 ?_
    refine J_iload_n dX2_findings_13 rfl ?_
    refine TJ_iald 2 (v.toNat) ⟨rfl, rfl, by decide⟩ (by omega) (show v.toNat < 6 by omega) dX2_findings_14 ?_
    refine J_goto (tgt := 19) dX2_findings_15 (by decide) ?_
    exact J_iret rfl dX2_findings_19 (by first | exact h0 (by omega) | exact h1 (by omega))
  · refine J_ri ?_
    refine J_if_eq_y (tgt := 18) dX2_findings_6 (by decide) (by decide) ?_
    refine J_iconst (zI (-1)) dX2_findings_18 rfl ?_
    exact J_iret rfl dX2_findings_19 (by first | exact h0 (by omega) | exact h1 (by omega))
theorem t_isRow {E : jEnv} {α : Nat → Nat} {σ : tS} {Q : Option Value → tS → Prop} {v : Int} (rv : zR v) (h1 : 0 ≤ v ∧ v ≤ 5 → Q (some (.int (zI 1))) σ) (h0 : ¬ (0 ≤ v ∧ v ≤ 5) → Q (some (.int (zI 0))) σ) : jX2_isRow E α 0 [some (.int (zI v))] [] σ Q := by
  refine J_iload_n dX2_isRow_0 rfl ?_
  refine J_iconst (zI 0) dX2_isRow_1 rfl ?_
  refine J_iconst (zI 5) dX2_isRow_2 rfl ?_
  refine TC_X2_in (by decide) (Nat.le_of_ble_eq_true rfl) dX2_isRow_3 ?_
  refine t_in (by unfold zR at *; omega) (by unfold zR at *; omega) (by unfold zR at *; omega) (fun b3 => ?_) (fun b3 => ?_)
  · refine J_ri ?_
    exact J_zret rfl dX2_isRow_6 rfl (by first | exact h1 (by omega) | exact h0 (by omega))
  · refine J_ri ?_
    exact J_zret rfl dX2_isRow_6 rfl (by first | exact h1 (by omega) | exact h0 (by omega))
theorem t_isText {E : jEnv} {α : Nat → Nat} {σ : tS} {Q : Option Value → tS → Prop} {v : Int} (rv : zR v) (h1 : 0 ≤ v ∧ v ≤ 3 → Q (some (.int (zI 1))) σ) (h0 : ¬ (0 ≤ v ∧ v ≤ 3) → Q (some (.int (zI 0))) σ) : jX2_isText E α 0 [some (.int (zI v))] [] σ Q := by
  refine J_iload_n dX2_isText_0 rfl ?_
  refine J_iconst (zI 0) dX2_isText_1 rfl ?_
  refine J_iconst (zI 3) dX2_isText_2 rfl ?_
  refine TC_X2_in (by decide) (Nat.le_of_ble_eq_true rfl) dX2_isText_3 ?_
  refine t_in (by unfold zR at *; omega) (by unfold zR at *; omega) (by unfold zR at *; omega) (fun b3 => ?_) (fun b3 => ?_)
  · refine J_ri ?_
    exact J_zret rfl dX2_isText_6 rfl (by first | exact h1 (by omega) | exact h0 (by omega))
  · refine J_ri ?_
    exact J_zret rfl dX2_isText_6 rfl (by first | exact h1 (by omega) | exact h0 (by omega))
theorem t_rowAt {E : jEnv} {α : Nat → Nat} {σ : tS} {Q : Option Value → tS → Prop} {r i : Nat} (hr : r < 6) (hi : i < 40) (hq : Q (some (.int (σ.2.1 4 (40 * r + i)))) σ) : jX2_rowAt E α 0 [some (.ref (α 0)), some (.int (zI (r : Nat))), some (.int (zI (i : Nat)))] [] σ Q := by
  refine J_aload_n dX2_rowAt_0 rfl ?_
  refine TG_rows dX2_rowAt_1 ?_
  refine J_bipush (zI 40) dX2_rowAt_4 rfl ?_
  refine J_iload_n dX2_rowAt_6 rfl ?_
  refine J_imul_z dX2_rowAt_7 ?_
  refine J_iload_n dX2_rowAt_8 rfl ?_
  refine J_iadd_z dX2_rowAt_9 ?_
  refine TJ_iald 4 (((40 * r) + i)) ⟨rfl, rfl, by decide⟩ (by omega) (show ((40 * r) + i) < 240 by omega) dX2_rowAt_10 ?_
  exact J_iret rfl dX2_rowAt_11 (by exact hq)
