set_option maxRecDepth 100000
/-! the twin: frames and places -/
theorem qz {Q : Option Value → tS → Prop} {σ : tS} {z z' : Int} (hq : Q (some (.int (zI z'))) σ) (e : z = z') : Q (some (.int (zI z))) σ := e ▸ hq
def tSh (many : Nat) (wide high bl : Int) (G : Nat → Nat → Int) (σ : tS) : Prop := σ.1 11 = zI many ∧ σ.1 8 = zI wide ∧ σ.1 9 = zI high ∧ σ.1 10 = zI bl ∧ ∀ f k, f < many → k < 7 → σ.2.1 12 (7 * f + k) = zI (G f k)
def tPl (P : Nat → Nat → Int) (rule : Int) (σ : tS) : Prop := (∀ f k, f < 8 → k < 4 → σ.2.1 23 (4 * f + k) = zI (P f k)) ∧ σ.2.1 23 32 = zI rule
theorem tSh.eq {many : Nat} {wide high bl : Int} {G : Nat → Nat → Int} {σ σ' : tS} (h : tSh many wide high bl G σ) {I A : List Nat} (e : tEq I A σ σ') (h1 : 11 ∉ I) (h2 : 8 ∉ I) (h3 : 9 ∉ I) (h4 : 10 ∉ I) (h5 : 12 ∉ A) : tSh many wide high bl G σ' := ⟨(e.1 _ h1).trans h.1, (e.1 _ h2).trans h.2.1, (e.1 _ h3).trans h.2.2.1, (e.1 _ h4).trans h.2.2.2.1, fun f k hf hk => by rw [e.2.1 12 h5]; exact h.2.2.2.2 f k hf hk⟩
theorem tPl.eq {P : Nat → Nat → Int} {rule : Int} {σ σ' : tS} (h : tPl P rule σ) {I A : List Nat} (e : tEq I A σ σ') (h5 : 23 ∉ A) : tPl P rule σ' := ⟨fun f k hf hk => by rw [e.2.1 23 h5]; exact h.1 f k hf hk, by rw [e.2.1 23 h5]; exact h.2⟩

theorem t_kindOf {E : jEnv} {α : Nat → Nat} {σ : tS} {Q : Option Value → tS → Prop} {many : Nat} {wide high bl : Int} {G : Nat → Nat → Int} {f : Nat} (hS : tSh many wide high bl G σ) (hO : shOK many wide high bl G) (hf : f < many) (hq : Q (some (.int (zI (G f 0)))) σ) : jX2_kindOf E α 0 [some (.ref (α 0)), some (.int (zI (f : Nat)))] [] σ Q := by
  have := hO.s
  refine J_aload_n dX2_kindOf_0 rfl ?_
  refine TG_given dX2_kindOf_1 ?_
  refine J_bipush (zI 7) dX2_kindOf_4 rfl ?_
  refine J_iload_n dX2_kindOf_6 rfl ?_
  refine J_imul_z dX2_kindOf_7 ?_
  refine TJ_iald 12 ((7 * f)) ⟨rfl, rfl, by decide⟩ (by omega) (show (7 * f) < 56 by omega) dX2_kindOf_8 ?_
  refine J_top (zI (G f 0)) (hS.2.2.2.2 f 0 hf (by decide)) ?_
  exact J_iret rfl dX2_kindOf_9 (by exact hq)
theorem t_of {E : jEnv} {α : Nat → Nat} {σ : tS} {Q : Option Value → tS → Prop} {many : Nat} {wide high bl : Int} {G : Nat → Nat → Int} {f k : Nat} (hS : tSh many wide high bl G σ) (hO : shOK many wide high bl G) (hf : f < many) (hk : k < 7) (hq : Q (some (.int (zI (G f k)))) σ) : jX2_of E α 0 [some (.ref (α 0)), some (.int (zI (f : Nat))), some (.int (zI (k : Nat)))] [] σ Q := by
  have := hO.s
  refine J_aload_n dX2_of_0 rfl ?_
  refine TG_given dX2_of_1 ?_
  refine J_bipush (zI 7) dX2_of_4 rfl ?_
  refine J_iload_n dX2_of_6 rfl ?_
  refine J_imul_z dX2_of_7 ?_
  refine J_iload_n dX2_of_8 rfl ?_
  refine J_iadd_z dX2_of_9 ?_
  refine TJ_iald 12 (((7 * f) + k)) ⟨rfl, rfl, by decide⟩ (by omega) (show ((7 * f) + k) < 56 by omega) dX2_of_10 ?_
  refine J_top (zI (G f k)) (hS.2.2.2.2 f k hf hk) ?_
  exact J_iret rfl dX2_of_11 (by exact hq)
theorem t_leftOf {E : jEnv} {α : Nat → Nat} {σ : tS} {Q : Option Value → tS → Prop} {many : Nat} {wide high bl : Int} {G : Nat → Nat → Int} {f : Nat} (hS : tSh many wide high bl G σ) (hO : shOK many wide high bl G) (hf : f < many) (hq : Q (some (.int (zI (mLf G f)))) σ) : jX2_leftOf E α 0 [some (.ref (α 0)), some (.int (zI (f : Nat)))] [] σ Q := by
  have := hO.g hf
  refine J_aload_n dX2_leftOf_0 rfl ?_
  refine J_iload_n dX2_leftOf_1 rfl ?_
  refine TC_X2_kindOf (by decide) (Nat.le_of_ble_eq_true rfl) dX2_leftOf_2 ?_
  refine t_kindOf hS hO (by omega) ?_
  refine J_ri ?_
  refine J_iconst (zI 3) dX2_leftOf_5 rfl ?_
  refine J_icmp_ne_z (tgt := 13) dX2_leftOf_6 (by decide) (by unfold zR; omega) (by unfold zR; omega) (fun c6 => ?_) (fun c6 => ?_)
  · skip
    refine J_aload_n dX2_leftOf_13 rfl ?_
    refine J_iload_n dX2_leftOf_14 rfl ?_
    refine J_iconst (zI 3) dX2_leftOf_15 rfl ?_
    refine TC_X2_of (by decide) (Nat.le_of_ble_eq_true rfl) dX2_leftOf_16 ?_
    refine t_of (k := 3) hS hO (by omega) (by decide) ?_
    refine J_ri ?_
    exact J_iret rfl dX2_leftOf_19 (by exact qz hq (by unfold mLf; split <;> omega))
  · skip
    refine J_iconst (zI 0) dX2_leftOf_9 rfl ?_
    refine J_goto (tgt := 19) dX2_leftOf_10 (by decide) ?_
    exact J_iret rfl dX2_leftOf_19 (by exact qz hq (by unfold mLf; split <;> omega))
theorem t_aboveOf {E : jEnv} {α : Nat → Nat} {σ : tS} {Q : Option Value → tS → Prop} {many : Nat} {wide high bl : Int} {G : Nat → Nat → Int} {f : Nat} (hS : tSh many wide high bl G σ) (hO : shOK many wide high bl G) (hf : f < many) (hq : Q (some (.int (zI (mAb G f)))) σ) : jX2_aboveOf E α 0 [some (.ref (α 0)), some (.int (zI (f : Nat)))] [] σ Q := by
  have := hO.g hf
  refine J_aload_n dX2_aboveOf_0 rfl ?_
  refine J_iload_n dX2_aboveOf_1 rfl ?_
  refine TC_X2_kindOf (by decide) (Nat.le_of_ble_eq_true rfl) dX2_aboveOf_2 ?_
  refine t_kindOf hS hO (by omega) ?_
  refine J_ri ?_
  refine J_iconst (zI 3) dX2_aboveOf_5 rfl ?_
  refine J_icmp_ne_z (tgt := 13) dX2_aboveOf_6 (by decide) (by unfold zR; omega) (by unfold zR; omega) (fun c6 => ?_) (fun c6 => ?_)
  · skip
    refine J_aload_n dX2_aboveOf_13 rfl ?_
    refine J_iload_n dX2_aboveOf_14 rfl ?_
    refine J_iconst (zI 4) dX2_aboveOf_15 rfl ?_
    refine TC_X2_of (by decide) (Nat.le_of_ble_eq_true rfl) dX2_aboveOf_16 ?_
    refine t_of (k := 4) hS hO (by omega) (by decide) ?_
    refine J_ri ?_
    exact J_iret rfl dX2_aboveOf_19 (by exact qz hq (by unfold mAb; split <;> omega))
  · skip
    refine J_iconst (zI 0) dX2_aboveOf_9 rfl ?_
    refine J_goto (tgt := 19) dX2_aboveOf_10 (by decide) ?_
    exact J_iret rfl dX2_aboveOf_19 (by exact qz hq (by unfold mAb; split <;> omega))
theorem t_across {E : jEnv} {α : Nat → Nat} {σ : tS} {Q : Option Value → tS → Prop} {many : Nat} {wide high bl : Int} {G : Nat → Nat → Int} {f : Nat} (hS : tSh many wide high bl G σ) (hO : shOK many wide high bl G) (hf : f < many) (hq : Q (some (.int (zI (mAc G f)))) σ) : jX2_across E α 0 [some (.ref (α 0)), some (.int (zI (f : Nat)))] [] σ Q := by
  have := hO.g hf
  refine J_aload_n dX2_across_0 rfl ?_
  refine J_iload_n dX2_across_1 rfl ?_
  refine TC_X2_kindOf (by decide) (Nat.le_of_ble_eq_true rfl) dX2_across_2 ?_
  refine t_kindOf hS hO (by omega) ?_
  refine J_ri ?_
  refine J_iconst (zI 3) dX2_across_5 rfl ?_
  refine J_icmp_ne_z (tgt := 18) dX2_across_6 (by decide) (by unfold zR; omega) (by unfold zR; omega) (fun c6 => ?_) (fun c6 => ?_)
  · skip
    refine J_aload_n dX2_across_18 rfl ?_
    refine J_iload_n dX2_across_19 rfl ?_
    refine J_iconst (zI 1) dX2_across_20 rfl ?_
    refine TC_X2_of (by decide) (Nat.le_of_ble_eq_true rfl) dX2_across_21 ?_
    refine t_of (k := 1) hS hO (by omega) (by decide) ?_
    refine J_ri ?_
    refine J_aload_n dX2_across_24 rfl ?_
    refine J_iload_n dX2_across_25 rfl ?_
    refine J_iconst (zI 3) dX2_across_26 rfl ?_
    refine TC_X2_of (by decide) (Nat.le_of_ble_eq_true rfl) dX2_across_27 ?_
    refine t_of (k := 3) hS hO (by omega) (by decide) ?_
    refine J_ri ?_
    refine J_isub_z dX2_across_30 ?_
    refine J_aload_n dX2_across_31 rfl ?_
    refine J_iload_n dX2_across_32 rfl ?_
    refine J_iconst (zI 5) dX2_across_33 rfl ?_
    refine TC_X2_of (by decide) (Nat.le_of_ble_eq_true rfl) dX2_across_34 ?_
    refine t_of (k := 5) hS hO (by omega) (by decide) ?_
    refine J_ri ?_
    refine J_isub_z dX2_across_37 ?_
    exact J_iret rfl dX2_across_38 (by exact qz hq (by unfold mAc; split <;> omega))
  · skip
    refine J_aload_n dX2_across_9 rfl ?_
    refine J_iload_n dX2_across_10 rfl ?_
    refine J_iconst (zI 1) dX2_across_11 rfl ?_
    refine TC_X2_of (by decide) (Nat.le_of_ble_eq_true rfl) dX2_across_12 ?_
    refine t_of (k := 1) hS hO (by omega) (by decide) ?_
    refine J_ri ?_
    refine J_goto (tgt := 38) dX2_across_15 (by decide) ?_
    exact J_iret rfl dX2_across_38 (by exact qz hq (by unfold mAc; split <;> omega))
theorem t_down {E : jEnv} {α : Nat → Nat} {σ : tS} {Q : Option Value → tS → Prop} {many : Nat} {wide high bl : Int} {G : Nat → Nat → Int} {f : Nat} (hS : tSh many wide high bl G σ) (hO : shOK many wide high bl G) (hf : f < many) (hq : Q (some (.int (zI (mDn G f)))) σ) : jX2_down E α 0 [some (.ref (α 0)), some (.int (zI (f : Nat)))] [] σ Q := by
  have := hO.g hf
  refine J_aload_n dX2_down_0 rfl ?_
  refine J_iload_n dX2_down_1 rfl ?_
  refine TC_X2_kindOf (by decide) (Nat.le_of_ble_eq_true rfl) dX2_down_2 ?_
  refine t_kindOf hS hO (by omega) ?_
  refine J_ri ?_
  refine J_iconst (zI 3) dX2_down_5 rfl ?_
  refine J_icmp_ne_z (tgt := 18) dX2_down_6 (by decide) (by unfold zR; omega) (by unfold zR; omega) (fun c6 => ?_) (fun c6 => ?_)
  · skip
    refine J_aload_n dX2_down_18 rfl ?_
    refine J_iload_n dX2_down_19 rfl ?_
    refine J_iconst (zI 2) dX2_down_20 rfl ?_
    refine TC_X2_of (by decide) (Nat.le_of_ble_eq_true rfl) dX2_down_21 ?_
    refine t_of (k := 2) hS hO (by omega) (by decide) ?_
    refine J_ri ?_
    refine J_aload_n dX2_down_24 rfl ?_
    refine J_iload_n dX2_down_25 rfl ?_
    refine J_iconst (zI 4) dX2_down_26 rfl ?_
    refine TC_X2_of (by decide) (Nat.le_of_ble_eq_true rfl) dX2_down_27 ?_
    refine t_of (k := 4) hS hO (by omega) (by decide) ?_
    refine J_ri ?_
    refine J_isub_z dX2_down_30 ?_
    refine J_aload_n dX2_down_31 rfl ?_
    refine J_iload_n dX2_down_32 rfl ?_
    refine J_bipush (zI 6) dX2_down_33 rfl ?_
    refine TC_X2_of (by decide) (Nat.le_of_ble_eq_true rfl) dX2_down_35 ?_
    refine t_of (k := 6) hS hO (by omega) (by decide) ?_
    refine J_ri ?_
    refine J_isub_z dX2_down_38 ?_
    exact J_iret rfl dX2_down_39 (by exact qz hq (by unfold mDn; split <;> omega))
  · skip
    refine J_aload_n dX2_down_9 rfl ?_
    refine J_iload_n dX2_down_10 rfl ?_
    refine J_iconst (zI 2) dX2_down_11 rfl ?_
    refine TC_X2_of (by decide) (Nat.le_of_ble_eq_true rfl) dX2_down_12 ?_
    refine t_of (k := 2) hS hO (by omega) (by decide) ?_
    refine J_ri ?_
    refine J_goto (tgt := 39) dX2_down_15 (by decide) ?_
    exact J_iret rfl dX2_down_39 (by exact qz hq (by unfold mDn; split <;> omega))
theorem t_edge {E : jEnv} {α : Nat → Nat} {σ : tS} {Q : Option Value → tS → Prop} {many : Nat} {wide high bl : Int} {G : Nat → Nat → Int} {f : Nat} (hS : tSh many wide high bl G σ) (hO : shOK many wide high bl G) (hf : f < many) (hq : Q (some (.int (zI (mEd bl G f)))) σ) : jX2_edge E α 0 [some (.ref (α 0)), some (.int (zI (f : Nat)))] [] σ Q := by
  have := hO.g hf
  have := hO.s
  refine J_aload_n dX2_edge_0 rfl ?_
  refine TG_bleed dX2_edge_1 ?_
  refine J_top (zI (bl)) hS.2.2.2.1 ?_
  refine J_aload_n dX2_edge_4 rfl ?_
  refine J_iload_n dX2_edge_5 rfl ?_
  refine TC_X2_kindOf (by decide) (Nat.le_of_ble_eq_true rfl) dX2_edge_6 ?_
  refine t_kindOf hS hO (by omega) ?_
  refine J_ri ?_
  refine J_iconst (zI 2) dX2_edge_9 rfl ?_
  refine J_icmp_ne_z (tgt := 17) dX2_edge_10 (by decide) (by unfold zR; omega) (by unfold zR; omega) (fun c10 => ?_) (fun c10 => ?_)
  · skip
    refine J_iconst (zI 0) dX2_edge_17 rfl ?_
    refine J_iadd_z dX2_edge_18 ?_
    exact J_iret rfl dX2_edge_19 (by exact qz hq (by unfold mEd; split <;> omega))
  · skip
    refine J_iconst (zI 1) dX2_edge_13 rfl ?_
    refine J_goto (tgt := 18) dX2_edge_14 (by decide) ?_
    refine J_iadd_z dX2_edge_18 ?_
    exact J_iret rfl dX2_edge_19 (by exact qz hq (by unfold mEd; split <;> omega))
theorem t_needX {E : jEnv} {α : Nat → Nat} {σ : tS} {Q : Option Value → tS → Prop} {many : Nat} {wide high bl : Int} {G : Nat → Nat → Int} {f : Nat} {t : Int} (hS : tSh many wide high bl G σ) (hO : shOK many wide high bl G) (hf : f < many) (ht : t = 0 ∨ t = 1) (hq : Q (some (.int (zI (mNX bl G f t)))) σ) : jX2_needX E α 0 [some (.ref (α 0)), some (.int (zI (f : Nat))), some (.int (zI (t)))] [] σ Q := by
  have := hO.g hf
  have := hO.s
  refine J_iconst (zI 2) dX2_needX_0 rfl ?_
  refine J_aload_n dX2_needX_1 rfl ?_
  refine J_iload_n dX2_needX_2 rfl ?_
  refine TC_X2_edge (by decide) (Nat.le_of_ble_eq_true rfl) dX2_needX_3 ?_
  refine t_edge hS hO (by omega) ?_
  refine J_ri ?_
  refine J_imul_z dX2_needX_6 ?_
  refine J_iload_n dX2_needX_7 rfl ?_
  refine J_if_ne_z (tgt := 19) dX2_needX_8 (by decide) (by unfold zR; omega) (fun c8 => ?_) (fun c8 => ?_)
  · skip
    refine J_aload_n dX2_needX_19 rfl ?_
    refine J_iload_n dX2_needX_20 rfl ?_
    refine TC_X2_down (by decide) (Nat.le_of_ble_eq_true rfl) dX2_needX_21 ?_
    refine t_down hS hO (by omega) ?_
    refine J_ri ?_
    refine J_iadd_z dX2_needX_24 ?_
    exact J_iret rfl dX2_needX_25 (by exact qz hq (by unfold mNX; split <;> omega))
  · skip
    refine J_aload_n dX2_needX_11 rfl ?_
    refine J_iload_n dX2_needX_12 rfl ?_
    refine TC_X2_across (by decide) (Nat.le_of_ble_eq_true rfl) dX2_needX_13 ?_
    refine t_across hS hO (by omega) ?_
    refine J_ri ?_
    refine J_goto (tgt := 24) dX2_needX_16 (by decide) ?_
    refine J_iadd_z dX2_needX_24 ?_
    exact J_iret rfl dX2_needX_25 (by exact qz hq (by unfold mNX; split <;> omega))
theorem t_needY {E : jEnv} {α : Nat → Nat} {σ : tS} {Q : Option Value → tS → Prop} {many : Nat} {wide high bl : Int} {G : Nat → Nat → Int} {f : Nat} {t : Int} (hS : tSh many wide high bl G σ) (hO : shOK many wide high bl G) (hf : f < many) (ht : t = 0 ∨ t = 1) (hq : Q (some (.int (zI (mNY bl G f t)))) σ) : jX2_needY E α 0 [some (.ref (α 0)), some (.int (zI (f : Nat))), some (.int (zI (t)))] [] σ Q := by
  have := hO.g hf
  have := hO.s
  refine J_aload_n dX2_needY_0 rfl ?_
  refine J_iload_n dX2_needY_1 rfl ?_
  refine J_iconst (zI 1) dX2_needY_2 rfl ?_
  refine J_iload_n dX2_needY_3 rfl ?_
  refine J_isub_z dX2_needY_4 ?_
  refine TC_X2_needX (by decide) (Nat.le_of_ble_eq_true rfl) dX2_needY_5 ?_
  refine t_needX hS hO (by omega) (by omega) ?_
  refine J_ri ?_
  exact J_iret rfl dX2_needY_8 (by (rw [← mNY_X ht] at hq; exact hq))
theorem t_isSet {E : jEnv} {α : Nat → Nat} {σ : tS} {Q : Option Value → tS → Prop} {many : Nat} {wide high bl : Int} {G : Nat → Nat → Int} {P : Nat → Nat → Int} {rule : Int} {f : Nat} (hS : tSh many wide high bl G σ) (hO : shOK many wide high bl G) (hP : tPl P rule σ) (hN : plOK many P rule) (hf : f < many) (h1 : 0 ≤ P f 0 → Q (some (.int (zI 1))) σ) (h0 : P f 0 = -1 → Q (some (.int (zI 0))) σ) : jX2_isSet E α 0 [some (.ref (α 0)), some (.int (zI (f : Nat)))] [] σ Q := by
  have := hO.s
  have := hN.1 f hf
  refine J_aload_n dX2_isSet_0 rfl ?_
  refine TG_now dX2_isSet_1 ?_
  refine J_iconst (zI 4) dX2_isSet_4 rfl ?_
  refine J_iload_n dX2_isSet_5 rfl ?_
  refine J_imul_z dX2_isSet_6 ?_
  refine J_iconst (zI 0) dX2_isSet_7 rfl ?_
  refine J_iadd_z dX2_isSet_8 ?_
  refine TJ_iald 23 (((4 * f) + 0)) ⟨rfl, rfl, by decide⟩ (by omega) (show ((4 * f) + 0) < 33 by omega) dX2_isSet_9 ?_
  refine J_top (zI (P f 0)) (hP.1 f 0 (by omega) (by decide)) ?_
  refine J_if_lt_z (tgt := 17) dX2_isSet_10 (by decide) (by unfold zR; omega) (fun c10 => ?_) (fun c10 => ?_)
  · skip
    refine J_iconst (zI 0) dX2_isSet_17 rfl ?_
    exact J_zret rfl dX2_isSet_18 rfl (by first | exact h1 (by omega) | exact h0 (by omega))
  · skip
    refine J_iconst (zI 1) dX2_isSet_13 rfl ?_
    refine J_goto (tgt := 18) dX2_isSet_14 (by decide) ?_
    exact J_zret rfl dX2_isSet_18 rfl (by first | exact h1 (by omega) | exact h0 (by omega))
theorem t_isFrame {E : jEnv} {α : Nat → Nat} {σ : tS} {Q : Option Value → tS → Prop} {many : Nat} {wide high bl : Int} {G : Nat → Nat → Int} {v : Int} (hS : tSh many wide high bl G σ) (hO : shOK many wide high bl G) (rv : zR v) (h1 : 0 ≤ v ∧ v < many → Q (some (.int (zI 1))) σ) (h0 : ¬ (0 ≤ v ∧ v < many) → Q (some (.int (zI 0))) σ) : jX2_isFrame E α 0 [some (.ref (α 0)), some (.int (zI (v)))] [] σ Q := by
  have := hO.s
  refine J_iload_n dX2_isFrame_0 rfl ?_
  refine J_iconst (zI 0) dX2_isFrame_1 rfl ?_
  refine J_aload_n dX2_isFrame_2 rfl ?_
  refine TG_frameMany dX2_isFrame_3 ?_
  refine J_top (zI (many)) hS.1 ?_
  refine J_iconst (zI 1) dX2_isFrame_6 rfl ?_
  refine J_isub_z dX2_isFrame_7 ?_
  refine TC_X2_in (by decide) (Nat.le_of_ble_eq_true rfl) dX2_isFrame_8 ?_
  refine t_in (by unfold zR at *; omega) (by unfold zR at *; omega) (by unfold zR at *; omega) (fun b8 => ?_) (fun b8 => ?_)
  · refine J_ri ?_
    exact J_zret rfl dX2_isFrame_11 rfl (by first | exact h1 (by omega) | exact h0 (by omega))
  · refine J_ri ?_
    exact J_zret rfl dX2_isFrame_11 rfl (by first | exact h1 (by omega) | exact h0 (by omega))
def mTell (bl : Int) (G : Nat → Nat → Int) (f : Nat) (k : Nat) : Int := match k with
  | 0 => G f 0
  | 1 => mAc G f
  | 2 => mDn G f
  | 3 => mNX bl G f 0
  | _ => mNY bl G f 0
theorem t_frameTells0 {E : jEnv} {α : Nat → Nat} {σ : tS} {Q : Option Value → tS → Prop} {many : Nat} {wide high bl : Int} {G : Nat → Nat → Int} {f : Nat} (hS : tSh many wide high bl G σ) (hO : shOK many wide high bl G) (hf : f < many) (hq : Q (some (.int (zI (mTell bl G f 0)))) σ) : jX2_frameTells E α 0 [some (.ref (α 0)), some (.int (zI (f : Nat))), some (.int (zI 0))] [] σ Q := by
  have := hO.s
  refine J_iload_n dX2_frameTells_0 rfl ?_
  refine J_tableIn (tgt := 32) (31) dX2_frameTells_1 (by decide) (by decide) rfl (by decide) ?_
  refine J_aload_n dX2_frameTells_32 rfl ?_
  refine J_iload_n dX2_frameTells_33 rfl ?_
  refine TC_X2_kindOf (by decide) (Nat.le_of_ble_eq_true rfl) dX2_frameTells_34 ?_
  refine t_kindOf hS hO (by omega) ?_
  refine J_ri ?_
  exact J_iret rfl dX2_frameTells_37 (by exact hq)
theorem t_frameTells1 {E : jEnv} {α : Nat → Nat} {σ : tS} {Q : Option Value → tS → Prop} {many : Nat} {wide high bl : Int} {G : Nat → Nat → Int} {f : Nat} (hS : tSh many wide high bl G σ) (hO : shOK many wide high bl G) (hf : f < many) (hq : Q (some (.int (zI (mTell bl G f 1)))) σ) : jX2_frameTells E α 0 [some (.ref (α 0)), some (.int (zI (f : Nat))), some (.int (zI 1))] [] σ Q := by
  have := hO.s
  refine J_iload_n dX2_frameTells_0 rfl ?_
  refine J_tableIn (tgt := 38) (37) dX2_frameTells_1 (by decide) (by decide) rfl (by decide) ?_
  refine J_aload_n dX2_frameTells_38 rfl ?_
  refine J_iload_n dX2_frameTells_39 rfl ?_
  refine TC_X2_across (by decide) (Nat.le_of_ble_eq_true rfl) dX2_frameTells_40 ?_
  refine t_across hS hO (by omega) ?_
  refine J_ri ?_
  exact J_iret rfl dX2_frameTells_43 (by exact hq)
theorem t_frameTells2 {E : jEnv} {α : Nat → Nat} {σ : tS} {Q : Option Value → tS → Prop} {many : Nat} {wide high bl : Int} {G : Nat → Nat → Int} {f : Nat} (hS : tSh many wide high bl G σ) (hO : shOK many wide high bl G) (hf : f < many) (hq : Q (some (.int (zI (mTell bl G f 2)))) σ) : jX2_frameTells E α 0 [some (.ref (α 0)), some (.int (zI (f : Nat))), some (.int (zI 2))] [] σ Q := by
  have := hO.s
  refine J_iload_n dX2_frameTells_0 rfl ?_
  refine J_tableIn (tgt := 44) (43) dX2_frameTells_1 (by decide) (by decide) rfl (by decide) ?_
  refine J_aload_n dX2_frameTells_44 rfl ?_
  refine J_iload_n dX2_frameTells_45 rfl ?_
  refine TC_X2_down (by decide) (Nat.le_of_ble_eq_true rfl) dX2_frameTells_46 ?_
  refine t_down hS hO (by omega) ?_
  refine J_ri ?_
  exact J_iret rfl dX2_frameTells_49 (by exact hq)
theorem t_frameTells3 {E : jEnv} {α : Nat → Nat} {σ : tS} {Q : Option Value → tS → Prop} {many : Nat} {wide high bl : Int} {G : Nat → Nat → Int} {f : Nat} (hS : tSh many wide high bl G σ) (hO : shOK many wide high bl G) (hf : f < many) (hq : Q (some (.int (zI (mTell bl G f 3)))) σ) : jX2_frameTells E α 0 [some (.ref (α 0)), some (.int (zI (f : Nat))), some (.int (zI 3))] [] σ Q := by
  have := hO.s
  refine J_iload_n dX2_frameTells_0 rfl ?_
  refine J_tableIn (tgt := 50) (49) dX2_frameTells_1 (by decide) (by decide) rfl (by decide) ?_
  refine J_aload_n dX2_frameTells_50 rfl ?_
  refine J_iload_n dX2_frameTells_51 rfl ?_
  refine J_iconst (zI 0) dX2_frameTells_52 rfl ?_
  refine TC_X2_needX (by decide) (Nat.le_of_ble_eq_true rfl) dX2_frameTells_53 ?_
  refine t_needX hS hO (by omega) (by omega) ?_
  refine J_ri ?_
  exact J_iret rfl dX2_frameTells_56 (by exact hq)
theorem t_frameTells4 {E : jEnv} {α : Nat → Nat} {σ : tS} {Q : Option Value → tS → Prop} {many : Nat} {wide high bl : Int} {G : Nat → Nat → Int} {f : Nat} (hS : tSh many wide high bl G σ) (hO : shOK many wide high bl G) (hf : f < many) (hq : Q (some (.int (zI (mTell bl G f 4)))) σ) : jX2_frameTells E α 0 [some (.ref (α 0)), some (.int (zI (f : Nat))), some (.int (zI 4))] [] σ Q := by
  have := hO.s
  refine J_iload_n dX2_frameTells_0 rfl ?_
  refine J_tableOut (tgt := 57) dX2_frameTells_1 (by decide) (by decide) ?_
  refine J_aload_n dX2_frameTells_57 rfl ?_
  refine J_iload_n dX2_frameTells_58 rfl ?_
  refine J_iconst (zI 0) dX2_frameTells_59 rfl ?_
  refine TC_X2_needY (by decide) (Nat.le_of_ble_eq_true rfl) dX2_frameTells_60 ?_
  refine t_needY hS hO (by omega) (by omega) ?_
  refine J_ri ?_
  exact J_iret rfl dX2_frameTells_63 (by exact hq)
theorem t_frameTells {E : jEnv} {α : Nat → Nat} {σ : tS} {Q : Option Value → tS → Prop} {many : Nat} {wide high bl : Int} {G : Nat → Nat → Int} {f k : Nat} (hS : tSh many wide high bl G σ) (hO : shOK many wide high bl G) (hf : f < many) (hk : k < 5) (hq : Q (some (.int (zI (mTell bl G f k)))) σ) : jX2_frameTells E α 0 [some (.ref (α 0)), some (.int (zI f)), some (.int (zI k))] [] σ Q := by
  match k, hk with
  | 0, _ => exact t_frameTells0 hS hO hf hq
  | 1, _ => exact t_frameTells1 hS hO hf hq
  | 2, _ => exact t_frameTells2 hS hO hf hq
  | 3, _ => exact t_frameTells3 hS hO hf hq
  | 4, _ => exact t_frameTells4 hS hO hf hq
theorem t_turns {E : jEnv} {α : Nat → Nat} {σ : tS} {Q : Option Value → tS → Prop} {many : Nat} {wide high bl : Int} {G : Nat → Nat → Int} {f : Nat} (hS : tSh many wide high bl G σ) (hO : shOK many wide high bl G) (hf : f < many) (hq : ∀ z, (z = 1 ∧ (G f 0 = 1 ∨ G f 0 = 3)) ∨ (z = 2 ∧ ¬ (G f 0 = 1 ∨ G f 0 = 3)) → Q (some (.int (zI z))) σ) : jX2_turns E α 0 [some (.ref (α 0)), some (.int (zI (f : Nat)))] [] σ Q := by
  have := hO.g hf
  refine J_aload_n dX2_turns_0 rfl ?_
  refine J_iload_n dX2_turns_1 rfl ?_
  refine TC_X2_kindOf (by decide) (Nat.le_of_ble_eq_true rfl) dX2_turns_2 ?_
  refine t_kindOf hS hO (by omega) ?_
  refine J_ri ?_
  refine J_iconst (zI 1) dX2_turns_5 rfl ?_
  refine J_icmp_eq_z (tgt := 18) dX2_turns_6 (by decide) (by unfold zR; omega) (by unfold zR; omega) (fun c6 => ?_) (fun c6 => ?_)
  · skip
    refine J_iconst (zI 1) dX2_turns_18 rfl ?_
    refine J_goto (tgt := 23) dX2_turns_19 (by decide) ?_
    exact J_iret rfl dX2_turns_23 (by exact hq _ (by omega))
  · skip
    refine J_aload_n dX2_turns_9 rfl ?_
    refine J_iload_n dX2_turns_10 rfl ?_
    refine TC_X2_kindOf (by decide) (Nat.le_of_ble_eq_true rfl) dX2_turns_11 ?_
    refine t_kindOf hS hO (by omega) ?_
    refine J_ri ?_
    refine J_iconst (zI 3) dX2_turns_14 rfl ?_
    refine J_icmp_ne_z (tgt := 22) dX2_turns_15 (by decide) (by unfold zR; omega) (by unfold zR; omega) (fun c15 => ?_) (fun c15 => ?_)
    · skip
      refine J_iconst (zI 2) dX2_turns_22 rfl ?_
      exact J_iret rfl dX2_turns_23 (by exact hq _ (by omega))
    · skip
      refine J_iconst (zI 1) dX2_turns_18 rfl ?_
      refine J_goto (tgt := 23) dX2_turns_19 (by decide) ?_
      exact J_iret rfl dX2_turns_23 (by exact hq _ (by omega))
theorem t_weight {E : jEnv} {α : Nat → Nat} {σ : tS} {Q : Option Value → tS → Prop} {many : Nat} {wide high bl : Int} {G : Nat → Nat → Int} {f : Nat} {o : Int} (hS : tSh many wide high bl G σ) (hO : shOK many wide high bl G) (hf : f < many) (ho : 0 ≤ o ∧ o ≤ 2) (hq : Q (some (.int (zI (mWt bl G f o)))) σ) : jX2_weight E α 0 [some (.ref (α 0)), some (.int (zI (f : Nat))), some (.int (zI (o))), none, none] [] σ Q := by
  have := mNX_b hO hf 0
  have := mNY_b hO hf 0
  refine J_aload_n dX2_weight_0 rfl ?_
  refine J_iload_n dX2_weight_1 rfl ?_
  refine J_iconst (zI 0) dX2_weight_2 rfl ?_
  refine TC_X2_needX (by decide) (Nat.le_of_ble_eq_true rfl) dX2_weight_3 ?_
  refine t_needX hS hO (by omega) (by omega) ?_
  refine J_ri ?_
  refine J_istore_n dX2_weight_6 rfl (by decide) _ rfl ?_
  refine J_aload_n dX2_weight_7 rfl ?_
  refine J_iload_n dX2_weight_8 rfl ?_
  refine J_iconst (zI 0) dX2_weight_9 rfl ?_
  refine TC_X2_needY (by decide) (Nat.le_of_ble_eq_true rfl) dX2_weight_10 ?_
  refine t_needY hS hO (by omega) (by omega) ?_
  refine J_ri ?_
  refine J_istore dX2_weight_13 rfl (by decide) _ rfl ?_
  refine J_iload_n dX2_weight_15 rfl ?_
  refine J_if_ne_z (tgt := 23) dX2_weight_16 (by decide) (by unfold zR; omega) (fun c16 => ?_) (fun c16 => ?_)
  · skip
    refine J_iload_n dX2_weight_23 rfl ?_
    refine J_iconst (zI 1) dX2_weight_24 rfl ?_
    refine J_icmp_ne_z (tgt := 35) dX2_weight_25 (by decide) (by unfold zR; omega) (by unfold zR; omega) (fun c25 => ?_) (fun c25 => ?_)
    · skip
      refine J_iload_n dX2_weight_35 rfl ?_
      refine J_iload dX2_weight_36 rfl ?_
      refine J_icmp_le_z (tgt := 45) dX2_weight_38 (by decide) (by unfold zR; omega) (by unfold zR; omega) (fun c38 => ?_) (fun c38 => ?_)
      · skip
        refine J_iload dX2_weight_45 rfl ?_
        exact J_iret rfl dX2_weight_47 (by exact qz hq (by unfold mWt; (repeat' split) <;> first | rfl | omega))
      · skip
        refine J_iload_n dX2_weight_41 rfl ?_
        refine J_goto (tgt := 47) dX2_weight_42 (by decide) ?_
        exact J_iret rfl dX2_weight_47 (by exact qz hq (by unfold mWt; (repeat' split) <;> first | rfl | omega))
    · skip
      refine J_iload_n dX2_weight_28 rfl ?_
      refine J_iload dX2_weight_29 rfl ?_
      refine J_imul_z dX2_weight_31 ?_
      refine J_goto (tgt := 47) dX2_weight_32 (by decide) ?_
      exact J_iret rfl dX2_weight_47 (by exact qz hq (by unfold mWt; (repeat' split) <;> first | rfl | omega))
  · skip
    refine J_iconst (zI 0) dX2_weight_19 rfl ?_
    refine J_goto (tgt := 47) dX2_weight_20 (by decide) ?_
    exact J_iret rfl dX2_weight_47 (by exact qz hq (by unfold mWt; (repeat' split) <;> first | rfl | omega))
theorem t_clamped {E : jEnv} {α : Nat → Nat} {σ : tS} {Q : Option Value → tS → Prop} {v m : Int} (rv : zR v) (rm : zR m) (hq : Q (some (.int (zI (mCl v m)))) σ) : jX2_clamped E α 0 [some (.int (zI (v))), some (.int (zI (m)))] [] σ Q := by
  refine J_iload_n dX2_clamped_0 rfl ?_
  refine J_if_ge_z (tgt := 8) dX2_clamped_1 (by decide) (by unfold zR at *; omega) (fun c1 => ?_) (fun c1 => ?_)
  · skip
    refine J_iload_n dX2_clamped_8 rfl ?_
    refine J_iload_n dX2_clamped_9 rfl ?_
    refine J_icmp_le_z (tgt := 17) dX2_clamped_10 (by decide) (by unfold zR at *; omega) (by unfold zR at *; omega) (fun c10 => ?_) (fun c10 => ?_)
    · skip
      refine J_iload_n dX2_clamped_17 rfl ?_
      exact J_iret rfl dX2_clamped_18 (by exact qz hq (by unfold mCl; (repeat' split) <;> omega))
    · skip
      refine J_iload_n dX2_clamped_13 rfl ?_
      refine J_goto (tgt := 18) dX2_clamped_14 (by decide) ?_
      exact J_iret rfl dX2_clamped_18 (by exact qz hq (by unfold mCl; (repeat' split) <;> omega))
  · skip
    refine J_iconst (zI 0) dX2_clamped_4 rfl ?_
    refine J_goto (tgt := 18) dX2_clamped_5 (by decide) ?_
    exact J_iret rfl dX2_clamped_18 (by exact qz hq (by unfold mCl; (repeat' split) <;> omega))
