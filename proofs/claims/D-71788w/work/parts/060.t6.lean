set_option maxRecDepth 100000
/-! the twin: rules -/
/-- the k-th free rectangle is r -/
def tRc (k : Nat) (r : rct) (σ : tS) : Prop := σ.2.1 28 k = zI r.1 ∧ σ.2.1 29 k = zI r.2.1 ∧ σ.2.1 30 k = zI r.2.2.1 ∧ σ.2.1 31 k = zI r.2.2.2
theorem t_first {E : jEnv} {α : Nat → Nat} {σ : tS} {Q : Option Value → tS → Prop} {many : Nat} {wide high bl : Int} {G : Nat → Nat → Int} {rule t : Int} {k f : Nat} {r : rct} (hS : tSh many wide high bl G σ) (hO : shOK many wide high bl G) (hf : f < many) (ht : t = 0 ∨ t = 1) (hk : k < 4096) (hR : tRc k r σ) (hr : rOK r) (rr : 0 ≤ rule ∧ rule ≤ 3) (hq : Q (some (.int (zI (mFirst bl G rule f t r)))) σ) : jX2_first E α 0 [some (.ref (α 0)), some (.int (zI (rule))), some (.int (zI (k : Nat))), some (.int (zI (f : Nat))), some (.int (zI (t))), none, none] [] σ Q := by
  have := hO.s
  have := mNX_b hO hf t
  have := mNY_b hO hf t
  have := hr
  unfold rOK at this
  refine J_aload_n dX2_first_0 rfl ?_
  refine TG_freeW dX2_first_1 ?_
  refine J_iload_n dX2_first_4 rfl ?_
  refine TJ_iald 30 (k) ⟨rfl, rfl, by decide⟩ (by omega) (show k < 4096 by omega) dX2_first_5 ?_
  refine J_top (zI (r.2.2.1)) (hR.2.2.1) ?_
  refine J_aload_n dX2_first_6 rfl ?_
  refine J_iload_n dX2_first_7 rfl ?_
  refine J_iload dX2_first_8 rfl ?_
  refine TC_X2_needX (by decide) (Nat.le_of_ble_eq_true rfl) dX2_first_10 ?_
  refine t_needX hS hO (by omega) (by omega) ?_
  refine J_ri ?_
  refine J_isub_z dX2_first_13 ?_
  refine J_istore dX2_first_14 rfl (by decide) _ rfl ?_
  refine J_aload_n dX2_first_16 rfl ?_
  refine TG_freeH dX2_first_17 ?_
  refine J_iload_n dX2_first_20 rfl ?_
  refine TJ_iald 31 (k) ⟨rfl, rfl, by decide⟩ (by omega) (show k < 4096 by omega) dX2_first_21 ?_
  refine J_top (zI (r.2.2.2)) (hR.2.2.2) ?_
  refine J_aload_n dX2_first_22 rfl ?_
  refine J_iload_n dX2_first_23 rfl ?_
  refine J_iload dX2_first_24 rfl ?_
  refine TC_X2_needY (by decide) (Nat.le_of_ble_eq_true rfl) dX2_first_26 ?_
  refine t_needY hS hO (by omega) (by omega) ?_
  refine J_ri ?_
  refine J_isub_z dX2_first_29 ?_
  refine J_istore dX2_first_30 rfl (by decide) _ rfl ?_
  refine J_iload_n dX2_first_32 rfl ?_
  rcases (show rule = 0 ∨ rule = 1 ∨ rule = 2 ∨ rule = 3 by omega) with rfl | rfl | rfl | rfl
  · skip
    refine J_tableIn (tgt := 60) (27) dX2_first_33 (by decide) (by decide) rfl (by decide) ?_
    refine J_iload dX2_first_60 rfl ?_
    refine J_iload dX2_first_62 rfl ?_
    refine J_icmp_ge_z (tgt := 72) dX2_first_64 (by decide) (by unfold zR; omega) (by unfold zR; omega) (fun c64 => ?_) (fun c64 => ?_)
    · skip
      refine J_iload dX2_first_72 rfl ?_
      exact J_iret rfl dX2_first_74 (by exact qz hq (by unfold mFirst; first | (simp; done) | (simp; omega)))
    · skip
      refine J_iload dX2_first_67 rfl ?_
      refine J_goto (tgt := 74) dX2_first_69 (by decide) ?_
      exact J_iret rfl dX2_first_74 (by exact qz hq (by unfold mFirst; first | (simp; done) | (simp; omega)))
  · skip
    refine J_tableIn (tgt := 75) (42) dX2_first_33 (by decide) (by decide) rfl (by decide) ?_
    refine J_aload_n dX2_first_75 rfl ?_
    refine TG_freeW dX2_first_76 ?_
    refine J_iload_n dX2_first_79 rfl ?_
    refine TJ_iald 30 (k) ⟨rfl, rfl, by decide⟩ (by omega) (show k < 4096 by omega) dX2_first_80 ?_
    refine J_top (zI (r.2.2.1)) (hR.2.2.1) ?_
    refine J_aload_n dX2_first_81 rfl ?_
    refine TG_freeH dX2_first_82 ?_
    refine J_iload_n dX2_first_85 rfl ?_
    refine TJ_iald 31 (k) ⟨rfl, rfl, by decide⟩ (by omega) (show k < 4096 by omega) dX2_first_86 ?_
    refine J_top (zI (r.2.2.2)) (hR.2.2.2) ?_
    refine J_imul_z dX2_first_87 ?_
    refine J_aload_n dX2_first_88 rfl ?_
    refine J_iload_n dX2_first_89 rfl ?_
    refine J_iload dX2_first_90 rfl ?_
    refine TC_X2_needX (by decide) (Nat.le_of_ble_eq_true rfl) dX2_first_92 ?_
    refine t_needX hS hO (by omega) (by omega) ?_
    refine J_ri ?_
    refine J_aload_n dX2_first_95 rfl ?_
    refine J_iload_n dX2_first_96 rfl ?_
    refine J_iload dX2_first_97 rfl ?_
    refine TC_X2_needY (by decide) (Nat.le_of_ble_eq_true rfl) dX2_first_99 ?_
    refine t_needY hS hO (by omega) (by omega) ?_
    refine J_ri ?_
    refine J_imul_z dX2_first_102 ?_
    refine J_isub_z dX2_first_103 ?_
    exact J_iret rfl dX2_first_104 (by exact qz hq (by unfold mFirst; first | (simp; done) | (simp; omega)))
  · skip
    refine J_tableIn (tgt := 105) (72) dX2_first_33 (by decide) (by decide) rfl (by decide) ?_
    refine J_aload_n dX2_first_105 rfl ?_
    refine TG_freeY dX2_first_106 ?_
    refine J_iload_n dX2_first_109 rfl ?_
    refine TJ_iald 29 (k) ⟨rfl, rfl, by decide⟩ (by omega) (show k < 4096 by omega) dX2_first_110 ?_
    refine J_top (zI (r.2.1)) (hR.2.1) ?_
    refine J_aload_n dX2_first_111 rfl ?_
    refine J_iload_n dX2_first_112 rfl ?_
    refine J_iload dX2_first_113 rfl ?_
    refine TC_X2_needY (by decide) (Nat.le_of_ble_eq_true rfl) dX2_first_115 ?_
    refine t_needY hS hO (by omega) (by omega) ?_
    refine J_ri ?_
    refine J_iadd_z dX2_first_118 ?_
    exact J_iret rfl dX2_first_119 (by exact qz hq (by unfold mFirst; first | (simp; done) | (simp; omega)))
  · skip
    refine J_tableOut (tgt := 120) dX2_first_33 (by decide) (by decide) ?_
    refine J_iload dX2_first_120 rfl ?_
    refine J_iload dX2_first_122 rfl ?_
    refine J_icmp_le_z (tgt := 132) dX2_first_124 (by decide) (by unfold zR; omega) (by unfold zR; omega) (fun c124 => ?_) (fun c124 => ?_)
    · skip
      refine J_iload dX2_first_132 rfl ?_
      exact J_iret rfl dX2_first_134 (by exact qz hq (by unfold mFirst; first | (simp; done) | (simp; omega)))
    · skip
      refine J_iload dX2_first_127 rfl ?_
      refine J_goto (tgt := 134) dX2_first_129 (by decide) ?_
      exact J_iret rfl dX2_first_134 (by exact qz hq (by unfold mFirst; first | (simp; done) | (simp; omega)))
theorem t_second {E : jEnv} {α : Nat → Nat} {σ : tS} {Q : Option Value → tS → Prop} {many : Nat} {wide high bl : Int} {G : Nat → Nat → Int} {rule t : Int} {k f : Nat} {r : rct} (hS : tSh many wide high bl G σ) (hO : shOK many wide high bl G) (hf : f < many) (ht : t = 0 ∨ t = 1) (hk : k < 4096) (hR : tRc k r σ) (hr : rOK r) (rr : 0 ≤ rule ∧ rule ≤ 3) (hq : Q (some (.int (zI (mSecond bl G rule f t r)))) σ) : jX2_second E α 0 [some (.ref (α 0)), some (.int (zI (rule))), some (.int (zI (k : Nat))), some (.int (zI (f : Nat))), some (.int (zI (t))), none, none] [] σ Q := by
  have := hO.s
  have := mNX_b hO hf t
  have := mNY_b hO hf t
  have := hr
  unfold rOK at this
  refine J_aload_n dX2_second_0 rfl ?_
  refine TG_freeW dX2_second_1 ?_
  refine J_iload_n dX2_second_4 rfl ?_
  refine TJ_iald 30 (k) ⟨rfl, rfl, by decide⟩ (by omega) (show k < 4096 by omega) dX2_second_5 ?_
  refine J_top (zI (r.2.2.1)) (hR.2.2.1) ?_
  refine J_aload_n dX2_second_6 rfl ?_
  refine J_iload_n dX2_second_7 rfl ?_
  refine J_iload dX2_second_8 rfl ?_
  refine TC_X2_needX (by decide) (Nat.le_of_ble_eq_true rfl) dX2_second_10 ?_
  refine t_needX hS hO (by omega) (by omega) ?_
  refine J_ri ?_
  refine J_isub_z dX2_second_13 ?_
  refine J_istore dX2_second_14 rfl (by decide) _ rfl ?_
  refine J_aload_n dX2_second_16 rfl ?_
  refine TG_freeH dX2_second_17 ?_
  refine J_iload_n dX2_second_20 rfl ?_
  refine TJ_iald 31 (k) ⟨rfl, rfl, by decide⟩ (by omega) (show k < 4096 by omega) dX2_second_21 ?_
  refine J_top (zI (r.2.2.2)) (hR.2.2.2) ?_
  refine J_aload_n dX2_second_22 rfl ?_
  refine J_iload_n dX2_second_23 rfl ?_
  refine J_iload dX2_second_24 rfl ?_
  refine TC_X2_needY (by decide) (Nat.le_of_ble_eq_true rfl) dX2_second_26 ?_
  refine t_needY hS hO (by omega) (by omega) ?_
  refine J_ri ?_
  refine J_isub_z dX2_second_29 ?_
  refine J_istore dX2_second_30 rfl (by decide) _ rfl ?_
  refine J_iload_n dX2_second_32 rfl ?_
  refine J_if_ne_z (tgt := 53) dX2_second_33 (by decide) (by unfold zR; omega) (fun c33 => ?_) (fun c33 => ?_)
  · skip
    refine J_iload_n dX2_second_53 rfl ?_
    refine J_iconst (zI 2) dX2_second_54 rfl ?_
    refine J_icmp_ne_z (tgt := 67) dX2_second_55 (by decide) (by unfold zR; omega) (by unfold zR; omega) (fun c55 => ?_) (fun c55 => ?_)
    · skip
      refine J_iload dX2_second_67 rfl ?_
      refine J_iload dX2_second_69 rfl ?_
      refine J_icmp_ge_z (tgt := 79) dX2_second_71 (by decide) (by unfold zR; omega) (by unfold zR; omega) (fun c71 => ?_) (fun c71 => ?_)
      · skip
        refine J_iload dX2_second_79 rfl ?_
        exact J_iret rfl dX2_second_81 (by exact qz hq (by simp only [mSecond]; (repeat' split) <;> first | rfl | omega))
      · skip
        refine J_iload dX2_second_74 rfl ?_
        refine J_goto (tgt := 81) dX2_second_76 (by decide) ?_
        exact J_iret rfl dX2_second_81 (by exact qz hq (by simp only [mSecond]; (repeat' split) <;> first | rfl | omega))
    · skip
      refine J_aload_n dX2_second_58 rfl ?_
      refine TG_freeX dX2_second_59 ?_
      refine J_iload_n dX2_second_62 rfl ?_
      refine TJ_iald 28 (k) ⟨rfl, rfl, by decide⟩ (by omega) (show k < 4096 by omega) dX2_second_63 ?_
      refine J_top (zI (r.1)) (hR.1) ?_
      refine J_goto (tgt := 81) dX2_second_64 (by decide) ?_
      exact J_iret rfl dX2_second_81 (by exact qz hq (by simp only [mSecond]; (repeat' split) <;> first | rfl | omega))
  · skip
    refine J_iload dX2_second_36 rfl ?_
    refine J_iload dX2_second_38 rfl ?_
    refine J_icmp_le_z (tgt := 48) dX2_second_40 (by decide) (by unfold zR; omega) (by unfold zR; omega) (fun c40 => ?_) (fun c40 => ?_)
    · skip
      refine J_iload dX2_second_48 rfl ?_
      refine J_goto (tgt := 81) dX2_second_50 (by decide) ?_
      exact J_iret rfl dX2_second_81 (by exact qz hq (by simp only [mSecond]; (repeat' split) <;> first | rfl | omega))
    · skip
      refine J_iload dX2_second_43 rfl ?_
      refine J_goto (tgt := 81) dX2_second_45 (by decide) ?_
      exact J_iret rfl dX2_second_81 (by exact qz hq (by simp only [mSecond]; (repeat' split) <;> first | rfl | omega))
theorem tFr.rc {l : List rct} {σ : tS} (h : tFr l σ) {k : Nat} (hk : k < l.length) : tRc k (l.getD k (0, 0, 0, 0)) σ := h.2 k hk
theorem tRc.eq {k : Nat} {r : rct} {σ σ' : tS} (h : tRc k r σ) {I A : List Nat} (e : tEq I A σ σ') (h2 : 28 ∉ A) (h3 : 29 ∉ A) (h4 : 30 ∉ A) (h5 : 31 ∉ A) : tRc k r σ' := by
  unfold tRc
  rw [e.2.1 _ h2, e.2.1 _ h3, e.2.1 _ h4, e.2.1 _ h5]
  exact h
/-- the best so far, as the fields hold it -/
def tBe (b : rct) (σ : tS) : Prop := σ.1 32 = zI b.1 ∧ (b.1 ≠ -9 → σ.1 33 = zI b.2.1 ∧ σ.1 34 = zI b.2.2.1 ∧ σ.1 35 = zI b.2.2.2)
theorem mTry_y {bl : Int} {G : Nat → Nat → Int} {rule : Int} {f : Nat} {r : rct} {k : Nat} {t : Int} {b : rct} (h : mNX bl G f t ≤ r.2.2.1 ∧ mNY bl G f t ≤ r.2.2.2 ∧ (b.1 = -9 ∨ mFirst bl G rule f t r < b.2.2.1 ∨ (mFirst bl G rule f t r = b.2.2.1 ∧ mSecond bl G rule f t r < b.2.2.2))) : mTry bl G rule f r k t b = ((k : Int), t, mFirst bl G rule f t r, mSecond bl G rule f t r) := if_pos h
theorem mTry_n {bl : Int} {G : Nat → Nat → Int} {rule : Int} {f : Nat} {r : rct} {k : Nat} {t : Int} {b : rct} (h : ¬ (mNX bl G f t ≤ r.2.2.1 ∧ mNY bl G f t ≤ r.2.2.2 ∧ (b.1 = -9 ∨ mFirst bl G rule f t r < b.2.2.1 ∨ (mFirst bl G rule f t r = b.2.2.1 ∧ mSecond bl G rule f t r < b.2.2.2)))) : mTry bl G rule f r k t b = b := if_neg h
theorem tl_findsRoom119 {E : jEnv} {α : Nat → Nat} {σ : tS} {Q : Option Value → tS → Prop} {bl : Int} {G : Nat → Nat → Int} {rule t : Int} {k f : Nat} {r b : rct} (hk2 : ∀ σ1, tEq [32, 33, 34, 35] [] σ σ1 → tBe (mTry bl G rule f r k t b) σ1 → jX2_findsRoom E α 142 [some (.ref (α 0)), some (.int (zI (f : Nat))), some (.int (zI (rule))), some (.int (zI (k : Nat))), some (.int (zI (t))), none, none] [] σ1 Q) (he : mTry bl G rule f r k t b = ((k : Int), t, mFirst bl G rule f t r, mSecond bl G rule f t r)) : jX2_findsRoom E α 119 [some (.ref (α 0)), some (.int (zI (f : Nat))), some (.int (zI (rule))), some (.int (zI (k : Nat))), some (.int (zI (t))), some (.int (zI (mFirst bl G rule f t r))), some (.int (zI (mSecond bl G rule f t r)))] [] σ Q := by
  refine J_aload_n dX2_findsRoom_119 rfl ?_
  refine J_iload_n dX2_findsRoom_120 rfl ?_
  refine TP_bestAt dX2_findsRoom_121 ?_
  refine J_aload_n dX2_findsRoom_124 rfl ?_
  refine J_iload dX2_findsRoom_125 rfl ?_
  refine TP_bestTurned dX2_findsRoom_127 ?_
  refine J_aload_n dX2_findsRoom_130 rfl ?_
  refine J_iload dX2_findsRoom_131 rfl ?_
  refine TP_bestFirst dX2_findsRoom_133 ?_
  refine J_aload_n dX2_findsRoom_136 rfl ?_
  refine J_iload dX2_findsRoom_137 rfl ?_
  refine TP_bestSecond dX2_findsRoom_139 ?_
  refine J_fg (L' := [some (.ref (α 0)), some (.int (zI (f : Nat))), some (.int (zI (rule))), some (.int (zI (k : Nat))), some (.int (zI (t))), none, none]) (by repeat' constructor) ?_
  exact hk2 _ ((((tEq.refl.sI (by decide)).sI (by decide)).sI (by decide)).sI (by decide)) (by rw [he]; exact ⟨rfl, fun _ => ⟨rfl, rfl, rfl⟩⟩)
theorem tl_findsRoom29 {E : jEnv} {α : Nat → Nat} {σ : tS} {Q : Option Value → tS → Prop} {many : Nat} {wide high bl : Int} {G : Nat → Nat → Int} {rule t : Int} {k f : Nat} {r b : rct} (hS : tSh many wide high bl G σ) (hO : shOK many wide high bl G) (hf : f < many) (ht : t = 0 ∨ t = 1) (hk : k < 4096) (hR : tRc k r σ) (hr : rOK r) (rr : 0 ≤ rule ∧ rule ≤ 3) (hB : tBe b σ) (hb : bOK (k + 1) b) (hk2 : ∀ σ1, tEq [32, 33, 34, 35] [] σ σ1 → tBe (mTry bl G rule f r k t b) σ1 → jX2_findsRoom E α 142 [some (.ref (α 0)), some (.int (zI (f : Nat))), some (.int (zI (rule))), some (.int (zI (k : Nat))), some (.int (zI (t))), none, none] [] σ1 Q) : jX2_findsRoom E α 29 [some (.ref (α 0)), some (.int (zI (f : Nat))), some (.int (zI (rule))), some (.int (zI (k : Nat))), some (.int (zI (t))), none, none] [] σ Q := by
  have := hO.s
  have := mNX_b hO hf t
  have := mNY_b hO hf t
  have := hr
  unfold rOK at this
  have hb0 := hb
  unfold bOK at hb0
  refine J_aload_n dX2_findsRoom_29 rfl ?_
  refine J_iload_n dX2_findsRoom_30 rfl ?_
  refine J_iload dX2_findsRoom_31 rfl ?_
  refine TC_X2_needX (by decide) (Nat.le_of_ble_eq_true rfl) dX2_findsRoom_33 ?_
  refine t_needX hS hO (by omega) (by omega) ?_
  refine J_ri ?_
  refine J_aload_n dX2_findsRoom_36 rfl ?_
  refine TG_freeW dX2_findsRoom_37 ?_
  refine J_iload_n dX2_findsRoom_40 rfl ?_
  refine TJ_iald 30 (k) ⟨rfl, rfl, by decide⟩ (by omega) (show k < 4096 by omega) dX2_findsRoom_41 ?_
  refine J_top (zI (r.2.2.1)) (hR.2.2.1) ?_
  refine J_icmp_gt_z (tgt := 142) dX2_findsRoom_42 (by decide) (by unfold zR; omega) (by unfold zR; omega) (fun c42 => ?_) (fun c42 => ?_)
  · skip
    refine J_fg (L' := [some (.ref (α 0)), some (.int (zI (f : Nat))), some (.int (zI (rule))), some (.int (zI (k : Nat))), some (.int (zI (t))), none, none]) (by repeat' constructor) ?_
    exact hk2 _ tEq.refl (by rw [mTry_n (by omega)]; exact hB)
  · skip
    refine J_aload_n dX2_findsRoom_45 rfl ?_
    refine J_iload_n dX2_findsRoom_46 rfl ?_
    refine J_iload dX2_findsRoom_47 rfl ?_
    refine TC_X2_needY (by decide) (Nat.le_of_ble_eq_true rfl) dX2_findsRoom_49 ?_
    refine t_needY hS hO (by omega) (by omega) ?_
    refine J_ri ?_
    refine J_aload_n dX2_findsRoom_52 rfl ?_
    refine TG_freeH dX2_findsRoom_53 ?_
    refine J_iload_n dX2_findsRoom_56 rfl ?_
    refine TJ_iald 31 (k) ⟨rfl, rfl, by decide⟩ (by omega) (show k < 4096 by omega) dX2_findsRoom_57 ?_
    refine J_top (zI (r.2.2.2)) (hR.2.2.2) ?_
    refine J_icmp_gt_z (tgt := 142) dX2_findsRoom_58 (by decide) (by unfold zR; omega) (by unfold zR; omega) (fun c58 => ?_) (fun c58 => ?_)
    · skip
      refine J_fg (L' := [some (.ref (α 0)), some (.int (zI (f : Nat))), some (.int (zI (rule))), some (.int (zI (k : Nat))), some (.int (zI (t))), none, none]) (by repeat' constructor) ?_
      exact hk2 _ tEq.refl (by rw [mTry_n (by omega)]; exact hB)
    · skip
      have := mFirst_b (rule := rule) hO hf hr c42 c58
      have := mSecond_b (rule := rule) hO hf hr c42 c58
      refine J_aload_n dX2_findsRoom_61 rfl ?_
      refine J_iload_n dX2_findsRoom_62 rfl ?_
      refine J_iload_n dX2_findsRoom_63 rfl ?_
      refine J_iload_n dX2_findsRoom_64 rfl ?_
      refine J_iload dX2_findsRoom_65 rfl ?_
      refine TC_X2_first (by decide) (Nat.le_of_ble_eq_true rfl) dX2_findsRoom_67 ?_
      refine t_first hS hO (by omega) (by omega) (by omega) hR hr rr ?_
      refine J_ri ?_
      refine J_istore dX2_findsRoom_70 rfl (by decide) _ rfl ?_
      refine J_aload_n dX2_findsRoom_72 rfl ?_
      refine J_iload_n dX2_findsRoom_73 rfl ?_
      refine J_iload_n dX2_findsRoom_74 rfl ?_
      refine J_iload_n dX2_findsRoom_75 rfl ?_
      refine J_iload dX2_findsRoom_76 rfl ?_
      refine TC_X2_second (by decide) (Nat.le_of_ble_eq_true rfl) dX2_findsRoom_78 ?_
      refine t_second hS hO (by omega) (by omega) (by omega) hR hr rr ?_
      refine J_ri ?_
      refine J_istore dX2_findsRoom_81 rfl (by decide) _ rfl ?_
      refine J_aload_n dX2_findsRoom_83 rfl ?_
      refine TG_bestAt dX2_findsRoom_84 ?_
      refine J_top (zI (b.1)) hB.1 ?_
      refine J_bipush (zI (-9)) dX2_findsRoom_87 rfl ?_
      refine J_icmp_eq_z (tgt := 119) dX2_findsRoom_89 (by decide) (by unfold zR; omega) (by unfold zR; omega) (fun c89 => ?_) (fun c89 => ?_)
      · skip
        exact tl_findsRoom119 hk2 (mTry_y (by omega))
      · skip
        refine J_iload dX2_findsRoom_92 rfl ?_
        refine J_aload_n dX2_findsRoom_94 rfl ?_
        refine TG_bestFirst dX2_findsRoom_95 ?_
        refine J_top (zI (b.2.2.1)) (hB.2 c89).2.1 ?_
        refine J_icmp_lt_z (tgt := 119) dX2_findsRoom_98 (by decide) (by unfold zR; omega) (by unfold zR; omega) (fun c98 => ?_) (fun c98 => ?_)
        · skip
          exact tl_findsRoom119 hk2 (mTry_y (by omega))
        · skip
          refine J_iload dX2_findsRoom_101 rfl ?_
          refine J_aload_n dX2_findsRoom_103 rfl ?_
          refine TG_bestFirst dX2_findsRoom_104 ?_
          refine J_top (zI (b.2.2.1)) (hB.2 c89).2.1 ?_
          refine J_icmp_ne_z (tgt := 142) dX2_findsRoom_107 (by decide) (by unfold zR; omega) (by unfold zR; omega) (fun c107 => ?_) (fun c107 => ?_)
          · skip
            refine J_fg (L' := [some (.ref (α 0)), some (.int (zI (f : Nat))), some (.int (zI (rule))), some (.int (zI (k : Nat))), some (.int (zI (t))), none, none]) (by repeat' constructor) ?_
            exact hk2 _ tEq.refl (by rw [mTry_n (by omega)]; exact hB)
          · skip
            refine J_iload dX2_findsRoom_110 rfl ?_
            refine J_aload_n dX2_findsRoom_112 rfl ?_
            refine TG_bestSecond dX2_findsRoom_113 ?_
            refine J_top (zI (b.2.2.2)) (hB.2 c89).2.2 ?_
            refine J_icmp_ge_z (tgt := 142) dX2_findsRoom_116 (by decide) (by unfold zR; omega) (by unfold zR; omega) (fun c116 => ?_) (fun c116 => ?_)
            · skip
              refine J_fg (L' := [some (.ref (α 0)), some (.int (zI (f : Nat))), some (.int (zI (rule))), some (.int (zI (k : Nat))), some (.int (zI (t))), none, none]) (by repeat' constructor) ?_
              exact hk2 _ tEq.refl (by rw [mTry_n (by omega)]; exact hB)
            · skip
              exact tl_findsRoom119 hk2 (mTry_y (by omega))
theorem tl_findsRoom19 {E : jEnv} {α : Nat → Nat} {σ : tS} {Q : Option Value → tS → Prop} {many : Nat} {wide high bl : Int} {G : Nat → Nat → Int} {rule : Int} {k f : Nat} {l : List rct} (hS : tSh many wide high bl G σ) (hO : shOK many wide high bl G) (hf : f < many) (hk : k < 4096) (hkl : k < l.length) (hF : tFr l σ) (hl : ∀ r ∈ l, rOK r) (rr : 0 ≤ rule ∧ rule ≤ 3) (hB : tBe (mBest bl G rule f l k) σ) (hk3 : ∀ σ1, tEq [32, 33, 34, 35] [] σ σ1 → tBe (mBest bl G rule f l (k + 1)) σ1 → jX2_findsRoom E α 148 [some (.ref (α 0)), some (.int (zI (f : Nat))), some (.int (zI (rule))), some (.int (zI (k : Nat))), none, none, none] [] σ1 Q) : jX2_findsRoom E α 19 [some (.ref (α 0)), some (.int (zI (f : Nat))), some (.int (zI (rule))), some (.int (zI (k : Nat))), some (.int (zI 0)), none, none] [] σ Q := by
  have hr : rOK (l.getD k (0, 0, 0, 0)) := by
      rw [List.getD_eq_getElem?_getD, List.getElem?_eq_getElem hkl]
      exact hl _ (List.getElem_mem _)
  have hR := hF.rc hkl
  have hb := (mBest_ok hO hf (rule := rule) hl k (by omega)).mono (Nat.le_succ k)
  refine J_iload dX2_findsRoom_19 rfl ?_
  refine J_aload_n dX2_findsRoom_21 rfl ?_
  refine J_iload_n dX2_findsRoom_22 rfl ?_
  refine TC_X2_turns (by decide) (Nat.le_of_ble_eq_true rfl) dX2_findsRoom_23 ?_
  refine t_turns hS hO (by omega) (fun z hz => ?_)
  refine J_ri ?_
  refine J_icmp_ge_z (tgt := 148) dX2_findsRoom_26 (by decide) (by unfold zR; omega) (by unfold zR; omega) (fun c26 => ?_) (fun c26 => ?_)
  · exfalso; omega
  · skip
    refine tl_findsRoom29 hS hO hf (Or.inl rfl) hk hR hr rr hB hb (fun σ1 e1 B1 => ?_)
    have hS1 := hS.eq e1 (by decide) (by decide) (by decide) (by decide) (by decide)
    have hb1 := mTry_ok (rule := rule) hO hf (Or.inl rfl) hr hb
    have hR1 := hR.eq e1 (by decide) (by decide) (by decide) (by decide)
    have hS := hS1
    refine J_iinc_z (1) (by omega) dX2_findsRoom_142 rfl rfl (by decide) _ rfl ?_
    refine J_goto (tgt := 19) dX2_findsRoom_145 (by decide) ?_
    refine J_iload dX2_findsRoom_19 rfl ?_
    refine J_aload_n dX2_findsRoom_21 rfl ?_
    refine J_iload_n dX2_findsRoom_22 rfl ?_
    refine TC_X2_turns (by decide) (Nat.le_of_ble_eq_true rfl) dX2_findsRoom_23 ?_
    refine t_turns hS hO (by omega) (fun z hz => ?_)
    refine J_ri ?_
    refine J_icmp_ge_z (tgt := 148) dX2_findsRoom_26 (by decide) (by unfold zR; omega) (by unfold zR; omega) (fun c26 => ?_) (fun c26 => ?_)
    · skip
      refine J_fg (L' := [some (.ref (α 0)), some (.int (zI (f : Nat))), some (.int (zI (rule))), some (.int (zI (k : Nat))), none, none, none]) (by repeat' constructor) ?_
      exact hk3 _ e1 (by rw [mBest, if_pos (by omega)]; exact B1)
    · skip
      refine tl_findsRoom29 hS1 hO hf (Or.inr rfl) hk hR1 hr rr B1 hb1 (fun σ2 e2 B2 => ?_)
      have hS := hS1.eq e2 (by decide) (by decide) (by decide) (by decide) (by decide)
      refine J_iinc_z (2) (by omega) dX2_findsRoom_142 rfl rfl (by decide) _ rfl ?_
      refine J_goto (tgt := 19) dX2_findsRoom_145 (by decide) ?_
      refine J_iload dX2_findsRoom_19 rfl ?_
      refine J_aload_n dX2_findsRoom_21 rfl ?_
      refine J_iload_n dX2_findsRoom_22 rfl ?_
      refine TC_X2_turns (by decide) (Nat.le_of_ble_eq_true rfl) dX2_findsRoom_23 ?_
      refine t_turns hS hO (by omega) (fun z hz => ?_)
      refine J_ri ?_
      refine J_icmp_ge_z (tgt := 148) dX2_findsRoom_26 (by decide) (by unfold zR; omega) (by unfold zR; omega) (fun c26 => ?_) (fun c26 => ?_)
      · skip
        refine J_fg (L' := [some (.ref (α 0)), some (.int (zI (f : Nat))), some (.int (zI (rule))), some (.int (zI (k : Nat))), none, none, none]) (by repeat' constructor) ?_
        exact hk3 _ (e1.trans e2) (by rw [mBest, if_neg (by omega)]; exact B2)
      · exfalso; omega
theorem tl_findsRoom8 {E : jEnv} {α : Nat → Nat} {σ : tS} {Q : Option Value → tS → Prop} {many : Nat} {wide high bl : Int} {G : Nat → Nat → Int} {rule : Int} {f : Nat} {l : List rct} (hS : tSh many wide high bl G σ) (hO : shOK many wide high bl G) (hf : f < many) (hF : tFr l σ) (hl : ∀ r ∈ l, rOK r) (hll : l.length ≤ 4096) (rr : 0 ≤ rule ∧ rule ≤ 3) (q1 : (mBest bl G rule f l l.length).1 ≠ -9 → ∀ σ1, tEq [32, 33, 34, 35] [] σ σ1 → tBe (mBest bl G rule f l l.length) σ1 → Q (some (.int (zI 1))) σ1) (q0 : (mBest bl G rule f l l.length).1 = -9 → ∀ σ1, tEq [32, 33, 34, 35] [] σ σ1 → Q (some (.int (zI 0))) σ1) : ∀ (n : Nat) (k : Nat) (σ1 : tS), k ≤ l.length → tEq [32, 33, 34, 35] [] σ σ1 → tBe (mBest bl G rule f l k) σ1 → l.length - k < n → jX2_findsRoom E α 8 [some (.ref (α 0)), some (.int (zI (f : Nat))), some (.int (zI (rule))), some (.int (zI (k : Nat))), none, none, none] [] σ1 Q := by
  intro n
  induction n with
  | zero => intro k σ1 h1 h2 h3 hn; exact absurd hn (Nat.not_lt_zero _)
  | succ n ih =>
    intro k σ1 h1 h2 h3 hn
    have hS0 := hS
    have hS := hS.eq h2 (by decide) (by decide) (by decide) (by decide) (by decide)
    have hF0 := hF
    have hF := hF.eq h2 (by decide) (by decide) (by decide) (by decide) (by decide)
    have hB := h3
    have hb0 := mBest_ok hO hf (rule := rule) hl k h1
    unfold bOK at hb0
    refine J_iload_n dX2_findsRoom_8 rfl ?_
    refine J_aload_n dX2_findsRoom_9 rfl ?_
    refine TG_freeMany dX2_findsRoom_10 ?_
    refine J_top (zI (l.length)) hF.1 ?_
    refine J_icmp_ge_z (tgt := 154) dX2_findsRoom_13 (by decide) (by unfold zR; omega) (by unfold zR; omega) (fun c13 => ?_) (fun c13 => ?_)
    · skip
      have ek : k = l.length := by omega
      rw [ek] at h3
      refine J_aload_n dX2_findsRoom_154 rfl ?_
      refine TG_bestAt dX2_findsRoom_155 ?_
      refine J_top (zI ((mBest bl G rule f l k).1)) hB.1 ?_
      refine J_bipush (zI (-9)) dX2_findsRoom_158 rfl ?_
      refine J_icmp_eq_z (tgt := 167) dX2_findsRoom_160 (by decide) (by unfold zR; omega) (by unfold zR; omega) (fun c160 => ?_) (fun c160 => ?_)
      · skip
        refine J_iconst (zI 0) dX2_findsRoom_167 rfl ?_
        exact J_zret rfl dX2_findsRoom_168 rfl (by first | exact q1 (by rw [← ek]; exact c160) σ1 h2 h3 | exact q0 (by rw [← ek]; exact c160) σ1 h2)
      · skip
        refine J_iconst (zI 1) dX2_findsRoom_163 rfl ?_
        refine J_goto (tgt := 168) dX2_findsRoom_164 (by decide) ?_
        exact J_zret rfl dX2_findsRoom_168 rfl (by first | exact q1 (by rw [← ek]; exact c160) σ1 h2 h3 | exact q0 (by rw [← ek]; exact c160) σ1 h2)
    · skip
      refine J_iconst (zI 0) dX2_findsRoom_16 rfl ?_
      refine J_istore dX2_findsRoom_17 rfl (by decide) _ rfl ?_
      refine tl_findsRoom19 hS hO hf (by omega) (by omega) hF hl rr h3 (fun σ2 e2 B2 => ?_)
      refine J_iinc_z (((k + 1) : Nat) : Int) (by omega) dX2_findsRoom_148 rfl rfl (by decide) _ rfl ?_
      refine J_goto (tgt := 8) dX2_findsRoom_151 (by decide) ?_
      exact ih (k + 1) σ2 (by omega) (h2.trans e2) B2 (by omega)
theorem t_findsRoom {E : jEnv} {α : Nat → Nat} {σ : tS} {Q : Option Value → tS → Prop} {many : Nat} {wide high bl : Int} {G : Nat → Nat → Int} {rule : Int} {f : Nat} {l : List rct} (hS : tSh many wide high bl G σ) (hO : shOK many wide high bl G) (hf : f < many) (hF : tFr l σ) (hl : ∀ r ∈ l, rOK r) (hll : l.length ≤ 4096) (rr : 0 ≤ rule ∧ rule ≤ 3) (q1 : (mBest bl G rule f l l.length).1 ≠ -9 → ∀ σ1, tEq [32, 33, 34, 35] [] σ σ1 → tBe (mBest bl G rule f l l.length) σ1 → Q (some (.int (zI 1))) σ1) (q0 : (mBest bl G rule f l l.length).1 = -9 → ∀ σ1, tEq [32, 33, 34, 35] [] σ σ1 → Q (some (.int (zI 0))) σ1) : jX2_findsRoom E α 0 [some (.ref (α 0)), some (.int (zI (f : Nat))), some (.int (zI (rule))), none, none, none, none] [] σ Q := by
  refine J_aload_n dX2_findsRoom_0 rfl ?_
  refine J_bipush (zI (-9)) dX2_findsRoom_1 rfl ?_
  refine TP_bestAt dX2_findsRoom_3 ?_
  refine J_iconst (zI 0) dX2_findsRoom_6 rfl ?_
  refine J_istore_n dX2_findsRoom_7 rfl (by decide) _ rfl ?_
  exact tl_findsRoom8 (σ := σ) hS hO hf hF hl hll rr q1 q0 _ 0 _ (by omega) (tEq.refl.sI (by decide)) ⟨rfl, fun z => absurd rfl z⟩ (Nat.lt_succ_self _)
