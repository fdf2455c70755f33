set_option maxRecDepth 100000
/-! the twin: what is told of frames, places, pages -/
theorem t_frame_bad {E : jEnv} {α : Nat → Nat} {σ : tS} {Q : Option Value → tS → Prop} {many : Nat} {wide high bl : Int} {G : Nat → Nat → Int} {v u : Int} (hS : tSh many wide high bl G σ) (hO : shOK many wide high bl G) (rv : zR v) (ru : zR u) (hv : ¬ (0 ≤ v ∧ v < many) ∨ ¬ (0 ≤ u ∧ u ≤ 4)) (hq : Q (some (.int (zI (-1)))) σ) : jX2_frame E α 0 [some (.ref (α 0)), some (.int (zI (v))), some (.int (zI (u)))] [] σ Q := by
  refine J_aload_n dX2_frame_0 rfl ?_
  refine J_iload_n dX2_frame_1 rfl ?_
  refine TC_X2_isFrame (by decide) (Nat.le_of_ble_eq_true rfl) dX2_frame_2 ?_
  refine t_isFrame hS hO (by unfold zR at *; omega) (fun b2 => ?_) (fun b2 => ?_)
  · refine J_ri ?_
    refine J_if_eq_n (tgt := 17) dX2_frame_5 (by decide) (by decide) ?_
    refine J_iload_n dX2_frame_8 rfl ?_
    refine J_iconst (zI 0) dX2_frame_9 rfl ?_
    refine J_iconst (zI 4) dX2_frame_10 rfl ?_
    refine TC_X2_in (by decide) (Nat.le_of_ble_eq_true rfl) dX2_frame_11 ?_
    refine t_in (by unfold zR at *; omega) (by unfold zR at *; omega) (by unfold zR at *; omega) (fun b11 => ?_) (fun b11 => ?_)
    · exfalso; omega
    · refine J_ri ?_
      refine J_if_ne_n (tgt := 19) dX2_frame_14 (by decide) (by decide) ?_
      refine J_iconst (zI (-1)) dX2_frame_17 rfl ?_
      exact J_iret rfl dX2_frame_18 (by exact hq)
  · refine J_ri ?_
    refine J_if_eq_y (tgt := 17) dX2_frame_5 (by decide) (by decide) ?_
    refine J_iconst (zI (-1)) dX2_frame_17 rfl ?_
    exact J_iret rfl dX2_frame_18 (by exact hq)
theorem t_place_bad {E : jEnv} {α : Nat → Nat} {σ : tS} {Q : Option Value → tS → Prop} {many : Nat} {wide high bl : Int} {G : Nat → Nat → Int} {v u : Int} (hS : tSh many wide high bl G σ) (hO : shOK many wide high bl G) (rv : zR v) (ru : zR u) (hv : ¬ (0 ≤ v ∧ v < many) ∨ ¬ (0 ≤ u ∧ u ≤ 3)) (hq : Q (some (.int (zI (-1)))) σ) : jX2_place E α 0 [some (.ref (α 0)), some (.int (zI (v))), some (.int (zI (u)))] [] σ Q := by
  refine J_aload_n dX2_place_0 rfl ?_
  refine J_iload_n dX2_place_1 rfl ?_
  refine TC_X2_isFrame (by decide) (Nat.le_of_ble_eq_true rfl) dX2_place_2 ?_
  refine t_isFrame hS hO (by unfold zR at *; omega) (fun b2 => ?_) (fun b2 => ?_)
  · refine J_ri ?_
    refine J_if_eq_n (tgt := 17) dX2_place_5 (by decide) (by decide) ?_
    refine J_iload_n dX2_place_8 rfl ?_
    refine J_iconst (zI 0) dX2_place_9 rfl ?_
    refine J_iconst (zI 3) dX2_place_10 rfl ?_
    refine TC_X2_in (by decide) (Nat.le_of_ble_eq_true rfl) dX2_place_11 ?_
    refine t_in (by unfold zR at *; omega) (by unfold zR at *; omega) (by unfold zR at *; omega) (fun b11 => ?_) (fun b11 => ?_)
    · exfalso; omega
    · refine J_ri ?_
      refine J_if_ne_n (tgt := 19) dX2_place_14 (by decide) (by decide) ?_
      refine J_iconst (zI (-1)) dX2_place_17 rfl ?_
      exact J_iret rfl dX2_place_18 (by exact hq)
  · refine J_ri ?_
    refine J_if_eq_y (tgt := 17) dX2_place_5 (by decide) (by decide) ?_
    refine J_iconst (zI (-1)) dX2_place_17 rfl ?_
    exact J_iret rfl dX2_place_18 (by exact hq)
theorem t_frame {E : jEnv} {α : Nat → Nat} {σ : tS} {Q : Option Value → tS → Prop} {many : Nat} {wide high bl : Int} {G : Nat → Nat → Int} {f k : Nat} (hS : tSh many wide high bl G σ) (hO : shOK many wide high bl G) (hf : f < many) (hk : k < 5) (hq : Q (some (.int (zI 1))) (setI σ 0 (zI (mTell bl G f k)))) : jX2_frame E α 0 [some (.ref (α 0)), some (.int (zI (f : Nat))), some (.int (zI (k : Nat)))] [] σ Q := by
  have := hO.s
  refine J_aload_n dX2_frame_0 rfl ?_
  refine J_iload_n dX2_frame_1 rfl ?_
  refine TC_X2_isFrame (by decide) (Nat.le_of_ble_eq_true rfl) dX2_frame_2 ?_
  refine t_isFrame hS hO (by unfold zR at *; omega) (fun b2 => ?_) (fun b2 => ?_)
  · refine J_ri ?_
    refine J_if_eq_n (tgt := 17) dX2_frame_5 (by decide) (by decide) ?_
    refine J_iload_n dX2_frame_8 rfl ?_
    refine J_iconst (zI 0) dX2_frame_9 rfl ?_
    refine J_iconst (zI 4) dX2_frame_10 rfl ?_
    refine TC_X2_in (by decide) (Nat.le_of_ble_eq_true rfl) dX2_frame_11 ?_
    refine t_in (by unfold zR; omega) (by unfold zR; omega) (by unfold zR; omega) (fun b11 => ?_) (fun b11 => ?_)
    · refine J_ri ?_
      refine J_if_ne_y (tgt := 19) dX2_frame_14 (by decide) (by decide) ?_
      refine J_aload_n dX2_frame_19 rfl ?_
      refine J_aload_n dX2_frame_20 rfl ?_
      refine J_iload_n dX2_frame_21 rfl ?_
      refine J_iload_n dX2_frame_22 rfl ?_
      refine TC_X2_frameTells (by decide) (Nat.le_of_ble_eq_true rfl) dX2_frame_23 ?_
      refine t_frameTells hS hO (by omega) (by omega) ?_
      refine J_ri ?_
      refine J_iconst (zI 1) dX2_frame_26 rfl ?_
      refine TC_X2_tells (by decide) (Nat.le_of_ble_eq_true rfl) dX2_frame_27 ?_
      refine t_tells  ?_
      refine J_ri ?_
      exact J_iret rfl dX2_frame_30 (by exact hq)
    · exfalso; omega
  · exfalso; omega
theorem t_place_no {E : jEnv} {α : Nat → Nat} {σ : tS} {Q : Option Value → tS → Prop} {many : Nat} {wide high bl : Int} {G : Nat → Nat → Int} {P : Nat → Nat → Int} {rule : Int} {f k : Nat} (hS : tSh many wide high bl G σ) (hO : shOK many wide high bl G) (hP : tPl P rule σ) (hN : plOK many P rule) (hf : f < many) (hk : k < 4) (h0 : P f 0 = -1) (hq : Q (some (.int (zI (-9)))) σ) : jX2_place E α 0 [some (.ref (α 0)), some (.int (zI (f : Nat))), some (.int (zI (k : Nat)))] [] σ Q := by
  have := hO.s
  refine J_aload_n dX2_place_0 rfl ?_
  refine J_iload_n dX2_place_1 rfl ?_
  refine TC_X2_isFrame (by decide) (Nat.le_of_ble_eq_true rfl) dX2_place_2 ?_
  refine t_isFrame hS hO (by unfold zR at *; omega) (fun b2 => ?_) (fun b2 => ?_)
  · refine J_ri ?_
    refine J_if_eq_n (tgt := 17) dX2_place_5 (by decide) (by decide) ?_
    refine J_iload_n dX2_place_8 rfl ?_
    refine J_iconst (zI 0) dX2_place_9 rfl ?_
    refine J_iconst (zI 3) dX2_place_10 rfl ?_
    refine TC_X2_in (by decide) (Nat.le_of_ble_eq_true rfl) dX2_place_11 ?_
    refine t_in (by unfold zR; omega) (by unfold zR; omega) (by unfold zR; omega) (fun b11 => ?_) (fun b11 => ?_)
    · refine J_ri ?_
      refine J_if_ne_y (tgt := 19) dX2_place_14 (by decide) (by decide) ?_
      refine J_aload_n dX2_place_19 rfl ?_
      refine J_iload_n dX2_place_20 rfl ?_
      refine TC_X2_isSet (by decide) (Nat.le_of_ble_eq_true rfl) dX2_place_21 ?_
      refine t_isSet hS hO hP hN (by omega) (fun b21 => ?_) (fun b21 => ?_)
      · exfalso; omega
      · refine J_ri ?_
        refine J_if_eq_y (tgt := 45) dX2_place_24 (by decide) (by decide) ?_
        refine J_bipush (zI (-9)) dX2_place_45 rfl ?_
        exact J_iret rfl dX2_place_47 (by exact hq)
    · exfalso; omega
  · exfalso; omega
theorem t_place {E : jEnv} {α : Nat → Nat} {σ : tS} {Q : Option Value → tS → Prop} {many : Nat} {wide high bl : Int} {G : Nat → Nat → Int} {P : Nat → Nat → Int} {rule : Int} {f k : Nat} (hS : tSh many wide high bl G σ) (hO : shOK many wide high bl G) (hP : tPl P rule σ) (hN : plOK many P rule) (hf : f < many) (hk : k < 4) (h0 : 0 ≤ P f 0) (hq : Q (some (.int (zI 1))) (setI σ 0 (zI (P f k)))) : jX2_place E α 0 [some (.ref (α 0)), some (.int (zI (f : Nat))), some (.int (zI (k : Nat)))] [] σ Q := by
  have := hO.s
  refine J_aload_n dX2_place_0 rfl ?_
  refine J_iload_n dX2_place_1 rfl ?_
  refine TC_X2_isFrame (by decide) (Nat.le_of_ble_eq_true rfl) dX2_place_2 ?_
  refine t_isFrame hS hO (by unfold zR at *; omega) (fun b2 => ?_) (fun b2 => ?_)
  · refine J_ri ?_
    refine J_if_eq_n (tgt := 17) dX2_place_5 (by decide) (by decide) ?_
    refine J_iload_n dX2_place_8 rfl ?_
    refine J_iconst (zI 0) dX2_place_9 rfl ?_
    refine J_iconst (zI 3) dX2_place_10 rfl ?_
    refine TC_X2_in (by decide) (Nat.le_of_ble_eq_true rfl) dX2_place_11 ?_
    refine t_in (by unfold zR; omega) (by unfold zR; omega) (by unfold zR; omega) (fun b11 => ?_) (fun b11 => ?_)
    · refine J_ri ?_
      refine J_if_ne_y (tgt := 19) dX2_place_14 (by decide) (by decide) ?_
      refine J_aload_n dX2_place_19 rfl ?_
      refine J_iload_n dX2_place_20 rfl ?_
      refine TC_X2_isSet (by decide) (Nat.le_of_ble_eq_true rfl) dX2_place_21 ?_
      refine t_isSet hS hO hP hN (by omega) (fun b21 => ?_) (fun b21 => ?_)
      · refine J_ri ?_
        refine J_if_eq_n (tgt := 45) dX2_place_24 (by decide) (by decide) ?_
        refine J_aload_n dX2_place_27 rfl ?_
        refine J_aload_n dX2_place_28 rfl ?_
        refine TG_now dX2_place_29 ?_
        refine J_iconst (zI 4) dX2_place_32 rfl ?_
        refine J_iload_n dX2_place_33 rfl ?_
        refine J_imul_z dX2_place_34 ?_
        refine J_iload_n dX2_place_35 rfl ?_
        refine J_iadd_z dX2_place_36 ?_
        refine TJ_iald 23 (((4 * f) + k)) ⟨rfl, rfl, by decide⟩ (by omega) (show ((4 * f) + k) < 33 by omega) dX2_place_37 ?_
        refine J_top (zI (P f k)) (hP.1 f k (by omega) hk) ?_
        refine J_iconst (zI 1) dX2_place_38 rfl ?_
        refine TC_X2_tells (by decide) (Nat.le_of_ble_eq_true rfl) dX2_place_39 ?_
        refine t_tells  ?_
        refine J_ri ?_
        refine J_goto (tgt := 47) dX2_place_42 (by decide) ?_
        exact J_iret rfl dX2_place_47 (by exact hq)
      · exfalso; omega
    · exfalso; omega
  · exfalso; omega
theorem t_mark_bad {E : jEnv} {α : Nat → Nat} {σ : tS} {Q : Option Value → tS → Prop} {many : Nat} {wide high bl : Int} {G : Nat → Nat → Int} {v u : Int} (hS : tSh many wide high bl G σ) (hO : shOK many wide high bl G) (rv : zR v) (ru : zR u) (hv : ¬ (0 ≤ v ∧ v < many) ∨ ¬ (1 ≤ u ∧ u ≤ 3)) (hq : Q (some (.int (zI (-1)))) σ) : jX2_mark E α 0 [some (.ref (α 0)), some (.int (zI (v))), some (.int (zI (u))), none, none] [] σ Q := by
  refine J_aload_n dX2_mark_0 rfl ?_
  refine J_iload_n dX2_mark_1 rfl ?_
  refine TC_X2_isFrame (by decide) (Nat.le_of_ble_eq_true rfl) dX2_mark_2 ?_
  refine t_isFrame hS hO (by unfold zR at *; omega) (fun b2 => ?_) (fun b2 => ?_)
  · refine J_ri ?_
    refine J_if_eq_n (tgt := 17) dX2_mark_5 (by decide) (by decide) ?_
    refine J_iload_n dX2_mark_8 rfl ?_
    refine J_iconst (zI 1) dX2_mark_9 rfl ?_
    refine J_iconst (zI 3) dX2_mark_10 rfl ?_
    refine TC_X2_in (by decide) (Nat.le_of_ble_eq_true rfl) dX2_mark_11 ?_
    refine t_in (by unfold zR at *; omega) (by unfold zR at *; omega) (by unfold zR at *; omega) (fun b11 => ?_) (fun b11 => ?_)
    · exfalso; omega
    · refine J_ri ?_
      refine J_if_ne_n (tgt := 19) dX2_mark_14 (by decide) (by decide) ?_
      refine J_iconst (zI (-1)) dX2_mark_17 rfl ?_
      exact J_iret rfl dX2_mark_18 (by exact hq)
  · refine J_ri ?_
    refine J_if_eq_y (tgt := 17) dX2_mark_5 (by decide) (by decide) ?_
    refine J_iconst (zI (-1)) dX2_mark_17 rfl ?_
    exact J_iret rfl dX2_mark_18 (by exact hq)
/-- a frame marked as a kind -/
def mMark (bl : Int) (G : Nat → Nat → Int) (f : Nat) (u : Int) : Int := if u = 1 then (if mAc G f - mDn G f < 0 then -(mAc G f - mDn G f) else mAc G f - mDn G f) else if u = 2 then mNX bl G f 0 * mNY bl G f 0 - mAc G f * mDn G f else G f 1 * G f 2 - (G f 1 - G f 3 - G f 5) * (G f 2 - G f 4 - G f 6)
theorem t_mark {E : jEnv} {α : Nat → Nat} {σ : tS} {Q : Option Value → tS → Prop} {many : Nat} {wide high bl : Int} {G : Nat → Nat → Int} {f : Nat} {u : Int} (hS : tSh many wide high bl G σ) (hO : shOK many wide high bl G) (hf : f < many) (hu : 1 ≤ u ∧ u ≤ 3) (q0 : G f 0 ≠ u → ¬ (G f 0 = 3 ∧ u = 1) → Q (some (.int (zI (-3)))) (setA (setI σ 1 (zI 3)) 2 (upd (σ.2.1 2) 3 (σ.2.1 2 3 + zI 1)))) (q1 : G f 0 = u ∨ (G f 0 = 3 ∧ u = 1) → Q (some (.int (zI (mMark bl G f u)))) σ) : jX2_mark E α 0 [some (.ref (α 0)), some (.int (zI (f : Nat))), some (.int (zI (u))), none, none] [] σ Q := by
  have := hO.s
  have := hO.g hf
  have := mAc_b hO hf
  have := mDn_b hO hf
  refine J_aload_n dX2_mark_0 rfl ?_
  refine J_iload_n dX2_mark_1 rfl ?_
  refine TC_X2_isFrame (by decide) (Nat.le_of_ble_eq_true rfl) dX2_mark_2 ?_
  refine t_isFrame hS hO (by unfold zR at *; omega) (fun b2 => ?_) (fun b2 => ?_)
  · refine J_ri ?_
    refine J_if_eq_n (tgt := 17) dX2_mark_5 (by decide) (by decide) ?_
    refine J_iload_n dX2_mark_8 rfl ?_
    refine J_iconst (zI 1) dX2_mark_9 rfl ?_
    refine J_iconst (zI 3) dX2_mark_10 rfl ?_
    refine TC_X2_in (by decide) (Nat.le_of_ble_eq_true rfl) dX2_mark_11 ?_
    refine t_in (by unfold zR; omega) (by unfold zR; omega) (by unfold zR; omega) (fun b11 => ?_) (fun b11 => ?_)
    · refine J_ri ?_
      refine J_if_ne_y (tgt := 19) dX2_mark_14 (by decide) (by decide) ?_
      refine J_aload_n dX2_mark_19 rfl ?_
      refine J_iload_n dX2_mark_20 rfl ?_
      refine TC_X2_kindOf (by decide) (Nat.le_of_ble_eq_true rfl) dX2_mark_21 ?_
      refine t_kindOf hS hO (by omega) ?_
      refine J_ri ?_
      refine J_istore_n dX2_mark_24 rfl (by decide) _ rfl ?_
      refine J_iload_n dX2_mark_25 rfl ?_
      refine J_iload_n dX2_mark_26 rfl ?_
      refine J_icmp_eq_z (tgt := 46) dX2_mark_27 (by decide) (by unfold zR; omega) (by unfold zR; omega) (fun c27 => ?_) (fun c27 => ?_)
      · skip
        refine J_iload_n dX2_mark_46 rfl ?_
        refine J_iconst (zI 1) dX2_mark_47 rfl ?_
        refine J_icmp_ne_z (tgt := 78) dX2_mark_48 (by decide) (by unfold zR; omega) (by unfold zR; omega) (fun c48 => ?_) (fun c48 => ?_)
        · skip
          refine J_iload_n dX2_mark_78 rfl ?_
          refine J_iconst (zI 2) dX2_mark_79 rfl ?_
          refine J_icmp_ne_z (tgt := 111) dX2_mark_80 (by decide) (by unfold zR; omega) (by unfold zR; omega) (fun c80 => ?_) (fun c80 => ?_)
          · skip
            refine J_aload_n dX2_mark_111 rfl ?_
            refine J_iload_n dX2_mark_112 rfl ?_
            refine J_iconst (zI 1) dX2_mark_113 rfl ?_
            refine TC_X2_of (by decide) (Nat.le_of_ble_eq_true rfl) dX2_mark_114 ?_
            refine t_of (k := 1) hS hO (by omega) (by decide) ?_
            refine J_ri ?_
            refine J_aload_n dX2_mark_117 rfl ?_
            refine J_iload_n dX2_mark_118 rfl ?_
            refine J_iconst (zI 2) dX2_mark_119 rfl ?_
            refine TC_X2_of (by decide) (Nat.le_of_ble_eq_true rfl) dX2_mark_120 ?_
            refine t_of (k := 2) hS hO (by omega) (by decide) ?_
            refine J_ri ?_
            refine J_imul_z dX2_mark_123 ?_
            refine J_aload_n dX2_mark_124 rfl ?_
            refine J_iload_n dX2_mark_125 rfl ?_
            refine J_iconst (zI 1) dX2_mark_126 rfl ?_
            refine TC_X2_of (by decide) (Nat.le_of_ble_eq_true rfl) dX2_mark_127 ?_
            refine t_of (k := 1) hS hO (by omega) (by decide) ?_
            refine J_ri ?_
            refine J_aload_n dX2_mark_130 rfl ?_
            refine J_iload_n dX2_mark_131 rfl ?_
            refine J_iconst (zI 3) dX2_mark_132 rfl ?_
            refine TC_X2_of (by decide) (Nat.le_of_ble_eq_true rfl) dX2_mark_133 ?_
            refine t_of (k := 3) hS hO (by omega) (by decide) ?_
            refine J_ri ?_
            refine J_isub_z dX2_mark_136 ?_
            refine J_aload_n dX2_mark_137 rfl ?_
            refine J_iload_n dX2_mark_138 rfl ?_
            refine J_iconst (zI 5) dX2_mark_139 rfl ?_
            refine TC_X2_of (by decide) (Nat.le_of_ble_eq_true rfl) dX2_mark_140 ?_
            refine t_of (k := 5) hS hO (by omega) (by decide) ?_
            refine J_ri ?_
            refine J_isub_z dX2_mark_143 ?_
            refine J_aload_n dX2_mark_144 rfl ?_
            refine J_iload_n dX2_mark_145 rfl ?_
            refine J_iconst (zI 2) dX2_mark_146 rfl ?_
            refine TC_X2_of (by decide) (Nat.le_of_ble_eq_true rfl) dX2_mark_147 ?_
            refine t_of (k := 2) hS hO (by omega) (by decide) ?_
            refine J_ri ?_
            refine J_aload_n dX2_mark_150 rfl ?_
            refine J_iload_n dX2_mark_151 rfl ?_
            refine J_iconst (zI 4) dX2_mark_152 rfl ?_
            refine TC_X2_of (by decide) (Nat.le_of_ble_eq_true rfl) dX2_mark_153 ?_
            refine t_of (k := 4) hS hO (by omega) (by decide) ?_
            refine J_ri ?_
            refine J_isub_z dX2_mark_156 ?_
            refine J_aload_n dX2_mark_157 rfl ?_
            refine J_iload_n dX2_mark_158 rfl ?_
            refine J_bipush (zI 6) dX2_mark_159 rfl ?_
            refine TC_X2_of (by decide) (Nat.le_of_ble_eq_true rfl) dX2_mark_161 ?_
            refine t_of (k := 6) hS hO (by omega) (by decide) ?_
            refine J_ri ?_
            refine J_isub_z dX2_mark_164 ?_
            refine J_imul_z dX2_mark_165 ?_
            refine J_isub_z dX2_mark_166 ?_
            exact J_iret rfl dX2_mark_167 (by exact qz (q1 (by omega)) (by unfold mMark; (repeat' split) <;> first | rfl | omega))
          · skip
            refine J_aload_n dX2_mark_83 rfl ?_
            refine J_iload_n dX2_mark_84 rfl ?_
            refine J_iconst (zI 0) dX2_mark_85 rfl ?_
            refine TC_X2_needX (by decide) (Nat.le_of_ble_eq_true rfl) dX2_mark_86 ?_
            refine t_needX hS hO (by omega) (by omega) ?_
            refine J_ri ?_
            refine J_aload_n dX2_mark_89 rfl ?_
            refine J_iload_n dX2_mark_90 rfl ?_
            refine J_iconst (zI 0) dX2_mark_91 rfl ?_
            refine TC_X2_needY (by decide) (Nat.le_of_ble_eq_true rfl) dX2_mark_92 ?_
            refine t_needY hS hO (by omega) (by omega) ?_
            refine J_ri ?_
            refine J_imul_z dX2_mark_95 ?_
            refine J_aload_n dX2_mark_96 rfl ?_
            refine J_iload_n dX2_mark_97 rfl ?_
            refine TC_X2_across (by decide) (Nat.le_of_ble_eq_true rfl) dX2_mark_98 ?_
            refine t_across hS hO (by omega) ?_
            refine J_ri ?_
            refine J_aload_n dX2_mark_101 rfl ?_
            refine J_iload_n dX2_mark_102 rfl ?_
            refine TC_X2_down (by decide) (Nat.le_of_ble_eq_true rfl) dX2_mark_103 ?_
            refine t_down hS hO (by omega) ?_
            refine J_ri ?_
            refine J_imul_z dX2_mark_106 ?_
            refine J_isub_z dX2_mark_107 ?_
            refine J_goto (tgt := 167) dX2_mark_108 (by decide) ?_
            exact J_iret rfl dX2_mark_167 (by exact qz (q1 (by omega)) (by unfold mMark; (repeat' split) <;> first | rfl | omega))
        · skip
          refine J_aload_n dX2_mark_51 rfl ?_
          refine J_iload_n dX2_mark_52 rfl ?_
          refine TC_X2_across (by decide) (Nat.le_of_ble_eq_true rfl) dX2_mark_53 ?_
          refine t_across hS hO (by omega) ?_
          refine J_ri ?_
          refine J_aload_n dX2_mark_56 rfl ?_
          refine J_iload_n dX2_mark_57 rfl ?_
          refine TC_X2_down (by decide) (Nat.le_of_ble_eq_true rfl) dX2_mark_58 ?_
          refine t_down hS hO (by omega) ?_
          refine J_ri ?_
          refine J_isub_z dX2_mark_61 ?_
          refine J_istore dX2_mark_62 rfl (by decide) _ rfl ?_
          refine J_iload dX2_mark_64 rfl ?_
          refine J_if_ge_z (tgt := 75) dX2_mark_66 (by decide) (by unfold zR; omega) (fun c66 => ?_) (fun c66 => ?_)
          · skip
            refine J_iload dX2_mark_75 rfl ?_
            exact J_iret rfl dX2_mark_77 (by exact qz (q1 (by omega)) (by unfold mMark; (repeat' split) <;> first | rfl | omega))
          · skip
            refine J_iload dX2_mark_69 rfl ?_
            refine J_ineg_z dX2_mark_71 ?_
            refine J_goto (tgt := 77) dX2_mark_72 (by decide) ?_
            exact J_iret rfl dX2_mark_77 (by exact qz (q1 (by omega)) (by unfold mMark; (repeat' split) <;> first | rfl | omega))
      · skip
        refine J_iload_n dX2_mark_30 rfl ?_
        refine J_iconst (zI 3) dX2_mark_31 rfl ?_
        refine J_icmp_ne_z (tgt := 40) dX2_mark_32 (by decide) (by unfold zR; omega) (by unfold zR; omega) (fun c32 => ?_) (fun c32 => ?_)
        · skip
          refine J_aload_n dX2_mark_40 rfl ?_
          refine J_iconst (zI 3) dX2_mark_41 rfl ?_
          refine TC_X2_found (by decide) (Nat.le_of_ble_eq_true rfl) dX2_mark_42 ?_
          refine t_found (m := _) (by decide) ?_
          refine J_ri ?_
          exact J_iret rfl dX2_mark_45 (by exact q0 (by omega) (by omega))
        · skip
          refine J_iload_n dX2_mark_35 rfl ?_
          refine J_iconst (zI 1) dX2_mark_36 rfl ?_
          refine J_icmp_eq_z (tgt := 46) dX2_mark_37 (by decide) (by unfold zR; omega) (by unfold zR; omega) (fun c37 => ?_) (fun c37 => ?_)
          · skip
            refine J_iload_n dX2_mark_46 rfl ?_
            refine J_iconst (zI 1) dX2_mark_47 rfl ?_
            refine J_icmp_ne_z (tgt := 78) dX2_mark_48 (by decide) (by unfold zR; omega) (by unfold zR; omega) (fun c48 => ?_) (fun c48 => ?_)
            · skip
              refine J_iload_n dX2_mark_78 rfl ?_
              refine J_iconst (zI 2) dX2_mark_79 rfl ?_
              refine J_icmp_ne_z (tgt := 111) dX2_mark_80 (by decide) (by unfold zR; omega) (by unfold zR; omega) (fun c80 => ?_) (fun c80 => ?_)
              · skip
                refine J_aload_n dX2_mark_111 rfl ?_
                refine J_iload_n dX2_mark_112 rfl ?_
                refine J_iconst (zI 1) dX2_mark_113 rfl ?_
                refine TC_X2_of (by decide) (Nat.le_of_ble_eq_true rfl) dX2_mark_114 ?_
                refine t_of (k := 1) hS hO (by omega) (by decide) ?_
                refine J_ri ?_
                refine J_aload_n dX2_mark_117 rfl ?_
                refine J_iload_n dX2_mark_118 rfl ?_
                refine J_iconst (zI 2) dX2_mark_119 rfl ?_
                refine TC_X2_of (by decide) (Nat.le_of_ble_eq_true rfl) dX2_mark_120 ?_
                refine t_of (k := 2) hS hO (by omega) (by decide) ?_
                refine J_ri ?_
                refine J_imul_z dX2_mark_123 ?_
                refine J_aload_n dX2_mark_124 rfl ?_
                refine J_iload_n dX2_mark_125 rfl ?_
                refine J_iconst (zI 1) dX2_mark_126 rfl ?_
                refine TC_X2_of (by decide) (Nat.le_of_ble_eq_true rfl) dX2_mark_127 ?_
                refine t_of (k := 1) hS hO (by omega) (by decide) ?_
                refine J_ri ?_
                refine J_aload_n dX2_mark_130 rfl ?_
                refine J_iload_n dX2_mark_131 rfl ?_
                refine J_iconst (zI 3) dX2_mark_132 rfl ?_
                refine TC_X2_of (by decide) (Nat.le_of_ble_eq_true rfl) dX2_mark_133 ?_
                refine t_of (k := 3) hS hO (by omega) (by decide) ?_
                refine J_ri ?_
                refine J_isub_z dX2_mark_136 ?_
                refine J_aload_n dX2_mark_137 rfl ?_
                refine J_iload_n dX2_mark_138 rfl ?_
                refine J_iconst (zI 5) dX2_mark_139 rfl ?_
                refine TC_X2_of (by decide) (Nat.le_of_ble_eq_true rfl) dX2_mark_140 ?_
                refine t_of (k := 5) hS hO (by omega) (by decide) ?_
                refine J_ri ?_
                refine J_isub_z dX2_mark_143 ?_
                refine J_aload_n dX2_mark_144 rfl ?_
                refine J_iload_n dX2_mark_145 rfl ?_
                refine J_iconst (zI 2) dX2_mark_146 rfl ?_
                refine TC_X2_of (by decide) (Nat.le_of_ble_eq_true rfl) dX2_mark_147 ?_
                refine t_of (k := 2) hS hO (by omega) (by decide) ?_
                refine J_ri ?_
                refine J_aload_n dX2_mark_150 rfl ?_
                refine J_iload_n dX2_mark_151 rfl ?_
                refine J_iconst (zI 4) dX2_mark_152 rfl ?_
                refine TC_X2_of (by decide) (Nat.le_of_ble_eq_true rfl) dX2_mark_153 ?_
                refine t_of (k := 4) hS hO (by omega) (by decide) ?_
                refine J_ri ?_
                refine J_isub_z dX2_mark_156 ?_
                refine J_aload_n dX2_mark_157 rfl ?_
                refine J_iload_n dX2_mark_158 rfl ?_
                refine J_bipush (zI 6) dX2_mark_159 rfl ?_
                refine TC_X2_of (by decide) (Nat.le_of_ble_eq_true rfl) dX2_mark_161 ?_
                refine t_of (k := 6) hS hO (by omega) (by decide) ?_
                refine J_ri ?_
                refine J_isub_z dX2_mark_164 ?_
                refine J_imul_z dX2_mark_165 ?_
                refine J_isub_z dX2_mark_166 ?_
                exact J_iret rfl dX2_mark_167 (by exact qz (q1 (by omega)) (by unfold mMark; (repeat' split) <;> first | rfl | omega))
              · skip
                refine J_aload_n dX2_mark_83 rfl ?_
                refine J_iload_n dX2_mark_84 rfl ?_
                refine J_iconst (zI 0) dX2_mark_85 rfl ?_
                refine TC_X2_needX (by decide) (Nat.le_of_ble_eq_true rfl) dX2_mark_86 ?_
                refine t_needX hS hO (by omega) (by omega) ?_
                refine J_ri ?_
                refine J_aload_n dX2_mark_89 rfl ?_
                refine J_iload_n dX2_mark_90 rfl ?_
                refine J_iconst (zI 0) dX2_mark_91 rfl ?_
                refine TC_X2_needY (by decide) (Nat.le_of_ble_eq_true rfl) dX2_mark_92 ?_
                refine t_needY hS hO (by omega) (by omega) ?_
                refine J_ri ?_
                refine J_imul_z dX2_mark_95 ?_
                refine J_aload_n dX2_mark_96 rfl ?_
                refine J_iload_n dX2_mark_97 rfl ?_
                refine TC_X2_across (by decide) (Nat.le_of_ble_eq_true rfl) dX2_mark_98 ?_
                refine t_across hS hO (by omega) ?_
                refine J_ri ?_
                refine J_aload_n dX2_mark_101 rfl ?_
                refine J_iload_n dX2_mark_102 rfl ?_
                refine TC_X2_down (by decide) (Nat.le_of_ble_eq_true rfl) dX2_mark_103 ?_
                refine t_down hS hO (by omega) ?_
                refine J_ri ?_
                refine J_imul_z dX2_mark_106 ?_
                refine J_isub_z dX2_mark_107 ?_
                refine J_goto (tgt := 167) dX2_mark_108 (by decide) ?_
                exact J_iret rfl dX2_mark_167 (by exact qz (q1 (by omega)) (by unfold mMark; (repeat' split) <;> first | rfl | omega))
            · skip
              refine J_aload_n dX2_mark_51 rfl ?_
              refine J_iload_n dX2_mark_52 rfl ?_
              refine TC_X2_across (by decide) (Nat.le_of_ble_eq_true rfl) dX2_mark_53 ?_
              refine t_across hS hO (by omega) ?_
              refine J_ri ?_
              refine J_aload_n dX2_mark_56 rfl ?_
              refine J_iload_n dX2_mark_57 rfl ?_
              refine TC_X2_down (by decide) (Nat.le_of_ble_eq_true rfl) dX2_mark_58 ?_
              refine t_down hS hO (by omega) ?_
              refine J_ri ?_
              refine J_isub_z dX2_mark_61 ?_
              refine J_istore dX2_mark_62 rfl (by decide) _ rfl ?_
              refine J_iload dX2_mark_64 rfl ?_
              refine J_if_ge_z (tgt := 75) dX2_mark_66 (by decide) (by unfold zR; omega) (fun c66 => ?_) (fun c66 => ?_)
              · skip
                refine J_iload dX2_mark_75 rfl ?_
                exact J_iret rfl dX2_mark_77 (by exact qz (q1 (by omega)) (by unfold mMark; (repeat' split) <;> first | rfl | omega))
              · skip
                refine J_iload dX2_mark_69 rfl ?_
                refine J_ineg_z dX2_mark_71 ?_
                refine J_goto (tgt := 77) dX2_mark_72 (by decide) ?_
                exact J_iret rfl dX2_mark_77 (by exact qz (q1 (by omega)) (by unfold mMark; (repeat' split) <;> first | rfl | omega))
          · skip
            refine J_aload_n dX2_mark_40 rfl ?_
            refine J_iconst (zI 3) dX2_mark_41 rfl ?_
            refine TC_X2_found (by decide) (Nat.le_of_ble_eq_true rfl) dX2_mark_42 ?_
            refine t_found (m := _) (by decide) ?_
            refine J_ri ?_
            exact J_iret rfl dX2_mark_45 (by exact q0 (by omega) (by omega))
    · exfalso; omega
  · exfalso; omega
theorem t_free_bad {E : jEnv} {α : Nat → Nat} {σ : tS} {Q : Option Value → tS → Prop} {many : Nat} {wide high bl : Int} {G : Nat → Nat → Int} {P : Nat → Nat → Int} {rule : Int} {v k u : Int} (hS : tSh many wide high bl G σ) (hO : shOK many wide high bl G) (hP : tPl P rule σ) (hN : plOK many P rule) (rv : zR v) (rk : zR k) (ru : zR u) (hv : ¬ (0 ≤ v ∧ v < pgM P many) ∨ k < 0 ∨ ¬ (0 ≤ u ∧ u ≤ 3)) (hq : Q (some (.int (zI (-1)))) σ) : jX2_free E α 0 [some (.ref (α 0)), some (.int (zI (v))), some (.int (zI (k))), some (.int (zI (u)))] [] σ Q := by
  refine J_aload_n dX2_free_0 rfl ?_
  refine J_iload_n dX2_free_1 rfl ?_
  refine TC_X2_isPage (by decide) (Nat.le_of_ble_eq_true rfl) dX2_free_2 ?_
  refine t_isPage hS hO hP hN (by unfold zR at *; omega) (fun b2 => ?_) (fun b2 => ?_)
  · refine J_ri ?_
    refine J_if_eq_n (tgt := 21) dX2_free_5 (by decide) (by decide) ?_
    refine J_iload_n dX2_free_8 rfl ?_
    refine J_if_lt_z (tgt := 21) dX2_free_9 (by decide) (by unfold zR at *; omega) (fun c9 => ?_) (fun c9 => ?_)
    · skip
      refine J_iconst (zI (-1)) dX2_free_21 rfl ?_
      exact J_iret rfl dX2_free_22 (by exact hq)
    · skip
      refine J_iload_n dX2_free_12 rfl ?_
      refine J_iconst (zI 0) dX2_free_13 rfl ?_
      refine J_iconst (zI 3) dX2_free_14 rfl ?_
      refine TC_X2_in (by decide) (Nat.le_of_ble_eq_true rfl) dX2_free_15 ?_
      refine t_in (by unfold zR at *; omega) (by unfold zR at *; omega) (by unfold zR at *; omega) (fun b15 => ?_) (fun b15 => ?_)
      · exfalso; omega
      · refine J_ri ?_
        refine J_if_ne_n (tgt := 23) dX2_free_18 (by decide) (by decide) ?_
        refine J_iconst (zI (-1)) dX2_free_21 rfl ?_
        exact J_iret rfl dX2_free_22 (by exact hq)
  · refine J_ri ?_
    refine J_if_eq_y (tgt := 21) dX2_free_5 (by decide) (by decide) ?_
    refine J_iconst (zI (-1)) dX2_free_21 rfl ?_
    exact J_iret rfl dX2_free_22 (by exact hq)
def rTell (r : rct) (k : Int) : Int := if k = 0 then r.1 else if k = 1 then r.2.1 else if k = 2 then r.2.2.1 else r.2.2.2
theorem t_free {E : jEnv} {α : Nat → Nat} {σ : tS} {Q : Option Value → tS → Prop} {many : Nat} {wide high bl : Int} {G : Nat → Nat → Int} {P : Nat → Nat → Int} {rule : Int} {v u : Int} {k : Nat} (hS : tSh many wide high bl G σ) (hO : shOK many wide high bl G) (hP : tPl P rule σ) (hN : plOK many P rule) (hV : plV many wide high bl G P) (hv : 0 ≤ v ∧ v < pgM P many) (hk : k < 2147483648) (hu : 0 ≤ u ∧ u ≤ 3) (q0 : (frL wide high (gO bl G P v many)).length ≤ k → ∀ σ1, tEq [27, 32, 33, 34, 35] [26, 28, 29, 30, 31] σ σ1 → Q (some (.int (zI (-9)))) σ1) (q1 : k < (frL wide high (gO bl G P v many)).length → ∀ σ1, tEq [0, 27, 32, 33, 34, 35] [26, 28, 29, 30, 31] σ σ1 → σ1.1 0 = zI (rTell ((frL wide high (gO bl G P v many)).getD k (0, 0, 0, 0)) u) → Q (some (.int (zI 1))) σ1) : jX2_free E α 0 [some (.ref (α 0)), some (.int (zI (v))), some (.int (zI (k : Nat))), some (.int (zI (u)))] [] σ Q := by
  have := hO.s
  have := pgM_b hN many (Nat.le_refl _)
  refine J_aload_n dX2_free_0 rfl ?_
  refine J_iload_n dX2_free_1 rfl ?_
  refine TC_X2_isPage (by decide) (Nat.le_of_ble_eq_true rfl) dX2_free_2 ?_
  refine t_isPage hS hO hP hN (by unfold zR at *; omega) (fun b2 => ?_) (fun b2 => ?_)
  · refine J_ri ?_
    refine J_if_eq_n (tgt := 21) dX2_free_5 (by decide) (by decide) ?_
    refine J_iload_n dX2_free_8 rfl ?_
    refine J_if_lt_z (tgt := 21) dX2_free_9 (by decide) (by unfold zR; omega) (fun c9 => ?_) (fun c9 => ?_)
    · exfalso; omega
    · skip
      refine J_iload_n dX2_free_12 rfl ?_
      refine J_iconst (zI 0) dX2_free_13 rfl ?_
      refine J_iconst (zI 3) dX2_free_14 rfl ?_
      refine TC_X2_in (by decide) (Nat.le_of_ble_eq_true rfl) dX2_free_15 ?_
      refine t_in (by unfold zR; omega) (by unfold zR; omega) (by unfold zR; omega) (fun b15 => ?_) (fun b15 => ?_)
      · refine J_ri ?_
        refine J_if_ne_y (tgt := 23) dX2_free_18 (by decide) (by decide) ?_
        refine J_aload_n dX2_free_23 rfl ?_
        refine J_iload_n dX2_free_24 rfl ?_
        refine TC_X2_layFree (by decide) (Nat.le_of_ble_eq_true rfl) dX2_free_25 ?_
        refine t_layFree hS hO hP hN hV (by omega) (fun σ1 l e1 F1 O1 => ?_)
        obtain rfl := frL_eq O1
        have hl := O1.2.2
        refine J_rv ?_
        refine J_iload_n dX2_free_28 rfl ?_
        refine J_aload_n dX2_free_29 rfl ?_
        refine TG_freeMany dX2_free_30 ?_
        refine J_top (zI ((frL wide high (gO bl G P v many)).length)) F1.1 ?_
        refine J_icmp_lt_z (tgt := 39) dX2_free_33 (by decide) (by unfold zR; omega) (by unfold zR; omega) (fun c33 => ?_) (fun c33 => ?_)
        · skip
          refine J_aload_n dX2_free_39 rfl ?_
          refine J_iload_n dX2_free_40 rfl ?_
          refine J_if_ne_z (tgt := 53) dX2_free_41 (by decide) (by unfold zR; omega) (fun c41 => ?_) (fun c41 => ?_)
          · skip
            refine J_iload_n dX2_free_53 rfl ?_
            refine J_iconst (zI 1) dX2_free_54 rfl ?_
            refine J_icmp_ne_z (tgt := 67) dX2_free_55 (by decide) (by unfold zR; omega) (by unfold zR; omega) (fun c55 => ?_) (fun c55 => ?_)
            · skip
              refine J_iload_n dX2_free_67 rfl ?_
              refine J_iconst (zI 2) dX2_free_68 rfl ?_
              refine J_icmp_ne_z (tgt := 81) dX2_free_69 (by decide) (by unfold zR; omega) (by unfold zR; omega) (fun c69 => ?_) (fun c69 => ?_)
              · skip
                refine J_aload_n dX2_free_81 rfl ?_
                refine TG_freeH dX2_free_82 ?_
                refine J_iload_n dX2_free_85 rfl ?_
                refine TJ_iald 31 (k) ⟨rfl, rfl, by decide⟩ (by omega) (show k < 4096 by omega) dX2_free_86 ?_
                refine J_top (zI (((frL wide high (gO bl G P v many)).getD k (0, 0, 0, 0)).2.2.2)) ((F1.2 k (by omega)).2.2.2) ?_
                refine J_iconst (zI 1) dX2_free_87 rfl ?_
                refine TC_X2_tells (by decide) (Nat.le_of_ble_eq_true rfl) dX2_free_88 ?_
                refine t_tells  ?_
                refine J_ri ?_
                exact J_iret rfl dX2_free_91 (by exact q1 (by omega) _ ((e1.mono (by decide) (by decide)).sI (by decide)) (congrArg zI (by unfold rTell; (repeat' split) <;> first | rfl | omega)))
              · skip
                refine J_aload_n dX2_free_72 rfl ?_
                refine TG_freeW dX2_free_73 ?_
                refine J_iload_n dX2_free_76 rfl ?_
                refine TJ_iald 30 (k) ⟨rfl, rfl, by decide⟩ (by omega) (show k < 4096 by omega) dX2_free_77 ?_
                refine J_top (zI (((frL wide high (gO bl G P v many)).getD k (0, 0, 0, 0)).2.2.1)) ((F1.2 k (by omega)).2.2.1) ?_
                refine J_goto (tgt := 87) dX2_free_78 (by decide) ?_
                refine J_iconst (zI 1) dX2_free_87 rfl ?_
                refine TC_X2_tells (by decide) (Nat.le_of_ble_eq_true rfl) dX2_free_88 ?_
                refine t_tells  ?_
                refine J_ri ?_
                exact J_iret rfl dX2_free_91 (by exact q1 (by omega) _ ((e1.mono (by decide) (by decide)).sI (by decide)) (congrArg zI (by unfold rTell; (repeat' split) <;> first | rfl | omega)))
            · skip
              refine J_aload_n dX2_free_58 rfl ?_
              refine TG_freeY dX2_free_59 ?_
              refine J_iload_n dX2_free_62 rfl ?_
              refine TJ_iald 29 (k) ⟨rfl, rfl, by decide⟩ (by omega) (show k < 4096 by omega) dX2_free_63 ?_
              refine J_top (zI (((frL wide high (gO bl G P v many)).getD k (0, 0, 0, 0)).2.1)) ((F1.2 k (by omega)).2.1) ?_
              refine J_goto (tgt := 87) dX2_free_64 (by decide) ?_
              refine J_iconst (zI 1) dX2_free_87 rfl ?_
              refine TC_X2_tells (by decide) (Nat.le_of_ble_eq_true rfl) dX2_free_88 ?_
              refine t_tells  ?_
              refine J_ri ?_
              exact J_iret rfl dX2_free_91 (by exact q1 (by omega) _ ((e1.mono (by decide) (by decide)).sI (by decide)) (congrArg zI (by unfold rTell; (repeat' split) <;> first | rfl | omega)))
          · skip
            refine J_aload_n dX2_free_44 rfl ?_
            refine TG_freeX dX2_free_45 ?_
            refine J_iload_n dX2_free_48 rfl ?_
            refine TJ_iald 28 (k) ⟨rfl, rfl, by decide⟩ (by omega) (show k < 4096 by omega) dX2_free_49 ?_
            refine J_top (zI (((frL wide high (gO bl G P v many)).getD k (0, 0, 0, 0)).1)) ((F1.2 k (by omega)).1) ?_
            refine J_goto (tgt := 87) dX2_free_50 (by decide) ?_
            refine J_iconst (zI 1) dX2_free_87 rfl ?_
            refine TC_X2_tells (by decide) (Nat.le_of_ble_eq_true rfl) dX2_free_88 ?_
            refine t_tells  ?_
            refine J_ri ?_
            exact J_iret rfl dX2_free_91 (by exact q1 (by omega) _ ((e1.mono (by decide) (by decide)).sI (by decide)) (congrArg zI (by unfold rTell; (repeat' split) <;> first | rfl | omega)))
        · skip
          refine J_bipush (zI (-9)) dX2_free_36 rfl ?_
          exact J_iret rfl dX2_free_38 (by exact q0 (by omega) σ1 (e1.mono (by decide) (by decide)))
      · exfalso; omega
  · exfalso; omega
theorem t_used_bad {E : jEnv} {α : Nat → Nat} {σ : tS} {Q : Option Value → tS → Prop} {many : Nat} {wide high bl : Int} {G : Nat → Nat → Int} {P : Nat → Nat → Int} {rule : Int} {v : Int} (hS : tSh many wide high bl G σ) (hO : shOK many wide high bl G) (hP : tPl P rule σ) (hN : plOK many P rule) (rv : zR v) (hv : ¬ (0 ≤ v ∧ v < pgM P many)) (hq : Q (some (.int (zI (-1)))) σ) : jX2_used E α 0 [some (.ref (α 0)), some (.int (zI (v))), none] [] σ Q := by
  refine J_aload_n dX2_used_0 rfl ?_
  refine J_iload_n dX2_used_1 rfl ?_
  refine TC_X2_isPage (by decide) (Nat.le_of_ble_eq_true rfl) dX2_used_2 ?_
  refine t_isPage hS hO hP hN (by unfold zR at *; omega) (fun b2 => ?_) (fun b2 => ?_)
  · exfalso; omega
  · refine J_ri ?_
    refine J_if_ne_n (tgt := 10) dX2_used_5 (by decide) (by decide) ?_
    refine J_iconst (zI (-1)) dX2_used_8 rfl ?_
    exact J_iret rfl dX2_used_9 (by exact hq)
theorem t_used {E : jEnv} {α : Nat → Nat} {σ : tS} {Q : Option Value → tS → Prop} {many : Nat} {wide high bl : Int} {G : Nat → Nat → Int} {P : Nat → Nat → Int} {rule : Int} {v : Int} (hS : tSh many wide high bl G σ) (hO : shOK many wide high bl G) (hP : tPl P rule σ) (hN : plOK many P rule) (hv : 0 ≤ v ∧ v < pgM P many) (hm : 0 < many) (hq : Q (some (.int (zI (mTaken bl G P v many)))) (setI σ 0 (zI (100 * mTaken bl G P v many / (wide * high))))) : jX2_used E α 0 [some (.ref (α 0)), some (.int (zI (v))), none] [] σ Q := by
  have := hO.s
  have := pgM_b hN many (Nat.le_refl _)
  have := mTaken_b (P := P) (page := v) hO many (Nat.le_refl _)
  have := hO.2.2.2.2.2.1 hm
  have := mul_b (a := wide) (b := high) (c := 16) (d := 16) (by omega) (by omega)
  refine J_aload_n dX2_used_0 rfl ?_
  refine J_iload_n dX2_used_1 rfl ?_
  refine TC_X2_isPage (by decide) (Nat.le_of_ble_eq_true rfl) dX2_used_2 ?_
  refine t_isPage hS hO hP hN (by unfold zR at *; omega) (fun b2 => ?_) (fun b2 => ?_)
  · refine J_ri ?_
    refine J_if_ne_y (tgt := 10) dX2_used_5 (by decide) (by decide) ?_
    refine J_aload_n dX2_used_10 rfl ?_
    refine J_iload_n dX2_used_11 rfl ?_
    refine TC_X2_takenOf (by decide) (Nat.le_of_ble_eq_true rfl) dX2_used_12 ?_
    refine t_takenOf hS hO hP hN (by unfold zR at *; omega) ?_
    refine J_ri ?_
    refine J_istore_n dX2_used_15 rfl (by decide) _ rfl ?_
    refine J_aload_n dX2_used_16 rfl ?_
    refine J_bipush (zI 100) dX2_used_17 rfl ?_
    refine J_iload_n dX2_used_19 rfl ?_
    refine J_imul_z dX2_used_20 ?_
    refine J_aload_n dX2_used_21 rfl ?_
    refine TG_wide dX2_used_22 ?_
    refine J_top (zI (wide)) hS.2.1 ?_
    refine J_aload_n dX2_used_25 rfl ?_
    refine TG_high dX2_used_26 ?_
    refine J_top (zI (high)) hS.2.2.1 ?_
    refine J_imul_z dX2_used_29 ?_
    refine J_idiv_z dX2_used_30 (by unfold zR; omega) (by unfold zR; omega) (by omega) (by omega) ?_
    refine J_iload_n dX2_used_31 rfl ?_
    refine TC_X2_tells (by decide) (Nat.le_of_ble_eq_true rfl) dX2_used_32 ?_
    refine t_tells  ?_
    refine J_ri ?_
    exact J_iret rfl dX2_used_35 (by exact hq)
  · exfalso; omega
theorem t_point_bad {E : jEnv} {α : Nat → Nat} {σ : tS} {Q : Option Value → tS → Prop} {many : Nat} {wide high bl : Int} {G : Nat → Nat → Int} {v c r : Int} (hS : tSh many wide high bl G σ) (hO : shOK many wide high bl G) (rv : zR v) (rc : zR c) (rr : zR r) (hv : ¬ (0 ≤ v ∧ v < many)) (hq : Q (some (.int (zI (-1)))) σ) : jX2_point E α 0 [some (.ref (α 0)), some (.int (zI (v))), some (.int (zI (c))), some (.int (zI (r))), none, none, none, none, none] [] σ Q := by
  refine J_aload_n dX2_point_0 rfl ?_
  refine J_iload_n dX2_point_1 rfl ?_
  refine TC_X2_isFrame (by decide) (Nat.le_of_ble_eq_true rfl) dX2_point_2 ?_
  refine t_isFrame hS hO (by unfold zR at *; omega) (fun b2 => ?_) (fun b2 => ?_)
  · exfalso; omega
  · refine J_ri ?_
    refine J_if_eq_y (tgt := 40) dX2_point_5 (by decide) (by decide) ?_
    refine J_iconst (zI (-1)) dX2_point_40 rfl ?_
    exact J_iret rfl dX2_point_41 (by exact hq)
theorem t_point_bad2 {E : jEnv} {α : Nat → Nat} {σ : tS} {Q : Option Value → tS → Prop} {many : Nat} {wide high bl : Int} {G : Nat → Nat → Int} {f : Nat} {c r : Int} (hS : tSh many wide high bl G σ) (hO : shOK many wide high bl G) (hf : f < many) (rc : zR c) (rr : zR r) (hv : ¬ (0 ≤ c ∧ c < G f 1) ∨ ¬ (0 ≤ r ∧ r < G f 2)) (hq : Q (some (.int (zI (-1)))) σ) : jX2_point E α 0 [some (.ref (α 0)), some (.int (zI (f : Nat))), some (.int (zI (c))), some (.int (zI (r))), none, none, none, none, none] [] σ Q := by
  have := hO.s
  have := hO.g hf
  refine J_aload_n dX2_point_0 rfl ?_
  refine J_iload_n dX2_point_1 rfl ?_
  refine TC_X2_isFrame (by decide) (Nat.le_of_ble_eq_true rfl) dX2_point_2 ?_
  refine t_isFrame hS hO (by unfold zR at *; omega) (fun b2 => ?_) (fun b2 => ?_)
  · refine J_ri ?_
    refine J_if_eq_n (tgt := 40) dX2_point_5 (by decide) (by decide) ?_
    refine J_iload_n dX2_point_8 rfl ?_
    refine J_iconst (zI 0) dX2_point_9 rfl ?_
    refine J_aload_n dX2_point_10 rfl ?_
    refine J_iload_n dX2_point_11 rfl ?_
    refine J_iconst (zI 1) dX2_point_12 rfl ?_
    refine TC_X2_of (by decide) (Nat.le_of_ble_eq_true rfl) dX2_point_13 ?_
    refine t_of (k := 1) hS hO (by omega) (by decide) ?_
    refine J_ri ?_
    refine J_iconst (zI 1) dX2_point_16 rfl ?_
    refine J_isub_z dX2_point_17 ?_
    refine TC_X2_in (by decide) (Nat.le_of_ble_eq_true rfl) dX2_point_18 ?_
    refine t_in (by unfold zR at *; omega) (by unfold zR at *; omega) (by unfold zR at *; omega) (fun b18 => ?_) (fun b18 => ?_)
    · refine J_ri ?_
      refine J_if_eq_n (tgt := 40) dX2_point_21 (by decide) (by decide) ?_
      refine J_iload_n dX2_point_24 rfl ?_
      refine J_iconst (zI 0) dX2_point_25 rfl ?_
      refine J_aload_n dX2_point_26 rfl ?_
      refine J_iload_n dX2_point_27 rfl ?_
      refine J_iconst (zI 2) dX2_point_28 rfl ?_
      refine TC_X2_of (by decide) (Nat.le_of_ble_eq_true rfl) dX2_point_29 ?_
      refine t_of (k := 2) hS hO (by omega) (by decide) ?_
      refine J_ri ?_
      refine J_iconst (zI 1) dX2_point_32 rfl ?_
      refine J_isub_z dX2_point_33 ?_
      refine TC_X2_in (by decide) (Nat.le_of_ble_eq_true rfl) dX2_point_34 ?_
      refine t_in (by unfold zR at *; omega) (by unfold zR at *; omega) (by unfold zR at *; omega) (fun b34 => ?_) (fun b34 => ?_)
      · exfalso; omega
      · refine J_ri ?_
        refine J_if_ne_n (tgt := 42) dX2_point_37 (by decide) (by decide) ?_
        refine J_iconst (zI (-1)) dX2_point_40 rfl ?_
        exact J_iret rfl dX2_point_41 (by exact hq)
    · refine J_ri ?_
      refine J_if_eq_y (tgt := 40) dX2_point_21 (by decide) (by decide) ?_
      refine J_iconst (zI (-1)) dX2_point_40 rfl ?_
      exact J_iret rfl dX2_point_41 (by exact hq)
  · exfalso; omega
def mPoint (bl : Int) (G P : Nat → Nat → Int) (f : Nat) (c r : Int) : Int := 10000 * P f 0 + 100 * (P f 1 + mEd bl G f + (if P f 3 = 1 then r - mAb G f else c - mLf G f)) + (P f 2 + mEd bl G f + (if P f 3 = 1 then c - mLf G f else r - mAb G f))
theorem t_point {E : jEnv} {α : Nat → Nat} {σ : tS} {Q : Option Value → tS → Prop} {many : Nat} {wide high bl : Int} {G : Nat → Nat → Int} {P : Nat → Nat → Int} {rule : Int} {f : Nat} {c r : Int} (hS : tSh many wide high bl G σ) (hO : shOK many wide high bl G) (hP : tPl P rule σ) (hN : plOK many P rule) (hf : f < many) (hc : 0 ≤ c ∧ c < G f 1) (hr : 0 ≤ r ∧ r < G f 2) (q0 : P f 0 = -1 → Q (some (.int (zI (-4)))) σ) (q1 : 0 ≤ P f 0 → ¬ (0 ≤ c - mLf G f ∧ c - mLf G f < mAc G f ∧ 0 ≤ r - mAb G f ∧ r - mAb G f < mDn G f) → Q (some (.int (zI (-9)))) σ) (q2 : 0 ≤ P f 0 → 0 ≤ c - mLf G f ∧ c - mLf G f < mAc G f ∧ 0 ≤ r - mAb G f ∧ r - mAb G f < mDn G f → Q (some (.int (zI (mPoint bl G P f c r)))) σ) : jX2_point E α 0 [some (.ref (α 0)), some (.int (zI (f : Nat))), some (.int (zI (c))), some (.int (zI (r))), none, none, none, none, none] [] σ Q := by
  have := hO.s
  have := hO.g hf
  have := mAc_b hO hf
  have := mDn_b hO hf
  have := mLf_b hO hf
  have := mAb_b hO hf
  have := mEd_b hO f
  have := hN.1 f hf
  refine J_aload_n dX2_point_0 rfl ?_
  refine J_iload_n dX2_point_1 rfl ?_
  refine TC_X2_isFrame (by decide) (Nat.le_of_ble_eq_true rfl) dX2_point_2 ?_
  refine t_isFrame hS hO (by unfold zR at *; omega) (fun b2 => ?_) (fun b2 => ?_)
  · refine J_ri ?_
    refine J_if_eq_n (tgt := 40) dX2_point_5 (by decide) (by decide) ?_
    refine J_iload_n dX2_point_8 rfl ?_
    refine J_iconst (zI 0) dX2_point_9 rfl ?_
    refine J_aload_n dX2_point_10 rfl ?_
    refine J_iload_n dX2_point_11 rfl ?_
    refine J_iconst (zI 1) dX2_point_12 rfl ?_
    refine TC_X2_of (by decide) (Nat.le_of_ble_eq_true rfl) dX2_point_13 ?_
    refine t_of (k := 1) hS hO (by omega) (by decide) ?_
    refine J_ri ?_
    refine J_iconst (zI 1) dX2_point_16 rfl ?_
    refine J_isub_z dX2_point_17 ?_
    refine TC_X2_in (by decide) (Nat.le_of_ble_eq_true rfl) dX2_point_18 ?_
    refine t_in (by unfold zR; omega) (by unfold zR; omega) (by unfold zR; omega) (fun b18 => ?_) (fun b18 => ?_)
    · refine J_ri ?_
      refine J_if_eq_n (tgt := 40) dX2_point_21 (by decide) (by decide) ?_
      refine J_iload_n dX2_point_24 rfl ?_
      refine J_iconst (zI 0) dX2_point_25 rfl ?_
      refine J_aload_n dX2_point_26 rfl ?_
      refine J_iload_n dX2_point_27 rfl ?_
      refine J_iconst (zI 2) dX2_point_28 rfl ?_
      refine TC_X2_of (by decide) (Nat.le_of_ble_eq_true rfl) dX2_point_29 ?_
      refine t_of (k := 2) hS hO (by omega) (by decide) ?_
      refine J_ri ?_
      refine J_iconst (zI 1) dX2_point_32 rfl ?_
      refine J_isub_z dX2_point_33 ?_
      refine TC_X2_in (by decide) (Nat.le_of_ble_eq_true rfl) dX2_point_34 ?_
      refine t_in (by unfold zR; omega) (by unfold zR; omega) (by unfold zR; omega) (fun b34 => ?_) (fun b34 => ?_)
      · refine J_ri ?_
        refine J_if_ne_y (tgt := 42) dX2_point_37 (by decide) (by decide) ?_
        refine J_aload_n dX2_point_42 rfl ?_
        refine J_iload_n dX2_point_43 rfl ?_
        refine TC_X2_isSet (by decide) (Nat.le_of_ble_eq_true rfl) dX2_point_44 ?_
        refine t_isSet hS hO hP hN (by omega) (fun b44 => ?_) (fun b44 => ?_)
        · refine J_ri ?_
          refine J_if_ne_y (tgt := 53) dX2_point_47 (by decide) (by decide) ?_
          refine J_iload_n dX2_point_53 rfl ?_
          refine J_aload_n dX2_point_54 rfl ?_
          refine J_iload_n dX2_point_55 rfl ?_
          refine TC_X2_leftOf (by decide) (Nat.le_of_ble_eq_true rfl) dX2_point_56 ?_
          refine t_leftOf hS hO (by omega) ?_
          refine J_ri ?_
          refine J_isub_z dX2_point_59 ?_
          refine J_istore dX2_point_60 rfl (by decide) _ rfl ?_
          refine J_iload_n dX2_point_62 rfl ?_
          refine J_aload_n dX2_point_63 rfl ?_
          refine J_iload_n dX2_point_64 rfl ?_
          refine TC_X2_aboveOf (by decide) (Nat.le_of_ble_eq_true rfl) dX2_point_65 ?_
          refine t_aboveOf hS hO (by omega) ?_
          refine J_ri ?_
          refine J_isub_z dX2_point_68 ?_
          refine J_istore dX2_point_69 rfl (by decide) _ rfl ?_
          refine J_iload dX2_point_71 rfl ?_
          refine J_iconst (zI 0) dX2_point_73 rfl ?_
          refine J_aload_n dX2_point_74 rfl ?_
          refine J_iload_n dX2_point_75 rfl ?_
          refine TC_X2_across (by decide) (Nat.le_of_ble_eq_true rfl) dX2_point_76 ?_
          refine t_across hS hO (by omega) ?_
          refine J_ri ?_
          refine J_iconst (zI 1) dX2_point_79 rfl ?_
          refine J_isub_z dX2_point_80 ?_
          refine TC_X2_in (by decide) (Nat.le_of_ble_eq_true rfl) dX2_point_81 ?_
          refine t_in (by unfold zR; omega) (by unfold zR; omega) (by unfold zR; omega) (fun b81 => ?_) (fun b81 => ?_)
          · refine J_ri ?_
            refine J_if_eq_n (tgt := 103) dX2_point_84 (by decide) (by decide) ?_
            refine J_iload dX2_point_87 rfl ?_
            refine J_iconst (zI 0) dX2_point_89 rfl ?_
            refine J_aload_n dX2_point_90 rfl ?_
            refine J_iload_n dX2_point_91 rfl ?_
            refine TC_X2_down (by decide) (Nat.le_of_ble_eq_true rfl) dX2_point_92 ?_
            refine t_down hS hO (by omega) ?_
            refine J_ri ?_
            refine J_iconst (zI 1) dX2_point_95 rfl ?_
            refine J_isub_z dX2_point_96 ?_
            refine TC_X2_in (by decide) (Nat.le_of_ble_eq_true rfl) dX2_point_97 ?_
            refine t_in (by unfold zR; omega) (by unfold zR; omega) (by unfold zR; omega) (fun b97 => ?_) (fun b97 => ?_)
            · refine J_ri ?_
              refine J_if_ne_y (tgt := 106) dX2_point_100 (by decide) (by decide) ?_
              refine J_aload_n dX2_point_106 rfl ?_
              refine TG_now dX2_point_107 ?_
              refine J_iconst (zI 4) dX2_point_110 rfl ?_
              refine J_iload_n dX2_point_111 rfl ?_
              refine J_imul_z dX2_point_112 ?_
              refine J_iconst (zI 3) dX2_point_113 rfl ?_
              refine J_iadd_z dX2_point_114 ?_
              refine TJ_iald 23 (((4 * f) + 3)) ⟨rfl, rfl, by decide⟩ (by omega) (show ((4 * f) + 3) < 33 by omega) dX2_point_115 ?_
              refine J_top (zI (P f 3)) (hP.1 f 3 (by omega) (by decide)) ?_
              refine J_iconst (zI 1) dX2_point_116 rfl ?_
              refine J_icmp_ne_z (tgt := 124) dX2_point_117 (by decide) (by unfold zR; omega) (by unfold zR; omega) (fun c117 => ?_) (fun c117 => ?_)
              · skip
                refine J_iconst (zI 0) dX2_point_124 rfl ?_
                refine J_istore dX2_point_125 rfl (by decide) _ rfl ?_
                refine J_aload_n dX2_point_127 rfl ?_
                refine TG_now dX2_point_128 ?_
                refine J_iconst (zI 4) dX2_point_131 rfl ?_
                refine J_iload_n dX2_point_132 rfl ?_
                refine J_imul_z dX2_point_133 ?_
                refine J_iconst (zI 1) dX2_point_134 rfl ?_
                refine J_iadd_z dX2_point_135 ?_
                refine TJ_iald 23 (((4 * f) + 1)) ⟨rfl, rfl, by decide⟩ (by omega) (show ((4 * f) + 1) < 33 by omega) dX2_point_136 ?_
                refine J_top (zI (P f 1)) (hP.1 f 1 (by omega) (by decide)) ?_
                refine J_aload_n dX2_point_137 rfl ?_
                refine J_iload_n dX2_point_138 rfl ?_
                refine TC_X2_edge (by decide) (Nat.le_of_ble_eq_true rfl) dX2_point_139 ?_
                refine t_edge hS hO (by omega) ?_
                refine J_ri ?_
                refine J_iadd_z dX2_point_142 ?_
                refine J_iload dX2_point_143 rfl ?_
                refine J_if_eq_y (tgt := 153) dX2_point_145 (by decide) (by decide) ?_
                refine J_iload dX2_point_153 rfl ?_
                refine J_iadd_z dX2_point_155 ?_
                refine J_istore dX2_point_156 rfl (by decide) _ rfl ?_
                refine J_aload_n dX2_point_158 rfl ?_
                refine TG_now dX2_point_159 ?_
                refine J_iconst (zI 4) dX2_point_162 rfl ?_
                refine J_iload_n dX2_point_163 rfl ?_
                refine J_imul_z dX2_point_164 ?_
                refine J_iconst (zI 2) dX2_point_165 rfl ?_
                refine J_iadd_z dX2_point_166 ?_
                refine TJ_iald 23 (((4 * f) + 2)) ⟨rfl, rfl, by decide⟩ (by omega) (show ((4 * f) + 2) < 33 by omega) dX2_point_167 ?_
                refine J_top (zI (P f 2)) (hP.1 f 2 (by omega) (by decide)) ?_
                refine J_aload_n dX2_point_168 rfl ?_
                refine J_iload_n dX2_point_169 rfl ?_
                refine TC_X2_edge (by decide) (Nat.le_of_ble_eq_true rfl) dX2_point_170 ?_
                refine t_edge hS hO (by omega) ?_
                refine J_ri ?_
                refine J_iadd_z dX2_point_173 ?_
                refine J_iload dX2_point_174 rfl ?_
                refine J_if_eq_y (tgt := 184) dX2_point_176 (by decide) (by decide) ?_
                refine J_iload dX2_point_184 rfl ?_
                refine J_iadd_z dX2_point_186 ?_
                refine J_istore dX2_point_187 rfl (by decide) _ rfl ?_
                refine J_sipush (zI 10000) dX2_point_189 rfl ?_
                refine J_aload_n dX2_point_192 rfl ?_
                refine TG_now dX2_point_193 ?_
                refine J_iconst (zI 4) dX2_point_196 rfl ?_
                refine J_iload_n dX2_point_197 rfl ?_
                refine J_imul_z dX2_point_198 ?_
                refine J_iconst (zI 0) dX2_point_199 rfl ?_
                refine J_iadd_z dX2_point_200 ?_
                refine TJ_iald 23 (((4 * f) + 0)) ⟨rfl, rfl, by decide⟩ (by omega) (show ((4 * f) + 0) < 33 by omega) dX2_point_201 ?_
                refine J_top (zI (P f 0)) (hP.1 f 0 (by omega) (by decide)) ?_
                refine J_imul_z dX2_point_202 ?_
                refine J_bipush (zI 100) dX2_point_203 rfl ?_
                refine J_iload dX2_point_205 rfl ?_
                refine J_imul_z dX2_point_207 ?_
                refine J_iadd_z dX2_point_208 ?_
                refine J_iload dX2_point_209 rfl ?_
                refine J_iadd_z dX2_point_211 ?_
                exact J_iret rfl dX2_point_212 (by exact qz (q2 (by omega) (by omega)) (by unfold mPoint; split <;> omega))
              · skip
                refine J_iconst (zI 1) dX2_point_120 rfl ?_
                refine J_goto (tgt := 125) dX2_point_121 (by decide) ?_
                refine J_istore dX2_point_125 rfl (by decide) _ rfl ?_
                refine J_aload_n dX2_point_127 rfl ?_
                refine TG_now dX2_point_128 ?_
                refine J_iconst (zI 4) dX2_point_131 rfl ?_
                refine J_iload_n dX2_point_132 rfl ?_
                refine J_imul_z dX2_point_133 ?_
                refine J_iconst (zI 1) dX2_point_134 rfl ?_
                refine J_iadd_z dX2_point_135 ?_
                refine TJ_iald 23 (((4 * f) + 1)) ⟨rfl, rfl, by decide⟩ (by omega) (show ((4 * f) + 1) < 33 by omega) dX2_point_136 ?_
                refine J_top (zI (P f 1)) (hP.1 f 1 (by omega) (by decide)) ?_
                refine J_aload_n dX2_point_137 rfl ?_
                refine J_iload_n dX2_point_138 rfl ?_
                refine TC_X2_edge (by decide) (Nat.le_of_ble_eq_true rfl) dX2_point_139 ?_
                refine t_edge hS hO (by omega) ?_
                refine J_ri ?_
                refine J_iadd_z dX2_point_142 ?_
                refine J_iload dX2_point_143 rfl ?_
                refine J_if_eq_n (tgt := 153) dX2_point_145 (by decide) (by decide) ?_
                refine J_iload dX2_point_148 rfl ?_
                refine J_goto (tgt := 155) dX2_point_150 (by decide) ?_
                refine J_iadd_z dX2_point_155 ?_
                refine J_istore dX2_point_156 rfl (by decide) _ rfl ?_
                refine J_aload_n dX2_point_158 rfl ?_
                refine TG_now dX2_point_159 ?_
                refine J_iconst (zI 4) dX2_point_162 rfl ?_
                refine J_iload_n dX2_point_163 rfl ?_
                refine J_imul_z dX2_point_164 ?_
                refine J_iconst (zI 2) dX2_point_165 rfl ?_
                refine J_iadd_z dX2_point_166 ?_
                refine TJ_iald 23 (((4 * f) + 2)) ⟨rfl, rfl, by decide⟩ (by omega) (show ((4 * f) + 2) < 33 by omega) dX2_point_167 ?_
                refine J_top (zI (P f 2)) (hP.1 f 2 (by omega) (by decide)) ?_
                refine J_aload_n dX2_point_168 rfl ?_
                refine J_iload_n dX2_point_169 rfl ?_
                refine TC_X2_edge (by decide) (Nat.le_of_ble_eq_true rfl) dX2_point_170 ?_
                refine t_edge hS hO (by omega) ?_
                refine J_ri ?_
                refine J_iadd_z dX2_point_173 ?_
                refine J_iload dX2_point_174 rfl ?_
                refine J_if_eq_n (tgt := 184) dX2_point_176 (by decide) (by decide) ?_
                refine J_iload dX2_point_179 rfl ?_
                refine J_goto (tgt := 186) dX2_point_181 (by decide) ?_
                refine J_iadd_z dX2_point_186 ?_
                refine J_istore dX2_point_187 rfl (by decide) _ rfl ?_
                refine J_sipush (zI 10000) dX2_point_189 rfl ?_
                refine J_aload_n dX2_point_192 rfl ?_
                refine TG_now dX2_point_193 ?_
                refine J_iconst (zI 4) dX2_point_196 rfl ?_
                refine J_iload_n dX2_point_197 rfl ?_
                refine J_imul_z dX2_point_198 ?_
                refine J_iconst (zI 0) dX2_point_199 rfl ?_
                refine J_iadd_z dX2_point_200 ?_
                refine TJ_iald 23 (((4 * f) + 0)) ⟨rfl, rfl, by decide⟩ (by omega) (show ((4 * f) + 0) < 33 by omega) dX2_point_201 ?_
                refine J_top (zI (P f 0)) (hP.1 f 0 (by omega) (by decide)) ?_
                refine J_imul_z dX2_point_202 ?_
                refine J_bipush (zI 100) dX2_point_203 rfl ?_
                refine J_iload dX2_point_205 rfl ?_
                refine J_imul_z dX2_point_207 ?_
                refine J_iadd_z dX2_point_208 ?_
                refine J_iload dX2_point_209 rfl ?_
                refine J_iadd_z dX2_point_211 ?_
                exact J_iret rfl dX2_point_212 (by exact qz (q2 (by omega) (by omega)) (by unfold mPoint; split <;> omega))
            · refine J_ri ?_
              refine J_if_ne_n (tgt := 106) dX2_point_100 (by decide) (by decide) ?_
              refine J_bipush (zI (-9)) dX2_point_103 rfl ?_
              exact J_iret rfl dX2_point_105 (by exact q1 (by omega) (by omega))
          · refine J_ri ?_
            refine J_if_eq_y (tgt := 103) dX2_point_84 (by decide) (by decide) ?_
            refine J_bipush (zI (-9)) dX2_point_103 rfl ?_
            exact J_iret rfl dX2_point_105 (by exact q1 (by omega) (by omega))
        · refine J_ri ?_
          refine J_if_ne_n (tgt := 53) dX2_point_47 (by decide) (by decide) ?_
          refine J_bipush (zI (-4)) dX2_point_50 rfl ?_
          exact J_iret rfl dX2_point_52 (by exact q0 (by omega))
      · exfalso; omega
    · exfalso; omega
  · exfalso; omega
