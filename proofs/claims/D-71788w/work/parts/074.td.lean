set_option maxRecDepth 100000
/-! the twin: would, best, lots -/
theorem t_would_bad {E : jEnv} {α : Nat → Nat} {σ : tS} {Q : Option Value → tS → Prop} {many : Nat} {wide high bl : Int} {G : Nat → Nat → Int} {v u : Int} (hS : tSh many wide high bl G σ) (hO : shOK many wide high bl G) (rv : zR v) (ru : zR u) (hv : ¬ (0 ≤ v ∧ v ≤ 3) ∨ ¬ (0 ≤ u ∧ u ≤ 2) ∨ many = 0) (hq : Q (some (.int (zI (-1)))) σ) : jX2_would E α 0 [some (.ref (α 0)), some (.int (zI (v))), some (.int (zI (u)))] [] σ Q := by
  have := hO.s
  refine J_iload_n dX2_would_0 rfl ?_
  refine J_iconst (zI 0) dX2_would_1 rfl ?_
  refine J_iconst (zI 3) dX2_would_2 rfl ?_
  refine TC_X2_in (by decide) (Nat.le_of_ble_eq_true rfl) dX2_would_3 ?_
  refine t_in (by unfold zR at *; omega) (by unfold zR at *; omega) (by unfold zR at *; omega) (fun b3 => ?_) (fun b3 => ?_)
  · refine J_ri ?_
    refine J_if_eq_n (tgt := 25) dX2_would_6 (by decide) (by decide) ?_
    refine J_iload_n dX2_would_9 rfl ?_
    refine J_iconst (zI 0) dX2_would_10 rfl ?_
    refine J_iconst (zI 2) dX2_would_11 rfl ?_
    refine TC_X2_in (by decide) (Nat.le_of_ble_eq_true rfl) dX2_would_12 ?_
    refine t_in (by unfold zR at *; omega) (by unfold zR at *; omega) (by unfold zR at *; omega) (fun b12 => ?_) (fun b12 => ?_)
    · refine J_ri ?_
      refine J_if_eq_n (tgt := 25) dX2_would_15 (by decide) (by decide) ?_
      refine J_aload_n dX2_would_18 rfl ?_
      refine TG_frameMany dX2_would_19 ?_
      refine J_top (zI (many)) hS.1 ?_
      refine J_if_ne_z (tgt := 27) dX2_would_22 (by decide) (by unfold zR at *; omega) (fun c22 => ?_) (fun c22 => ?_)
      · exfalso; omega
      · skip
        refine J_iconst (zI (-1)) dX2_would_25 rfl ?_
        exact J_iret rfl dX2_would_26 (by exact hq)
    · refine J_ri ?_
      refine J_if_eq_y (tgt := 25) dX2_would_15 (by decide) (by decide) ?_
      refine J_iconst (zI (-1)) dX2_would_25 rfl ?_
      exact J_iret rfl dX2_would_26 (by exact hq)
  · refine J_ri ?_
    refine J_if_eq_y (tgt := 25) dX2_would_6 (by decide) (by decide) ?_
    refine J_iconst (zI (-1)) dX2_would_25 rfl ?_
    exact J_iret rfl dX2_would_26 (by exact hq)
theorem t_would {E : jEnv} {α : Nat → Nat} {σ : tS} {Q : Option Value → tS → Prop} {many : Nat} {wide high bl : Int} {G : Nat → Nat → Int} {P : Nat → Nat → Int} {rule : Int} {r2 o : Int} (hS : tSh many wide high bl G σ) (hO : shOK many wide high bl G) (hP : tPl P rule σ) (hN : plOK many P rule) (hV : plV many wide high bl G P) (h2 : 0 ≤ r2 ∧ r2 ≤ 3) (ho : 0 ≤ o ∧ o ≤ 2) (hm : 0 < many) (hq : ∀ σ1, tEq [0, 27, 32, 33, 34, 35, 41, 42, 43] [23, 26, 28, 29, 30, 31, 40] σ σ1 → tPl P rule σ1 → σ1.1 0 = nI (mMiss (mAll many wide high bl G r2 o many).1 many) → Q (some (.int (zI (pgM (mAll many wide high bl G r2 o many).1 many)))) σ1) : jX2_would E α 0 [some (.ref (α 0)), some (.int (zI (r2))), some (.int (zI (o)))] [] σ Q := by
  have := hO.s
  refine J_iload_n dX2_would_0 rfl ?_
  refine J_iconst (zI 0) dX2_would_1 rfl ?_
  refine J_iconst (zI 3) dX2_would_2 rfl ?_
  refine TC_X2_in (by decide) (Nat.le_of_ble_eq_true rfl) dX2_would_3 ?_
  refine t_in (by unfold zR; omega) (by unfold zR; omega) (by unfold zR; omega) (fun b3 => ?_) (fun b3 => ?_)
  · refine J_ri ?_
    refine J_if_eq_n (tgt := 25) dX2_would_6 (by decide) (by decide) ?_
    refine J_iload_n dX2_would_9 rfl ?_
    refine J_iconst (zI 0) dX2_would_10 rfl ?_
    refine J_iconst (zI 2) dX2_would_11 rfl ?_
    refine TC_X2_in (by decide) (Nat.le_of_ble_eq_true rfl) dX2_would_12 ?_
    refine t_in (by unfold zR; omega) (by unfold zR; omega) (by unfold zR; omega) (fun b12 => ?_) (fun b12 => ?_)
    · refine J_ri ?_
      refine J_if_eq_n (tgt := 25) dX2_would_15 (by decide) (by decide) ?_
      refine J_aload_n dX2_would_18 rfl ?_
      refine TG_frameMany dX2_would_19 ?_
      refine J_top (zI (many)) hS.1 ?_
      refine J_if_ne_z (tgt := 27) dX2_would_22 (by decide) (by unfold zR; omega) (fun c22 => ?_) (fun c22 => ?_)
      · skip
        refine J_aload_n dX2_would_27 rfl ?_
        refine J_iload_n dX2_would_28 rfl ?_
        refine J_iload_n dX2_would_29 rfl ?_
        refine TC_X2_tries (by decide) (Nat.le_of_ble_eq_true rfl) dX2_would_30 ?_
        refine t_tries hS hO hP hN hV h2 ho (fun σ1 e1 P1 W1 => ?_)
        refine J_rv ?_
        refine J_aload_n dX2_would_33 rfl ?_
        refine J_aload_n dX2_would_34 rfl ?_
        refine TG_wouldMissing dX2_would_35 ?_
        refine J_aload_n dX2_would_38 rfl ?_
        refine TG_wouldPages dX2_would_39 ?_
        refine J_top (zI (pgM (mAll many wide high bl G r2 o many).1 many)) W1.1 ?_
        refine TC_X2_tells (by decide) (Nat.le_of_ble_eq_true rfl) dX2_would_42 ?_
        refine t_tells  ?_
        refine J_ri ?_
        exact J_iret rfl dX2_would_45 (by exact hq _ ((e1.mono (by decide) (by decide)).sI (by decide)) (P1.eq (tEq.refl.sI (I := [0]) (A := []) (by decide)) (by decide)) W1.2.1)
      · exfalso; omega
    · exfalso; omega
  · exfalso; omega
theorem tl_bitsOf4 {E : jEnv} {α : Nat → Nat} {σ : tS} {Q : Option Value → tS → Prop} {s0 : Int32}  : ∀ (n : Nat) (m a : Nat), m < 256 → Q (some (.int (zI ((a + cntB m 8 : Nat) : Int)))) σ → m < n → jX2_bitsOf E α 4 [some (.int (s0)), some (.int (zI (a : Nat))), some (.int (nI m))] [] σ Q := by
  intro n
  induction n with
  | zero => intro m a h1 h2 hn; exact absurd hn (Nat.not_lt_zero _)
  | succ n ih =>
    intro m a h1 h2 hn
    refine J_iload_n dX2_bitsOf_4 rfl ?_
    refine J_if_eq (tgt := 20) dX2_bitsOf_5 (by decide) (fun c5 => ?_) (fun c5 => ?_)
    · skip
      obtain rfl := (nI_0_iff h1).mp c5
      have hb : cntB 0 8 = 0 := by decide
      refine J_iload_n dX2_bitsOf_20 rfl ?_
      exact J_iret rfl dX2_bitsOf_21 (by rw [hb] at h2; exact h2)
    · skip
      have hb := bits_s m h1 (fun z => c5 ((nI_0_iff h1).mpr z))
      have := cntB_le m 8
      refine J_iinc_z ((((a + 1)) : Nat) : Int) (by omega) dX2_bitsOf_8 rfl rfl (by decide) _ rfl ?_
      refine J_iload_n dX2_bitsOf_11 rfl ?_
      refine J_iload_n dX2_bitsOf_12 rfl ?_
      refine J_iconst (zI 1) dX2_bitsOf_13 rfl ?_
      refine J_isub dX2_bitsOf_14 ?_
      refine J_iand dX2_bitsOf_15 ?_
      refine J_top (nI (m &&& (m - 1))) hb.1 ?_
      refine J_istore_n dX2_bitsOf_16 rfl (by decide) _ rfl ?_
      refine J_goto (tgt := 4) dX2_bitsOf_17 (by decide) ?_
      exact ih (m &&& (m - 1)) (a + 1) (by omega) (by rw [show a + 1 + cntB (m &&& (m - 1)) 8 = a + cntB m 8 by omega]; exact h2) (by omega)
theorem t_bitsOf {E : jEnv} {α : Nat → Nat} {σ : tS} {Q : Option Value → tS → Prop} {m : Nat} (hm : m < 256) (hq : Q (some (.int (zI (cntB m 8 : Nat)))) σ) : jX2_bitsOf E α 0 [some (.int (nI m)), none, none] [] σ Q := by
  refine J_iconst (zI 0) dX2_bitsOf_0 rfl ?_
  refine J_istore_n dX2_bitsOf_1 rfl (by decide) _ rfl ?_
  refine J_iload_n dX2_bitsOf_2 rfl ?_
  refine J_istore_n dX2_bitsOf_3 rfl (by decide) _ rfl ?_
  exact tl_bitsOf4 (s0 := nI m) _ m 0 hm (by rw [Nat.zero_add]; exact hq) (Nat.lt_succ_self _)
theorem mCand_e {many : Nat} {wide high bl : Int} {G : Nat → Nat → Int} {r o : Nat} (ho : o < 3) : mCand many wide high bl G (3 * r + o) = ((cntB (mMiss (mAll many wide high bl G r o many).1 many) 8 : Int), pgM (mAll many wide high bl G r o many).1 many, mLast bl G (mAll many wide high bl G r o many).1 many) := by
  have e1 : (3 * r + o) / 3 = r := by omega
  have e2 : (3 * r + o) % 3 = o := by omega
  unfold mCand
  rw [e1, e2]
theorem tl_best94 {E : jEnv} {α : Nat → Nat} {σ : tS} {Q : Option Value → tS → Prop} {many : Nat} {wide high bl : Int} {G : Nat → Nat → Int} {r o : Nat} {lss : Int} (hO : shOK many wide high bl G) (hr : r < 4) (ho : o < 3) (hW : tWd bl G (mAll many wide high bl G r o many).1 many σ) (hl : zR lss) (hle : lss < 0 ↔ bLess (mCand many wide high bl G (3 * r + o)) (mBst many wide high bl G (3 * r + o)).2) (hx : jX2_best E α 133 [some (.ref (α 0)), some (.int (zI ((mBst many wide high bl G (3 * r + o + 1)).1))), some (.int (zI ((mBst many wide high bl G (3 * r + o + 1)).2.1))), some (.int (zI ((mBst many wide high bl G (3 * r + o + 1)).2.2.1))), some (.int (zI ((mBst many wide high bl G (3 * r + o + 1)).2.2.2))), some (.int (zI (r : Nat))), some (.int (zI (o : Nat))), none] [] σ Q)  : jX2_best E α 94 [some (.ref (α 0)), some (.int (zI ((mBst many wide high bl G (3 * r + o)).1))), some (.int (zI ((mBst many wide high bl G (3 * r + o)).2.1))), some (.int (zI ((mBst many wide high bl G (3 * r + o)).2.2.1))), some (.int (zI ((mBst many wide high bl G (3 * r + o)).2.2.2))), some (.int (zI (r : Nat))), some (.int (zI (o : Nat))), some (.int (zI (lss)))] [] σ Q := by
  have hb := mBst_b hO (3 * r + o) (by omega)
  have hc := mCand_e (many := many) (wide := wide) (high := high) (bl := bl) (G := G) (r := r) ho
  have := mMiss_lt (mAll many wide high bl G r o many).1 many hO.1
  refine J_iload_n dX2_best_94 rfl ?_
  refine J_bipush (zI (-9)) dX2_best_95 rfl ?_
  refine J_icmp_eq_z (tgt := 105) dX2_best_97 (by decide) (by unfold zR at *; omega) (by unfold zR at *; omega) (fun c97 => ?_) (fun c97 => ?_)
  · skip
    refine J_bipush (zI 10) dX2_best_105 rfl ?_
    refine J_iload dX2_best_107 rfl ?_
    refine J_imul_z dX2_best_109 ?_
    refine J_iload dX2_best_110 rfl ?_
    refine J_iadd_z dX2_best_112 ?_
    refine J_istore_n dX2_best_113 rfl (by decide) _ rfl ?_
    refine J_aload_n dX2_best_114 rfl ?_
    refine TG_wouldMissing dX2_best_115 ?_
    refine J_top (nI (mMiss (mAll many wide high bl G r o many).1 many)) hW.2.1 ?_
    refine TC_X2_bitsOf (by decide) (Nat.le_of_ble_eq_true rfl) dX2_best_118 ?_
    refine t_bitsOf (by omega) ?_
    refine J_ri ?_
    refine J_istore_n dX2_best_121 rfl (by decide) _ rfl ?_
    refine J_aload_n dX2_best_122 rfl ?_
    refine TG_wouldPages dX2_best_123 ?_
    refine J_top (zI (pgM (mAll many wide high bl G r o many).1 many)) hW.1 ?_
    refine J_istore_n dX2_best_126 rfl (by decide) _ rfl ?_
    refine J_aload_n dX2_best_127 rfl ?_
    refine TG_wouldLast dX2_best_128 ?_
    refine J_top (zI (mLast bl G (mAll many wide high bl G r o many).1 many)) hW.2.2 ?_
    refine J_istore dX2_best_131 rfl (by decide) _ rfl ?_
    first | rw [mBst_y (c := 3 * r + o) (Or.inl c97), hc, show (3 * r + o) / 3 = r by omega, show (3 * r + o) % 3 = o by omega] at hx | rw [mBst_y (c := 3 * r + o) (Or.inr (hle.mp c102)), hc, show (3 * r + o) / 3 = r by omega, show (3 * r + o) % 3 = o by omega] at hx
    exact J_fg (by repeat' constructor) hx
  · skip
    refine J_iload dX2_best_100 rfl ?_
    refine J_if_ge_z (tgt := 133) dX2_best_102 (by decide) (by unfold zR at *; omega) (fun c102 => ?_) (fun c102 => ?_)
    · skip
      refine J_fg (L' := [some (.ref (α 0)), some (.int (zI ((mBst many wide high bl G (3 * r + o)).1))), some (.int (zI ((mBst many wide high bl G (3 * r + o)).2.1))), some (.int (zI ((mBst many wide high bl G (3 * r + o)).2.2.1))), some (.int (zI ((mBst many wide high bl G (3 * r + o)).2.2.2))), some (.int (zI (r : Nat))), some (.int (zI (o : Nat))), none]) (by repeat' constructor) ?_
      rw [mBst_n (c := 3 * r + o) (by rw [← hle]; omega)] at hx
      exact hx
    · skip
      refine J_bipush (zI 10) dX2_best_105 rfl ?_
      refine J_iload dX2_best_107 rfl ?_
      refine J_imul_z dX2_best_109 ?_
      refine J_iload dX2_best_110 rfl ?_
      refine J_iadd_z dX2_best_112 ?_
      refine J_istore_n dX2_best_113 rfl (by decide) _ rfl ?_
      refine J_aload_n dX2_best_114 rfl ?_
      refine TG_wouldMissing dX2_best_115 ?_
      refine J_top (nI (mMiss (mAll many wide high bl G r o many).1 many)) hW.2.1 ?_
      refine TC_X2_bitsOf (by decide) (Nat.le_of_ble_eq_true rfl) dX2_best_118 ?_
      refine t_bitsOf (by omega) ?_
      refine J_ri ?_
      refine J_istore_n dX2_best_121 rfl (by decide) _ rfl ?_
      refine J_aload_n dX2_best_122 rfl ?_
      refine TG_wouldPages dX2_best_123 ?_
      refine J_top (zI (pgM (mAll many wide high bl G r o many).1 many)) hW.1 ?_
      refine J_istore_n dX2_best_126 rfl (by decide) _ rfl ?_
      refine J_aload_n dX2_best_127 rfl ?_
      refine TG_wouldLast dX2_best_128 ?_
      refine J_top (zI (mLast bl G (mAll many wide high bl G r o many).1 many)) hW.2.2 ?_
      refine J_istore dX2_best_131 rfl (by decide) _ rfl ?_
      first | rw [mBst_y (c := 3 * r + o) (Or.inl c97), hc, show (3 * r + o) / 3 = r by omega, show (3 * r + o) % 3 = o by omega] at hx | rw [mBst_y (c := 3 * r + o) (Or.inr (hle.mp c102)), hc, show (3 * r + o) / 3 = r by omega, show (3 * r + o) % 3 = o by omega] at hx
      exact J_fg (by repeat' constructor) hx
theorem tl_best46 {E : jEnv} {α : Nat → Nat} {σ : tS} {Q : Option Value → tS → Prop} {many : Nat} {wide high bl : Int} {G : Nat → Nat → Int} {r o : Nat} (hO : shOK many wide high bl G) (hr : r < 4) (ho : o < 3) (hW : tWd bl G (mAll many wide high bl G r o many).1 many σ) (hx : jX2_best E α 133 [some (.ref (α 0)), some (.int (zI ((mBst many wide high bl G (3 * r + o + 1)).1))), some (.int (zI ((mBst many wide high bl G (3 * r + o + 1)).2.1))), some (.int (zI ((mBst many wide high bl G (3 * r + o + 1)).2.2.1))), some (.int (zI ((mBst many wide high bl G (3 * r + o + 1)).2.2.2))), some (.int (zI (r : Nat))), some (.int (zI (o : Nat))), none] [] σ Q)  : jX2_best E α 46 [some (.ref (α 0)), some (.int (zI ((mBst many wide high bl G (3 * r + o)).1))), some (.int (zI ((mBst many wide high bl G (3 * r + o)).2.1))), some (.int (zI ((mBst many wide high bl G (3 * r + o)).2.2.1))), some (.int (zI ((mBst many wide high bl G (3 * r + o)).2.2.2))), some (.int (zI (r : Nat))), some (.int (zI (o : Nat))), none] [] σ Q := by
  have hb := mBst_b hO (3 * r + o) (by omega)
  have hc := mCand_e (many := many) (wide := wide) (high := high) (bl := bl) (G := G) (r := r) ho
  have hcb := mCand_b hO (c := 3 * r + o) (by omega)
  rw [hc] at hcb
  simp only at hcb
  have := mMiss_lt (mAll many wide high bl G r o many).1 many hO.1
  refine J_aload_n dX2_best_46 rfl ?_
  refine TG_wouldMissing dX2_best_47 ?_
  refine J_top (nI (mMiss (mAll many wide high bl G r o many).1 many)) hW.2.1 ?_
  refine TC_X2_bitsOf (by decide) (Nat.le_of_ble_eq_true rfl) dX2_best_50 ?_
  refine t_bitsOf (by omega) ?_
  refine J_ri ?_
  refine J_iload_n dX2_best_53 rfl ?_
  refine J_isub_z dX2_best_54 ?_
  refine J_istore dX2_best_55 rfl (by decide) _ rfl ?_
  refine J_iload dX2_best_57 rfl ?_
  refine J_if_ne_z (tgt := 71) dX2_best_59 (by decide) (by unfold zR at *; omega) (fun c59 => ?_) (fun c59 => ?_)
  · skip
    refine J_iload dX2_best_71 rfl ?_
    refine J_istore dX2_best_73 rfl (by decide) _ rfl ?_
    refine J_iload dX2_best_75 rfl ?_
    refine J_if_ne_z (tgt := 90) dX2_best_77 (by decide) (by unfold zR at *; omega) (fun c77 => ?_) (fun c77 => ?_)
    · skip
      refine J_iload dX2_best_90 rfl ?_
      refine J_istore dX2_best_92 rfl (by decide) _ rfl ?_
      exact tl_best94 hO hr ho hW (by unfold zR; omega) (by unfold bLess; rw [hc]; simp only; omega) hx
    · skip
      refine J_aload_n dX2_best_80 rfl ?_
      refine TG_wouldLast dX2_best_81 ?_
      refine J_top (zI (mLast bl G (mAll many wide high bl G r o many).1 many)) hW.2.2 ?_
      refine J_iload dX2_best_84 rfl ?_
      refine J_isub_z dX2_best_86 ?_
      refine J_goto (tgt := 92) dX2_best_87 (by decide) ?_
      refine J_istore dX2_best_92 rfl (by decide) _ rfl ?_
      exact tl_best94 hO hr ho hW (by unfold zR; omega) (by unfold bLess; rw [hc]; simp only; omega) hx
  · skip
    refine J_aload_n dX2_best_62 rfl ?_
    refine TG_wouldPages dX2_best_63 ?_
    refine J_top (zI (pgM (mAll many wide high bl G r o many).1 many)) hW.1 ?_
    refine J_iload_n dX2_best_66 rfl ?_
    refine J_isub_z dX2_best_67 ?_
    refine J_goto (tgt := 73) dX2_best_68 (by decide) ?_
    refine J_istore dX2_best_73 rfl (by decide) _ rfl ?_
    refine J_iload dX2_best_75 rfl ?_
    refine J_if_ne_z (tgt := 90) dX2_best_77 (by decide) (by unfold zR at *; omega) (fun c77 => ?_) (fun c77 => ?_)
    · skip
      refine J_iload dX2_best_90 rfl ?_
      refine J_istore dX2_best_92 rfl (by decide) _ rfl ?_
      exact tl_best94 hO hr ho hW (by unfold zR; omega) (by unfold bLess; rw [hc]; simp only; omega) hx
    · skip
      refine J_aload_n dX2_best_80 rfl ?_
      refine TG_wouldLast dX2_best_81 ?_
      refine J_top (zI (mLast bl G (mAll many wide high bl G r o many).1 many)) hW.2.2 ?_
      refine J_iload dX2_best_84 rfl ?_
      refine J_isub_z dX2_best_86 ?_
      refine J_goto (tgt := 92) dX2_best_87 (by decide) ?_
      refine J_istore dX2_best_92 rfl (by decide) _ rfl ?_
      exact tl_best94 hO hr ho hW (by unfold zR; omega) (by unfold bLess; rw [hc]; simp only; omega) hx
theorem tl_best32 {E : jEnv} {α : Nat → Nat} {σ : tS} {Q : Option Value → tS → Prop} {many : Nat} {wide high bl : Int} {G : Nat → Nat → Int} {P : Nat → Nat → Int} {rule : Int} {r : Nat} (hS : tSh many wide high bl G σ) (hO : shOK many wide high bl G) (hP : tPl P rule σ) (hN : plOK many P rule) (hV : plV many wide high bl G P) (hr : r < 4) (hx : ∀ σ1, tEq [27, 32, 33, 34, 35, 41, 42, 43] [23, 26, 28, 29, 30, 31, 40] σ σ1 → tPl P rule σ1 → jX2_best E α 23 [some (.ref (α 0)), some (.int (zI ((mBst many wide high bl G (3 * (r + 1))).1))), some (.int (zI ((mBst many wide high bl G (3 * (r + 1))).2.1))), some (.int (zI ((mBst many wide high bl G (3 * (r + 1))).2.2.1))), some (.int (zI ((mBst many wide high bl G (3 * (r + 1))).2.2.2))), some (.int (zI ((r + 1 : Nat)))), none, none] [] σ1 Q) : ∀ (n : Nat) (o : Nat) (σ1 : tS), o ≤ 3 → tEq [27, 32, 33, 34, 35, 41, 42, 43] [23, 26, 28, 29, 30, 31, 40] σ σ1 → tPl P rule σ1 → 3 - o < n → jX2_best E α 32 [some (.ref (α 0)), some (.int (zI ((mBst many wide high bl G (3 * r + o)).1))), some (.int (zI ((mBst many wide high bl G (3 * r + o)).2.1))), some (.int (zI ((mBst many wide high bl G (3 * r + o)).2.2.1))), some (.int (zI ((mBst many wide high bl G (3 * r + o)).2.2.2))), some (.int (zI (r : Nat))), some (.int (zI (o : Nat))), none] [] σ1 Q := by
  intro n
  induction n with
  | zero => intro o σ1 h1 h2 h3 hn; exact absurd hn (Nat.not_lt_zero _)
  | succ n ih =>
    intro o σ1 h1 h2 h3 hn
    have hS := hS.eq h2 (by decide) (by decide) (by decide) (by decide) (by decide)
    refine J_iload dX2_best_32 rfl ?_
    refine J_iconst (zI 3) dX2_best_34 rfl ?_
    refine J_icmp_ge_z (tgt := 139) dX2_best_35 (by decide) (by unfold zR; omega) (by unfold zR; omega) (fun c35 => ?_) (fun c35 => ?_)
    · skip
      obtain rfl : o = 3 := by omega
      rw [show 3 * r + 3 = 3 * (r + 1) by omega]
      refine J_fg (L' := [some (.ref (α 0)), some (.int (zI ((mBst many wide high bl G (3 * (r + 1))).1))), some (.int (zI ((mBst many wide high bl G (3 * (r + 1))).2.1))), some (.int (zI ((mBst many wide high bl G (3 * (r + 1))).2.2.1))), some (.int (zI ((mBst many wide high bl G (3 * (r + 1))).2.2.2))), some (.int (zI (r : Nat))), none, none]) (by repeat' constructor) ?_
      refine J_iinc_z ((((r + 1)) : Nat) : Int) (by omega) dX2_best_139 rfl rfl (by decide) _ rfl ?_
      refine J_goto (tgt := 23) dX2_best_142 (by decide) ?_
      exact hx σ1 h2 h3
    · skip
      refine J_aload_n dX2_best_38 rfl ?_
      refine J_iload dX2_best_39 rfl ?_
      refine J_iload dX2_best_41 rfl ?_
      refine TC_X2_tries (by decide) (Nat.le_of_ble_eq_true rfl) dX2_best_43 ?_
      refine t_tries hS hO h3 hN hV (by omega) (by omega) (fun σ2 e2 P2 W2 => ?_)
      refine J_rv ?_
      refine tl_best46 hO hr (by omega) W2 ?_
      refine J_iinc_z ((((o + 1)) : Nat) : Int) (by omega) dX2_best_133 rfl rfl (by decide) _ rfl ?_
      refine J_goto (tgt := 32) dX2_best_136 (by decide) ?_
      exact ih (o + 1) σ2 (by omega) (h2.trans e2) P2 (by omega)
theorem tl_best23 {E : jEnv} {α : Nat → Nat} {σ : tS} {Q : Option Value → tS → Prop} {many : Nat} {wide high bl : Int} {G : Nat → Nat → Int} {P : Nat → Nat → Int} {rule : Int}  (hS : tSh many wide high bl G σ) (hO : shOK many wide high bl G) (hP : tPl P rule σ) (hN : plOK many P rule) (hV : plV many wide high bl G P) (hq : ∀ σ1, tEq [0, 27, 32, 33, 34, 35, 41, 42, 43] [23, 26, 28, 29, 30, 31, 40] σ σ1 → tPl P rule σ1 → σ1.1 0 = zI (mBst many wide high bl G 12).2.2.1 → Q (some (.int (zI (mBst many wide high bl G 12).1))) σ1) : ∀ (n : Nat) (r : Nat) (σ1 : tS), r ≤ 4 → tEq [27, 32, 33, 34, 35, 41, 42, 43] [23, 26, 28, 29, 30, 31, 40] σ σ1 → tPl P rule σ1 → 4 - r < n → jX2_best E α 23 [some (.ref (α 0)), some (.int (zI ((mBst many wide high bl G (3 * r)).1))), some (.int (zI ((mBst many wide high bl G (3 * r)).2.1))), some (.int (zI ((mBst many wide high bl G (3 * r)).2.2.1))), some (.int (zI ((mBst many wide high bl G (3 * r)).2.2.2))), some (.int (zI (r : Nat))), none, none] [] σ1 Q := by
  intro n
  induction n with
  | zero => intro r σ1 h1 h2 h3 hn; exact absurd hn (Nat.not_lt_zero _)
  | succ n ih =>
    intro r σ1 h1 h2 h3 hn
    have hS0 := hS
    have hS := hS.eq h2 (by decide) (by decide) (by decide) (by decide) (by decide)
    refine J_iload dX2_best_23 rfl ?_
    refine J_iconst (zI 4) dX2_best_25 rfl ?_
    refine J_icmp_ge_z (tgt := 145) dX2_best_26 (by decide) (by unfold zR; omega) (by unfold zR; omega) (fun c26 => ?_) (fun c26 => ?_)
    · skip
      obtain rfl : r = 4 := by omega
      refine J_aload_n dX2_best_145 rfl ?_
      refine J_iload_n dX2_best_146 rfl ?_
      refine J_iload_n dX2_best_147 rfl ?_
      refine TC_X2_tells (by decide) (Nat.le_of_ble_eq_true rfl) dX2_best_148 ?_
      refine t_tells  ?_
      refine J_ri ?_
      exact J_iret rfl dX2_best_151 (by exact hq _ ((h2.mono (by decide) (by decide)).sI (by decide)) (h3.eq (tEq.refl.sI (I := [0]) (A := []) (by decide)) (by decide)) rfl)
    · skip
      refine J_iconst (zI 0) dX2_best_29 rfl ?_
      refine J_istore dX2_best_30 rfl (by decide) _ rfl ?_
      exact tl_best32 hS hO h3 hN hV (by omega) (fun σ2 e2 P2 => ih (r + 1) σ2 (by omega) (h2.trans e2) P2 (by omega)) _ 0 σ1 (by omega) tEq.refl h3 (Nat.lt_succ_self _)
theorem t_best {E : jEnv} {α : Nat → Nat} {σ : tS} {Q : Option Value → tS → Prop} {many : Nat} {wide high bl : Int} {G : Nat → Nat → Int} {P : Nat → Nat → Int} {rule : Int}  (hS : tSh many wide high bl G σ) (hO : shOK many wide high bl G) (hP : tPl P rule σ) (hN : plOK many P rule) (hV : plV many wide high bl G P) (hm : 0 < many) (hq : ∀ σ1, tEq [0, 27, 32, 33, 34, 35, 41, 42, 43] [23, 26, 28, 29, 30, 31, 40] σ σ1 → tPl P rule σ1 → σ1.1 0 = zI (mBst many wide high bl G 12).2.2.1 → Q (some (.int (zI (mBst many wide high bl G 12).1))) σ1) : jX2_best E α 0 [some (.ref (α 0)), none, none, none, none, none, none, none] [] σ Q := by
  have := hO.s
  refine J_aload_n dX2_best_0 rfl ?_
  refine TG_frameMany dX2_best_1 ?_
  refine J_top (zI (many)) hS.1 ?_
  refine J_if_ne_z (tgt := 10) dX2_best_4 (by decide) (by unfold zR; omega) (fun c4 => ?_) (fun c4 => ?_)
  · skip
    refine J_bipush (zI (-9)) dX2_best_10 rfl ?_
    refine J_istore_n dX2_best_12 rfl (by decide) _ rfl ?_
    refine J_iconst (zI 0) dX2_best_13 rfl ?_
    refine J_istore_n dX2_best_14 rfl (by decide) _ rfl ?_
    refine J_iconst (zI 0) dX2_best_15 rfl ?_
    refine J_istore_n dX2_best_16 rfl (by decide) _ rfl ?_
    refine J_iconst (zI 0) dX2_best_17 rfl ?_
    refine J_istore dX2_best_18 rfl (by decide) _ rfl ?_
    refine J_iconst (zI 0) dX2_best_20 rfl ?_
    refine J_istore dX2_best_21 rfl (by decide) _ rfl ?_
    exact tl_best23 hS hO hP hN hV hq _ 0 σ (by omega) tEq.refl hP (Nat.lt_succ_self _)
  · exfalso; omega
theorem t_best_no {E : jEnv} {α : Nat → Nat} {σ : tS} {Q : Option Value → tS → Prop} {many : Nat} {wide high bl : Int} {G : Nat → Nat → Int}  (hS : tSh many wide high bl G σ) (hO : shOK many wide high bl G) (hm : many = 0) (hq : Q (some (.int (zI (-4)))) σ) : jX2_best E α 0 [some (.ref (α 0)), none, none, none, none, none, none, none] [] σ Q := by
  have := hO.s
  refine J_aload_n dX2_best_0 rfl ?_
  refine TG_frameMany dX2_best_1 ?_
  refine J_top (zI (many)) hS.1 ?_
  refine J_if_ne_z (tgt := 10) dX2_best_4 (by decide) (by unfold zR; omega) (fun c4 => ?_) (fun c4 => ?_)
  · exfalso; omega
  · skip
    refine J_bipush (zI (-4)) dX2_best_7 rfl ?_
    exact J_iret rfl dX2_best_9 (by exact hq)
