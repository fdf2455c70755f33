set_option maxRecDepth 100000
/-! the component: rows, texts, kept ones as they are told; counts, digest -/
def cDt (rs : Nat → Int) (rd : Nat → Nat → Int32) (ts : Nat → Int) (tb : Nat → Nat → Int) (σ : cS) : Prop := (∀ r, r < 6 → (rs r = -1 ∧ σ.ro r = none) ∨ ∃ a N f, σ.ro r = some (a, N, f) ∧ rs r = (N : Nat) ∧ N ≤ 40 ∧ ∀ i, i < N → f i = rd r i) ∧ (∀ t, t < 4 → (ts t = -1 ∧ σ.tx t = none) ∨ ∃ a N f, σ.tx t = some (a, N, f) ∧ ts t = (N : Nat) ∧ N ≤ 120 ∧ ∀ i, i < N → f i = zI (tb t i))
def cKc (many : Nat) (kc : Nat → Int) (KH : Nat → Nat → mPl) (KN : Nat → mPl) (σ : cS) : Prop := ∀ k, k < 3 → (kc k = -1 ∧ σ.kp k = none) ∨ ∃ x, σ.kp k = some x ∧ 0 ≤ kc k ∧ kc k ≤ 40 ∧ x.2.1 = zI (kc k) ∧ cRow many x.2.2.2 0 (KN k) ∧ ∀ d : Nat, (d : Int) < kc k → cRow many x.2.2.1 (33 * d) (KH k d)
theorem cDt.up {rs : Nat → Int} {rd : Nat → Nat → Int32} {ts : Nat → Int} {tb : Nat → Nat → Int} {I A : List Nat} {σ σ' : cS} (h : cDt rs rd ts tb σ) (e : cP I A σ σ') : cDt rs rd ts tb σ' := by
  unfold cDt at *
  rw [e.2.2.2.1, e.2.2.2.2.1]
  exact h
theorem cKc.up {many : Nat} {kc : Nat → Int} {KH : Nat → Nat → mPl} {KN : Nat → mPl} {I A : List Nat} {σ σ' : cS} (h : cKc many kc KH KN σ) (e : cP I A σ σ') : cKc many kc KH KN σ' := by
  unfold cKc at *
  rw [e.2.2.2.2.2.2.1]
  exact h

theorem cl_thereOf11 {E : jEnv} {α : Nat → Nat} {σ : cS} {Q : Option Value → cS → Prop} {rs : Nat → Int} {rd : Nat → Nat → Int32} {ts : Nat → Int} {tb : Nat → Nat → Int}  (hDt : cDt rs rd ts tb σ) (hq : Q (some (.int (zI (mThere rs 6)))) σ)  : ∀ (n : Nat) (k : Nat), k ≤ 6 → 6 - k < n → jX0_thereOf E α 4 [some (.ref (α 0)), some (.int (zI 11)), some (.int (zI (mThere rs k))), some (.int (zI (k : Nat)))] [] σ Q := by
  intro n
  induction n with
  | zero => intro k h1 hn; exact absurd hn (Nat.not_lt_zero _)
  | succ n ih =>
    intro k h1 hn
    refine J_iload_n dX0_thereOf_4 rfl ?_
    refine J_bipush (zI 6) dX0_thereOf_5 rfl ?_
    refine J_icmp_ge_z (tgt := 79) dX0_thereOf_7 (by decide) (by unfold zR; omega) (by unfold zR; omega) (fun c7 => ?_) (fun c7 => ?_)
    · skip
      obtain rfl : k = 6 := by omega
      refine J_iload_n dX0_thereOf_79 rfl ?_
      exact J_iret rfl dX0_thereOf_80 (by exact hq)
    · skip
      refine J_iload_n dX0_thereOf_10 rfl ?_
      refine J_iload_n dX0_thereOf_11 rfl ?_
      refine J_bipush (zI 11) dX0_thereOf_12 rfl ?_
      refine J_icmp_ne_n (tgt := 26) dX0_thereOf_14 (by decide) (by decide) ?_
      refine J_aload_n dX0_thereOf_17 rfl ?_
      refine CG_rows dX0_thereOf_18 ?_
      refine J_iload_n dX0_thereOf_21 rfl ?_
      rcases hDt.1 k (by omega) with ⟨z1, z2⟩ | ⟨a, N, g, z2, z3, z4⟩
      · skip
        refine CA_roN z2 (by omega) (by omega) dX0_thereOf_22 ?_
        refine J_ifnonnullN dX0_thereOf_23 ?_
        refine J_iload_n dX0_thereOf_26 rfl ?_
        refine J_bipush (zI 12) dX0_thereOf_27 rfl ?_
        refine J_icmp_ne_y (tgt := 46) dX0_thereOf_29 (by decide) (by decide) ?_
        refine J_iload_n dX0_thereOf_46 rfl ?_
        refine J_bipush (zI 13) dX0_thereOf_47 rfl ?_
        refine J_icmp_ne_y (tgt := 70) dX0_thereOf_49 (by decide) (by decide) ?_
        refine J_iconst (zI 0) dX0_thereOf_70 rfl ?_
        refine J_iadd_z dX0_thereOf_71 ?_
        refine J_top (zI (mThere rs (k + 1))) (congrArg zI (by show _ = mThere rs k + (if 0 ≤ rs k then 1 else 0); split <;> omega)) ?_
        refine J_istore_n dX0_thereOf_72 rfl (by decide) _ rfl ?_
        refine J_iinc_z ((((k + 1)) : Nat) : Int) (by omega) dX0_thereOf_73 rfl rfl (by decide) _ rfl ?_
        refine J_goto (tgt := 4) dX0_thereOf_76 (by decide) ?_
        exact ih (k + 1) (by omega) (by omega)
      · skip
        refine CA_ro z2 (by omega) (by omega) dX0_thereOf_22 ?_
        refine J_ifnonnull (tgt := 66) dX0_thereOf_23 (by decide) ?_
        refine J_iconst (zI 1) dX0_thereOf_66 rfl ?_
        refine J_goto (tgt := 71) dX0_thereOf_67 (by decide) ?_
        refine J_iadd_z dX0_thereOf_71 ?_
        refine J_top (zI (mThere rs (k + 1))) (congrArg zI (by show _ = mThere rs k + (if 0 ≤ rs k then 1 else 0); split <;> omega)) ?_
        refine J_istore_n dX0_thereOf_72 rfl (by decide) _ rfl ?_
        refine J_iinc_z ((((k + 1)) : Nat) : Int) (by omega) dX0_thereOf_73 rfl rfl (by decide) _ rfl ?_
        refine J_goto (tgt := 4) dX0_thereOf_76 (by decide) ?_
        exact ih (k + 1) (by omega) (by omega)
theorem c_thereOf11 {E : jEnv} {α : Nat → Nat} {σ : cS} {Q : Option Value → cS → Prop} {rs : Nat → Int} {rd : Nat → Nat → Int32} {ts : Nat → Int} {tb : Nat → Nat → Int}  (hDt : cDt rs rd ts tb σ) (hq : Q (some (.int (zI (mThere rs 6)))) σ)  : jX0_thereOf E α 0 [some (.ref (α 0)), some (.int (zI 11)), none, none] [] σ Q := by
  refine J_iconst (zI 0) dX0_thereOf_0 rfl ?_
  refine J_istore_n dX0_thereOf_1 rfl (by decide) _ rfl ?_
  refine J_iconst (zI 0) dX0_thereOf_2 rfl ?_
  refine J_istore_n dX0_thereOf_3 rfl (by decide) _ rfl ?_
  refine J_fg (L' := [some (.ref (α 0)), some (.int (zI (11))), some (.int (zI (mThere rs 0))), some (.int (zI ((0 : Nat))))]) (by repeat' constructor) ?_
  exact cl_thereOf11 hDt hq _ 0 (by omega) (Nat.lt_succ_self _)
theorem cl_thereOf12 {E : jEnv} {α : Nat → Nat} {σ : cS} {Q : Option Value → cS → Prop} {rs : Nat → Int} {rd : Nat → Nat → Int32} {ts : Nat → Int} {tb : Nat → Nat → Int}  (hDt : cDt rs rd ts tb σ) (hq : Q (some (.int (zI (mThere ts 4)))) σ)  : ∀ (n : Nat) (k : Nat), k ≤ 6 → 6 - k < n → jX0_thereOf E α 4 [some (.ref (α 0)), some (.int (zI 12)), some (.int (zI (mThere ts (min k 4)))), some (.int (zI (k : Nat)))] [] σ Q := by
  intro n
  induction n with
  | zero => intro k h1 hn; exact absurd hn (Nat.not_lt_zero _)
  | succ n ih =>
    intro k h1 hn
    refine J_iload_n dX0_thereOf_4 rfl ?_
    refine J_bipush (zI 6) dX0_thereOf_5 rfl ?_
    refine J_icmp_ge_z (tgt := 79) dX0_thereOf_7 (by decide) (by unfold zR; omega) (by unfold zR; omega) (fun c7 => ?_) (fun c7 => ?_)
    · skip
      obtain rfl : k = 6 := by omega
      refine J_iload_n dX0_thereOf_79 rfl ?_
      exact J_iret rfl dX0_thereOf_80 (by exact hq)
    · skip
      refine J_iload_n dX0_thereOf_10 rfl ?_
      refine J_iload_n dX0_thereOf_11 rfl ?_
      refine J_bipush (zI 11) dX0_thereOf_12 rfl ?_
      refine J_icmp_ne_y (tgt := 26) dX0_thereOf_14 (by decide) (by decide) ?_
      refine J_iload_n dX0_thereOf_26 rfl ?_
      refine J_bipush (zI 12) dX0_thereOf_27 rfl ?_
      refine J_icmp_ne_n (tgt := 46) dX0_thereOf_29 (by decide) (by decide) ?_
      refine J_iload_n dX0_thereOf_32 rfl ?_
      refine J_iconst (zI 4) dX0_thereOf_33 rfl ?_
      refine J_icmp_ge_z (tgt := 46) dX0_thereOf_34 (by decide) (by unfold zR; omega) (by unfold zR; omega) (fun c34 => ?_) (fun c34 => ?_)
      · skip
        have em : min (k + 1) 4 = 4 ∧ min k 4 = 4 := by omega
        refine J_iload_n dX0_thereOf_46 rfl ?_
        refine J_bipush (zI 13) dX0_thereOf_47 rfl ?_
        refine J_icmp_ne_y (tgt := 70) dX0_thereOf_49 (by decide) (by decide) ?_
        refine J_iconst (zI 0) dX0_thereOf_70 rfl ?_
        refine J_iadd_z dX0_thereOf_71 ?_
        refine J_top (zI (mThere ts (min (k + 1) 4))) (congrArg zI (by rw [em.1, em.2]; omega)) ?_
        refine J_istore_n dX0_thereOf_72 rfl (by decide) _ rfl ?_
        refine J_iinc_z ((((k + 1)) : Nat) : Int) (by omega) dX0_thereOf_73 rfl rfl (by decide) _ rfl ?_
        refine J_goto (tgt := 4) dX0_thereOf_76 (by decide) ?_
        exact ih (k + 1) (by omega) (by omega)
      · skip
        have em : min (k + 1) 4 = k + 1 ∧ min k 4 = k := by omega
        refine J_aload_n dX0_thereOf_37 rfl ?_
        refine CG_texts dX0_thereOf_38 ?_
        refine J_iload_n dX0_thereOf_41 rfl ?_
        rcases hDt.2 k (by omega) with ⟨z1, z2⟩ | ⟨a, N, g, z2, z3, z4⟩
        · skip
          refine CA_txN z2 (by omega) (by omega) dX0_thereOf_42 ?_
          refine J_ifnonnullN dX0_thereOf_43 ?_
          refine J_iload_n dX0_thereOf_46 rfl ?_
          refine J_bipush (zI 13) dX0_thereOf_47 rfl ?_
          refine J_icmp_ne_y (tgt := 70) dX0_thereOf_49 (by decide) (by decide) ?_
          refine J_iconst (zI 0) dX0_thereOf_70 rfl ?_
          refine J_iadd_z dX0_thereOf_71 ?_
          refine J_top (zI (mThere ts (min (k + 1) 4))) (congrArg zI (by rw [em.1, em.2]; show _ = mThere ts k + (if 0 ≤ ts k then 1 else 0); split <;> omega)) ?_
          refine J_istore_n dX0_thereOf_72 rfl (by decide) _ rfl ?_
          refine J_iinc_z ((((k + 1)) : Nat) : Int) (by omega) dX0_thereOf_73 rfl rfl (by decide) _ rfl ?_
          refine J_goto (tgt := 4) dX0_thereOf_76 (by decide) ?_
          exact ih (k + 1) (by omega) (by omega)
        · skip
          refine CA_tx z2 (by omega) (by omega) dX0_thereOf_42 ?_
          refine J_ifnonnull (tgt := 66) dX0_thereOf_43 (by decide) ?_
          refine J_iconst (zI 1) dX0_thereOf_66 rfl ?_
          refine J_goto (tgt := 71) dX0_thereOf_67 (by decide) ?_
          refine J_iadd_z dX0_thereOf_71 ?_
          refine J_top (zI (mThere ts (min (k + 1) 4))) (congrArg zI (by rw [em.1, em.2]; show _ = mThere ts k + (if 0 ≤ ts k then 1 else 0); split <;> omega)) ?_
          refine J_istore_n dX0_thereOf_72 rfl (by decide) _ rfl ?_
          refine J_iinc_z ((((k + 1)) : Nat) : Int) (by omega) dX0_thereOf_73 rfl rfl (by decide) _ rfl ?_
          refine J_goto (tgt := 4) dX0_thereOf_76 (by decide) ?_
          exact ih (k + 1) (by omega) (by omega)
theorem c_thereOf12 {E : jEnv} {α : Nat → Nat} {σ : cS} {Q : Option Value → cS → Prop} {rs : Nat → Int} {rd : Nat → Nat → Int32} {ts : Nat → Int} {tb : Nat → Nat → Int}  (hDt : cDt rs rd ts tb σ) (hq : Q (some (.int (zI (mThere ts 4)))) σ)  : jX0_thereOf E α 0 [some (.ref (α 0)), some (.int (zI 12)), none, none] [] σ Q := by
  refine J_iconst (zI 0) dX0_thereOf_0 rfl ?_
  refine J_istore_n dX0_thereOf_1 rfl (by decide) _ rfl ?_
  refine J_iconst (zI 0) dX0_thereOf_2 rfl ?_
  refine J_istore_n dX0_thereOf_3 rfl (by decide) _ rfl ?_
  refine J_fg (L' := [some (.ref (α 0)), some (.int (zI (12))), some (.int (zI (mThere ts (min 0 4)))), some (.int (zI ((0 : Nat))))]) (by repeat' constructor) ?_
  exact cl_thereOf12 hDt hq _ 0 (by omega) (Nat.lt_succ_self _)
theorem cl_thereOf13 {E : jEnv} {α : Nat → Nat} {σ : cS} {Q : Option Value → cS → Prop} {kc : Nat → Int} {KH : Nat → Nat → mPl} {KN : Nat → mPl} {many : Nat}  (hK : cKc many kc KH KN σ) (hq : Q (some (.int (zI (mThere kc 3)))) σ)  : ∀ (n : Nat) (k : Nat), k ≤ 6 → 6 - k < n → jX0_thereOf E α 4 [some (.ref (α 0)), some (.int (zI 13)), some (.int (zI (mThere kc (min k 3)))), some (.int (zI (k : Nat)))] [] σ Q := by
  intro n
  induction n with
  | zero => intro k h1 hn; exact absurd hn (Nat.not_lt_zero _)
  | succ n ih =>
    intro k h1 hn
    refine J_iload_n dX0_thereOf_4 rfl ?_
    refine J_bipush (zI 6) dX0_thereOf_5 rfl ?_
    refine J_icmp_ge_z (tgt := 79) dX0_thereOf_7 (by decide) (by unfold zR; omega) (by unfold zR; omega) (fun c7 => ?_) (fun c7 => ?_)
    · skip
      obtain rfl : k = 6 := by omega
      refine J_iload_n dX0_thereOf_79 rfl ?_
      exact J_iret rfl dX0_thereOf_80 (by exact hq)
    · skip
      refine J_iload_n dX0_thereOf_10 rfl ?_
      refine J_iload_n dX0_thereOf_11 rfl ?_
      refine J_bipush (zI 11) dX0_thereOf_12 rfl ?_
      refine J_icmp_ne_y (tgt := 26) dX0_thereOf_14 (by decide) (by decide) ?_
      refine J_iload_n dX0_thereOf_26 rfl ?_
      refine J_bipush (zI 12) dX0_thereOf_27 rfl ?_
      refine J_icmp_ne_y (tgt := 46) dX0_thereOf_29 (by decide) (by decide) ?_
      refine J_iload_n dX0_thereOf_46 rfl ?_
      refine J_bipush (zI 13) dX0_thereOf_47 rfl ?_
      refine J_icmp_ne_n (tgt := 70) dX0_thereOf_49 (by decide) (by decide) ?_
      refine J_iload_n dX0_thereOf_52 rfl ?_
      refine J_iconst (zI 3) dX0_thereOf_53 rfl ?_
      refine J_icmp_ge_z (tgt := 70) dX0_thereOf_54 (by decide) (by unfold zR; omega) (by unfold zR; omega) (fun c54 => ?_) (fun c54 => ?_)
      · skip
        have em : min (k + 1) 3 = 3 ∧ min k 3 = 3 := by omega
        refine J_iconst (zI 0) dX0_thereOf_70 rfl ?_
        refine J_iadd_z dX0_thereOf_71 ?_
        refine J_top (zI (mThere kc (min (k + 1) 3))) (congrArg zI (by rw [em.1, em.2]; omega)) ?_
        refine J_istore_n dX0_thereOf_72 rfl (by decide) _ rfl ?_
        refine J_iinc_z ((((k + 1)) : Nat) : Int) (by omega) dX0_thereOf_73 rfl rfl (by decide) _ rfl ?_
        refine J_goto (tgt := 4) dX0_thereOf_76 (by decide) ?_
        exact ih (k + 1) (by omega) (by omega)
      · skip
        have em : min (k + 1) 3 = k + 1 ∧ min k 3 = k := by omega
        refine J_aload_n dX0_thereOf_57 rfl ?_
        refine CG_kept dX0_thereOf_58 ?_
        refine J_iload_n dX0_thereOf_61 rfl ?_
        rcases hK k (by omega) with ⟨z1, z2⟩ | ⟨x, z2, z3, z4⟩
        · skip
          refine CA_kpN z2 (by omega) (by omega) dX0_thereOf_62 ?_
          refine J_ifnullN (tgt := 70) dX0_thereOf_63 (by decide) ?_
          refine J_iconst (zI 0) dX0_thereOf_70 rfl ?_
          refine J_iadd_z dX0_thereOf_71 ?_
          refine J_top (zI (mThere kc (min (k + 1) 3))) (congrArg zI (by rw [em.1, em.2]; show _ = mThere kc k + (if 0 ≤ kc k then 1 else 0); split <;> omega)) ?_
          refine J_istore_n dX0_thereOf_72 rfl (by decide) _ rfl ?_
          refine J_iinc_z ((((k + 1)) : Nat) : Int) (by omega) dX0_thereOf_73 rfl rfl (by decide) _ rfl ?_
          refine J_goto (tgt := 4) dX0_thereOf_76 (by decide) ?_
          exact ih (k + 1) (by omega) (by omega)
        · skip
          refine CA_kp z2 (by omega) (by omega) dX0_thereOf_62 ?_
          refine J_ifnull dX0_thereOf_63 ?_
          refine J_iconst (zI 1) dX0_thereOf_66 rfl ?_
          refine J_goto (tgt := 71) dX0_thereOf_67 (by decide) ?_
          refine J_iadd_z dX0_thereOf_71 ?_
          refine J_top (zI (mThere kc (min (k + 1) 3))) (congrArg zI (by rw [em.1, em.2]; show _ = mThere kc k + (if 0 ≤ kc k then 1 else 0); split <;> omega)) ?_
          refine J_istore_n dX0_thereOf_72 rfl (by decide) _ rfl ?_
          refine J_iinc_z ((((k + 1)) : Nat) : Int) (by omega) dX0_thereOf_73 rfl rfl (by decide) _ rfl ?_
          refine J_goto (tgt := 4) dX0_thereOf_76 (by decide) ?_
          exact ih (k + 1) (by omega) (by omega)
theorem c_thereOf13 {E : jEnv} {α : Nat → Nat} {σ : cS} {Q : Option Value → cS → Prop} {kc : Nat → Int} {KH : Nat → Nat → mPl} {KN : Nat → mPl} {many : Nat}  (hK : cKc many kc KH KN σ) (hq : Q (some (.int (zI (mThere kc 3)))) σ)  : jX0_thereOf E α 0 [some (.ref (α 0)), some (.int (zI 13)), none, none] [] σ Q := by
  refine J_iconst (zI 0) dX0_thereOf_0 rfl ?_
  refine J_istore_n dX0_thereOf_1 rfl (by decide) _ rfl ?_
  refine J_iconst (zI 0) dX0_thereOf_2 rfl ?_
  refine J_istore_n dX0_thereOf_3 rfl (by decide) _ rfl ?_
  refine J_fg (L' := [some (.ref (α 0)), some (.int (zI (13))), some (.int (zI (mThere kc (min 0 3)))), some (.int (zI ((0 : Nat))))]) (by repeat' constructor) ?_
  exact cl_thereOf13 hK hq _ 0 (by omega) (Nat.lt_succ_self _)
theorem c_countOf0 {E : jEnv} {α : Nat → Nat} {σ : cS} {Q : Option Value → cS → Prop} {many : Nat} {wide high bl : Int} {G : Nat → Nat → Int} {ad : Nat → Nat} {c : Nat → Nat → Int} {P : Nat → Nat → Int} {rule : Int} {dm : Nat} {H : Nat → mPl} {kc : Nat → Int} {KH : Nat → Nat → mPl} {KN : Nat → mPl} {rs : Nat → Int} {rd : Nat → Nat → Int32} {ts : Nat → Int} {tb : Nat → Nat → Int}  (hS : cSh many wide high bl G ad c σ) (hO : shOK many wide high bl G) (hP : cPl many P c) (hN : plOK many P rule) (hV : plV many wide high bl G P) (hZ : plZ many P) (hL : cLg many dm H σ) (hd : dm ≤ 40) (hR : cRl rule σ) (hK : cKc many kc KH KN σ) (hDt : cDt rs rd ts tb σ) (hq : ∀ σ', cQ [20] [21, 22, 23, 24, 25] σ σ' → Q (some (.int (zI (mCnt many wide high bl G P rule dm rs ts kc 0)))) σ')  : jX0_countOf E α 0 [some (.ref (α 0)), some (.int (zI 0))] [] σ Q := by
  refine J_iload_n dX0_countOf_0 rfl ?_
  refine J_tableIn (tgt := 60) (59) dX0_countOf_1 (by decide) (by decide) rfl (by decide) ?_
  refine J_aload_n dX0_countOf_60 rfl ?_
  refine CG_many dX0_countOf_61 ?_
  refine J_top (zI (many)) hS.1 ?_
  refine J_goto (tgt := 147) dX0_countOf_64 (by decide) ?_
  exact J_iret rfl dX0_countOf_147 (by exact hq _ cQ.refl)
theorem c_countOf1 {E : jEnv} {α : Nat → Nat} {σ : cS} {Q : Option Value → cS → Prop} {many : Nat} {wide high bl : Int} {G : Nat → Nat → Int} {ad : Nat → Nat} {c : Nat → Nat → Int} {P : Nat → Nat → Int} {rule : Int} {dm : Nat} {H : Nat → mPl} {kc : Nat → Int} {KH : Nat → Nat → mPl} {KN : Nat → mPl} {rs : Nat → Int} {rd : Nat → Nat → Int32} {ts : Nat → Int} {tb : Nat → Nat → Int}  (hS : cSh many wide high bl G ad c σ) (hO : shOK many wide high bl G) (hP : cPl many P c) (hN : plOK many P rule) (hV : plV many wide high bl G P) (hZ : plZ many P) (hL : cLg many dm H σ) (hd : dm ≤ 40) (hR : cRl rule σ) (hK : cKc many kc KH KN σ) (hDt : cDt rs rd ts tb σ) (hq : ∀ σ', cQ [20] [21, 22, 23, 24, 25] σ σ' → Q (some (.int (zI (mCnt many wide high bl G P rule dm rs ts kc 1)))) σ')  : jX0_countOf E α 0 [some (.ref (α 0)), some (.int (zI 1))] [] σ Q := by
  refine J_iload_n dX0_countOf_0 rfl ?_
  refine J_tableIn (tgt := 67) (66) dX0_countOf_1 (by decide) (by decide) rfl (by decide) ?_
  refine J_aload_n dX0_countOf_67 rfl ?_
  refine CC_X0_setMany (by decide) (by decide) (Nat.le_of_ble_eq_true rfl) dX0_countOf_68 ?_
  refine c_setMany hS hO hP hN  ?_
  refine J_ri ?_
  refine J_goto (tgt := 147) dX0_countOf_71 (by decide) ?_
  exact J_iret rfl dX0_countOf_147 (by exact hq _ cQ.refl)
theorem c_countOf2 {E : jEnv} {α : Nat → Nat} {σ : cS} {Q : Option Value → cS → Prop} {many : Nat} {wide high bl : Int} {G : Nat → Nat → Int} {ad : Nat → Nat} {c : Nat → Nat → Int} {P : Nat → Nat → Int} {rule : Int} {dm : Nat} {H : Nat → mPl} {kc : Nat → Int} {KH : Nat → Nat → mPl} {KN : Nat → mPl} {rs : Nat → Int} {rd : Nat → Nat → Int32} {ts : Nat → Int} {tb : Nat → Nat → Int}  (hS : cSh many wide high bl G ad c σ) (hO : shOK many wide high bl G) (hP : cPl many P c) (hN : plOK many P rule) (hV : plV many wide high bl G P) (hZ : plZ many P) (hL : cLg many dm H σ) (hd : dm ≤ 40) (hR : cRl rule σ) (hK : cKc many kc KH KN σ) (hDt : cDt rs rd ts tb σ) (hq : ∀ σ', cQ [20] [21, 22, 23, 24, 25] σ σ' → Q (some (.int (zI (mCnt many wide high bl G P rule dm rs ts kc 2)))) σ')  : jX0_countOf E α 0 [some (.ref (α 0)), some (.int (zI 2))] [] σ Q := by
  refine J_iload_n dX0_countOf_0 rfl ?_
  refine J_tableIn (tgt := 74) (73) dX0_countOf_1 (by decide) (by decide) rfl (by decide) ?_
  refine J_aload_n dX0_countOf_74 rfl ?_
  refine CC_X0_pageMany (by decide) (by decide) (Nat.le_of_ble_eq_true rfl) dX0_countOf_75 ?_
  refine c_pageMany hS hO hP hN  ?_
  refine J_ri ?_
  refine J_goto (tgt := 147) dX0_countOf_78 (by decide) ?_
  exact J_iret rfl dX0_countOf_147 (by exact hq _ cQ.refl)
theorem c_countOf3 {E : jEnv} {α : Nat → Nat} {σ : cS} {Q : Option Value → cS → Prop} {many : Nat} {wide high bl : Int} {G : Nat → Nat → Int} {ad : Nat → Nat} {c : Nat → Nat → Int} {P : Nat → Nat → Int} {rule : Int} {dm : Nat} {H : Nat → mPl} {kc : Nat → Int} {KH : Nat → Nat → mPl} {KN : Nat → mPl} {rs : Nat → Int} {rd : Nat → Nat → Int32} {ts : Nat → Int} {tb : Nat → Nat → Int}  (hS : cSh many wide high bl G ad c σ) (hO : shOK many wide high bl G) (hP : cPl many P c) (hN : plOK many P rule) (hV : plV many wide high bl G P) (hZ : plZ many P) (hL : cLg many dm H σ) (hd : dm ≤ 40) (hR : cRl rule σ) (hK : cKc many kc KH KN σ) (hDt : cDt rs rd ts tb σ) (hq : ∀ σ', cQ [20] [21, 22, 23, 24, 25] σ σ' → Q (some (.int (zI (mCnt many wide high bl G P rule dm rs ts kc 3)))) σ')  : jX0_countOf E α 0 [some (.ref (α 0)), some (.int (zI 3))] [] σ Q := by
  refine J_iload_n dX0_countOf_0 rfl ?_
  refine J_tableIn (tgt := 81) (80) dX0_countOf_1 (by decide) (by decide) rfl (by decide) ?_
  refine J_aload_n dX0_countOf_81 rfl ?_
  refine CG_wide dX0_countOf_82 ?_
  refine J_top (zI (wide)) hS.2.1 ?_
  refine J_goto (tgt := 147) dX0_countOf_85 (by decide) ?_
  exact J_iret rfl dX0_countOf_147 (by exact hq _ cQ.refl)
theorem c_countOf4 {E : jEnv} {α : Nat → Nat} {σ : cS} {Q : Option Value → cS → Prop} {many : Nat} {wide high bl : Int} {G : Nat → Nat → Int} {ad : Nat → Nat} {c : Nat → Nat → Int} {P : Nat → Nat → Int} {rule : Int} {dm : Nat} {H : Nat → mPl} {kc : Nat → Int} {KH : Nat → Nat → mPl} {KN : Nat → mPl} {rs : Nat → Int} {rd : Nat → Nat → Int32} {ts : Nat → Int} {tb : Nat → Nat → Int}  (hS : cSh many wide high bl G ad c σ) (hO : shOK many wide high bl G) (hP : cPl many P c) (hN : plOK many P rule) (hV : plV many wide high bl G P) (hZ : plZ many P) (hL : cLg many dm H σ) (hd : dm ≤ 40) (hR : cRl rule σ) (hK : cKc many kc KH KN σ) (hDt : cDt rs rd ts tb σ) (hq : ∀ σ', cQ [20] [21, 22, 23, 24, 25] σ σ' → Q (some (.int (zI (mCnt many wide high bl G P rule dm rs ts kc 4)))) σ')  : jX0_countOf E α 0 [some (.ref (α 0)), some (.int (zI 4))] [] σ Q := by
  refine J_iload_n dX0_countOf_0 rfl ?_
  refine J_tableIn (tgt := 88) (87) dX0_countOf_1 (by decide) (by decide) rfl (by decide) ?_
  refine J_aload_n dX0_countOf_88 rfl ?_
  refine CG_high dX0_countOf_89 ?_
  refine J_top (zI (high)) hS.2.2.1 ?_
  refine J_goto (tgt := 147) dX0_countOf_92 (by decide) ?_
  exact J_iret rfl dX0_countOf_147 (by exact hq _ cQ.refl)
theorem c_countOf5 {E : jEnv} {α : Nat → Nat} {σ : cS} {Q : Option Value → cS → Prop} {many : Nat} {wide high bl : Int} {G : Nat → Nat → Int} {ad : Nat → Nat} {c : Nat → Nat → Int} {P : Nat → Nat → Int} {rule : Int} {dm : Nat} {H : Nat → mPl} {kc : Nat → Int} {KH : Nat → Nat → mPl} {KN : Nat → mPl} {rs : Nat → Int} {rd : Nat → Nat → Int32} {ts : Nat → Int} {tb : Nat → Nat → Int}  (hS : cSh many wide high bl G ad c σ) (hO : shOK many wide high bl G) (hP : cPl many P c) (hN : plOK many P rule) (hV : plV many wide high bl G P) (hZ : plZ many P) (hL : cLg many dm H σ) (hd : dm ≤ 40) (hR : cRl rule σ) (hK : cKc many kc KH KN σ) (hDt : cDt rs rd ts tb σ) (hq : ∀ σ', cQ [20] [21, 22, 23, 24, 25] σ σ' → Q (some (.int (zI (mCnt many wide high bl G P rule dm rs ts kc 5)))) σ')  : jX0_countOf E α 0 [some (.ref (α 0)), some (.int (zI 5))] [] σ Q := by
  refine J_iload_n dX0_countOf_0 rfl ?_
  refine J_tableIn (tgt := 95) (94) dX0_countOf_1 (by decide) (by decide) rfl (by decide) ?_
  refine J_aload_n dX0_countOf_95 rfl ?_
  refine CG_bleed dX0_countOf_96 ?_
  refine J_top (zI (bl)) hS.2.2.2.1 ?_
  refine J_goto (tgt := 147) dX0_countOf_99 (by decide) ?_
  exact J_iret rfl dX0_countOf_147 (by exact hq _ cQ.refl)
theorem c_countOf6 {E : jEnv} {α : Nat → Nat} {σ : cS} {Q : Option Value → cS → Prop} {many : Nat} {wide high bl : Int} {G : Nat → Nat → Int} {ad : Nat → Nat} {c : Nat → Nat → Int} {P : Nat → Nat → Int} {rule : Int} {dm : Nat} {H : Nat → mPl} {kc : Nat → Int} {KH : Nat → Nat → mPl} {KN : Nat → mPl} {rs : Nat → Int} {rd : Nat → Nat → Int32} {ts : Nat → Int} {tb : Nat → Nat → Int}  (hS : cSh many wide high bl G ad c σ) (hO : shOK many wide high bl G) (hP : cPl many P c) (hN : plOK many P rule) (hV : plV many wide high bl G P) (hZ : plZ many P) (hL : cLg many dm H σ) (hd : dm ≤ 40) (hR : cRl rule σ) (hK : cKc many kc KH KN σ) (hDt : cDt rs rd ts tb σ) (hq : ∀ σ', cQ [20] [21, 22, 23, 24, 25] σ σ' → Q (some (.int (zI (mCnt many wide high bl G P rule dm rs ts kc 6)))) σ')  : jX0_countOf E α 0 [some (.ref (α 0)), some (.int (zI 6))] [] σ Q := by
  refine J_iload_n dX0_countOf_0 rfl ?_
  refine J_tableIn (tgt := 102) (101) dX0_countOf_1 (by decide) (by decide) rfl (by decide) ?_
  refine J_aload_n dX0_countOf_102 rfl ?_
  refine CG_rule dX0_countOf_103 ?_
  refine VR_number (ru := σ.ru.2) (show wC E α σ 150 = _ from rfl) hR.1  (by decide) (by decide) (Nat.le_of_ble_eq_true rfl) dX0_countOf_106 ?_
  refine J_top (zI rule) (congrArg zI hR.2.symm) ?_
  refine J_goto (tgt := 147) dX0_countOf_111 (by decide) ?_
  exact J_iret rfl dX0_countOf_147 (by exact hq _ cQ.refl)
theorem c_countOf7 {E : jEnv} {α : Nat → Nat} {σ : cS} {Q : Option Value → cS → Prop} {many : Nat} {wide high bl : Int} {G : Nat → Nat → Int} {ad : Nat → Nat} {c : Nat → Nat → Int} {P : Nat → Nat → Int} {rule : Int} {dm : Nat} {H : Nat → mPl} {kc : Nat → Int} {KH : Nat → Nat → mPl} {KN : Nat → mPl} {rs : Nat → Int} {rd : Nat → Nat → Int32} {ts : Nat → Int} {tb : Nat → Nat → Int}  (hS : cSh many wide high bl G ad c σ) (hO : shOK many wide high bl G) (hP : cPl many P c) (hN : plOK many P rule) (hV : plV many wide high bl G P) (hZ : plZ many P) (hL : cLg many dm H σ) (hd : dm ≤ 40) (hR : cRl rule σ) (hK : cKc many kc KH KN σ) (hDt : cDt rs rd ts tb σ) (hq : ∀ σ', cQ [20] [21, 22, 23, 24, 25] σ σ' → Q (some (.int (zI (mCnt many wide high bl G P rule dm rs ts kc 7)))) σ')  : jX0_countOf E α 0 [some (.ref (α 0)), some (.int (zI 7))] [] σ Q := by
  refine J_iload_n dX0_countOf_0 rfl ?_
  refine J_tableIn (tgt := 114) (113) dX0_countOf_1 (by decide) (by decide) rfl (by decide) ?_
  refine J_aload_n dX0_countOf_114 rfl ?_
  refine CC_X0_usedAll (by decide) (by decide) (Nat.le_of_ble_eq_true rfl) dX0_countOf_115 ?_
  refine c_usedAll hS hO hP hN  ?_
  refine J_ri ?_
  refine J_goto (tgt := 147) dX0_countOf_118 (by decide) ?_
  exact J_iret rfl dX0_countOf_147 (by exact hq _ cQ.refl)
theorem c_countOf8 {E : jEnv} {α : Nat → Nat} {σ : cS} {Q : Option Value → cS → Prop} {many : Nat} {wide high bl : Int} {G : Nat → Nat → Int} {ad : Nat → Nat} {c : Nat → Nat → Int} {P : Nat → Nat → Int} {rule : Int} {dm : Nat} {H : Nat → mPl} {kc : Nat → Int} {KH : Nat → Nat → mPl} {KN : Nat → mPl} {rs : Nat → Int} {rd : Nat → Nat → Int32} {ts : Nat → Int} {tb : Nat → Nat → Int}  (hS : cSh many wide high bl G ad c σ) (hO : shOK many wide high bl G) (hP : cPl many P c) (hN : plOK many P rule) (hV : plV many wide high bl G P) (hZ : plZ many P) (hL : cLg many dm H σ) (hd : dm ≤ 40) (hR : cRl rule σ) (hK : cKc many kc KH KN σ) (hDt : cDt rs rd ts tb σ) (hq : ∀ σ', cQ [20] [21, 22, 23, 24, 25] σ σ' → Q (some (.int (zI (mCnt many wide high bl G P rule dm rs ts kc 8)))) σ')  : jX0_countOf E α 0 [some (.ref (α 0)), some (.int (zI 8))] [] σ Q := by
  refine J_iload_n dX0_countOf_0 rfl ?_
  refine J_tableIn (tgt := 121) (120) dX0_countOf_1 (by decide) (by decide) rfl (by decide) ?_
  refine J_aload_n dX0_countOf_121 rfl ?_
  refine CC_X0_freeAll (by decide) (by decide) (Nat.le_of_ble_eq_true rfl) dX0_countOf_122 ?_
  refine c_freeAll hS hO hP hN hV (fun σ1 e1 => ?_)
  refine J_ri ?_
  refine J_goto (tgt := 147) dX0_countOf_125 (by decide) ?_
  exact J_iret rfl dX0_countOf_147 (by exact hq _ e1)
theorem c_countOf9 {E : jEnv} {α : Nat → Nat} {σ : cS} {Q : Option Value → cS → Prop} {many : Nat} {wide high bl : Int} {G : Nat → Nat → Int} {ad : Nat → Nat} {c : Nat → Nat → Int} {P : Nat → Nat → Int} {rule : Int} {dm : Nat} {H : Nat → mPl} {kc : Nat → Int} {KH : Nat → Nat → mPl} {KN : Nat → mPl} {rs : Nat → Int} {rd : Nat → Nat → Int32} {ts : Nat → Int} {tb : Nat → Nat → Int}  (hS : cSh many wide high bl G ad c σ) (hO : shOK many wide high bl G) (hP : cPl many P c) (hN : plOK many P rule) (hV : plV many wide high bl G P) (hZ : plZ many P) (hL : cLg many dm H σ) (hd : dm ≤ 40) (hR : cRl rule σ) (hK : cKc many kc KH KN σ) (hDt : cDt rs rd ts tb σ) (hq : ∀ σ', cQ [20] [21, 22, 23, 24, 25] σ σ' → Q (some (.int (zI (mCnt many wide high bl G P rule dm rs ts kc 9)))) σ')  : jX0_countOf E α 0 [some (.ref (α 0)), some (.int (zI 9))] [] σ Q := by
  refine J_iload_n dX0_countOf_0 rfl ?_
  refine J_tableIn (tgt := 128) (127) dX0_countOf_1 (by decide) (by decide) rfl (by decide) ?_
  refine J_aload_n dX0_countOf_128 rfl ?_
  refine CC_X0_turnedMany (by decide) (by decide) (Nat.le_of_ble_eq_true rfl) dX0_countOf_129 ?_
  refine c_turnedMany hS hO hP hN hZ  ?_
  refine J_ri ?_
  refine J_goto (tgt := 147) dX0_countOf_132 (by decide) ?_
  exact J_iret rfl dX0_countOf_147 (by exact hq _ cQ.refl)
theorem c_countOf10 {E : jEnv} {α : Nat → Nat} {σ : cS} {Q : Option Value → cS → Prop} {many : Nat} {wide high bl : Int} {G : Nat → Nat → Int} {ad : Nat → Nat} {c : Nat → Nat → Int} {P : Nat → Nat → Int} {rule : Int} {dm : Nat} {H : Nat → mPl} {kc : Nat → Int} {KH : Nat → Nat → mPl} {KN : Nat → mPl} {rs : Nat → Int} {rd : Nat → Nat → Int32} {ts : Nat → Int} {tb : Nat → Nat → Int}  (hS : cSh many wide high bl G ad c σ) (hO : shOK many wide high bl G) (hP : cPl many P c) (hN : plOK many P rule) (hV : plV many wide high bl G P) (hZ : plZ many P) (hL : cLg many dm H σ) (hd : dm ≤ 40) (hR : cRl rule σ) (hK : cKc many kc KH KN σ) (hDt : cDt rs rd ts tb σ) (hq : ∀ σ', cQ [20] [21, 22, 23, 24, 25] σ σ' → Q (some (.int (zI (mCnt many wide high bl G P rule dm rs ts kc 10)))) σ')  : jX0_countOf E α 0 [some (.ref (α 0)), some (.int (zI 10))] [] σ Q := by
  refine J_iload_n dX0_countOf_0 rfl ?_
  refine J_tableIn (tgt := 135) (134) dX0_countOf_1 (by decide) (by decide) rfl (by decide) ?_
  refine J_aload_n dX0_countOf_135 rfl ?_
  refine CG_deedMany dX0_countOf_136 ?_
  refine J_top (zI (dm)) hL.1 ?_
  refine J_goto (tgt := 147) dX0_countOf_139 (by decide) ?_
  exact J_iret rfl dX0_countOf_147 (by exact hq _ cQ.refl)
theorem c_countOf11 {E : jEnv} {α : Nat → Nat} {σ : cS} {Q : Option Value → cS → Prop} {many : Nat} {wide high bl : Int} {G : Nat → Nat → Int} {ad : Nat → Nat} {c : Nat → Nat → Int} {P : Nat → Nat → Int} {rule : Int} {dm : Nat} {H : Nat → mPl} {kc : Nat → Int} {KH : Nat → Nat → mPl} {KN : Nat → mPl} {rs : Nat → Int} {rd : Nat → Nat → Int32} {ts : Nat → Int} {tb : Nat → Nat → Int}  (hS : cSh many wide high bl G ad c σ) (hO : shOK many wide high bl G) (hP : cPl many P c) (hN : plOK many P rule) (hV : plV many wide high bl G P) (hZ : plZ many P) (hL : cLg many dm H σ) (hd : dm ≤ 40) (hR : cRl rule σ) (hK : cKc many kc KH KN σ) (hDt : cDt rs rd ts tb σ) (hq : ∀ σ', cQ [20] [21, 22, 23, 24, 25] σ σ' → Q (some (.int (zI (mCnt many wide high bl G P rule dm rs ts kc 11)))) σ')  : jX0_countOf E α 0 [some (.ref (α 0)), some (.int (zI 11))] [] σ Q := by
  refine J_iload_n dX0_countOf_0 rfl ?_
  refine J_tableOut (tgt := 142) dX0_countOf_1 (by decide) (by decide) ?_
  refine J_aload_n dX0_countOf_142 rfl ?_
  refine J_iload_n dX0_countOf_143 rfl ?_
  refine CC_X0_thereOf (by decide) (by decide) (Nat.le_of_ble_eq_true rfl) dX0_countOf_144 ?_
  refine c_thereOf11 hDt ?_
  refine J_ri ?_
  exact J_iret rfl dX0_countOf_147 (by exact hq _ cQ.refl)
theorem c_countOf12 {E : jEnv} {α : Nat → Nat} {σ : cS} {Q : Option Value → cS → Prop} {many : Nat} {wide high bl : Int} {G : Nat → Nat → Int} {ad : Nat → Nat} {c : Nat → Nat → Int} {P : Nat → Nat → Int} {rule : Int} {dm : Nat} {H : Nat → mPl} {kc : Nat → Int} {KH : Nat → Nat → mPl} {KN : Nat → mPl} {rs : Nat → Int} {rd : Nat → Nat → Int32} {ts : Nat → Int} {tb : Nat → Nat → Int}  (hS : cSh many wide high bl G ad c σ) (hO : shOK many wide high bl G) (hP : cPl many P c) (hN : plOK many P rule) (hV : plV many wide high bl G P) (hZ : plZ many P) (hL : cLg many dm H σ) (hd : dm ≤ 40) (hR : cRl rule σ) (hK : cKc many kc KH KN σ) (hDt : cDt rs rd ts tb σ) (hq : ∀ σ', cQ [20] [21, 22, 23, 24, 25] σ σ' → Q (some (.int (zI (mCnt many wide high bl G P rule dm rs ts kc 12)))) σ')  : jX0_countOf E α 0 [some (.ref (α 0)), some (.int (zI 12))] [] σ Q := by
  refine J_iload_n dX0_countOf_0 rfl ?_
  refine J_tableOut (tgt := 142) dX0_countOf_1 (by decide) (by decide) ?_
  refine J_aload_n dX0_countOf_142 rfl ?_
  refine J_iload_n dX0_countOf_143 rfl ?_
  refine CC_X0_thereOf (by decide) (by decide) (Nat.le_of_ble_eq_true rfl) dX0_countOf_144 ?_
  refine c_thereOf12 hDt ?_
  refine J_ri ?_
  exact J_iret rfl dX0_countOf_147 (by exact hq _ cQ.refl)
theorem c_countOf13 {E : jEnv} {α : Nat → Nat} {σ : cS} {Q : Option Value → cS → Prop} {many : Nat} {wide high bl : Int} {G : Nat → Nat → Int} {ad : Nat → Nat} {c : Nat → Nat → Int} {P : Nat → Nat → Int} {rule : Int} {dm : Nat} {H : Nat → mPl} {kc : Nat → Int} {KH : Nat → Nat → mPl} {KN : Nat → mPl} {rs : Nat → Int} {rd : Nat → Nat → Int32} {ts : Nat → Int} {tb : Nat → Nat → Int}  (hS : cSh many wide high bl G ad c σ) (hO : shOK many wide high bl G) (hP : cPl many P c) (hN : plOK many P rule) (hV : plV many wide high bl G P) (hZ : plZ many P) (hL : cLg many dm H σ) (hd : dm ≤ 40) (hR : cRl rule σ) (hK : cKc many kc KH KN σ) (hDt : cDt rs rd ts tb σ) (hq : ∀ σ', cQ [20] [21, 22, 23, 24, 25] σ σ' → Q (some (.int (zI (mCnt many wide high bl G P rule dm rs ts kc 13)))) σ')  : jX0_countOf E α 0 [some (.ref (α 0)), some (.int (zI 13))] [] σ Q := by
  refine J_iload_n dX0_countOf_0 rfl ?_
  refine J_tableOut (tgt := 142) dX0_countOf_1 (by decide) (by decide) ?_
  refine J_aload_n dX0_countOf_142 rfl ?_
  refine J_iload_n dX0_countOf_143 rfl ?_
  refine CC_X0_thereOf (by decide) (by decide) (Nat.le_of_ble_eq_true rfl) dX0_countOf_144 ?_
  refine c_thereOf13 hK ?_
  refine J_ri ?_
  exact J_iret rfl dX0_countOf_147 (by exact hq _ cQ.refl)
theorem c_countOf {E : jEnv} {α : Nat → Nat} {σ : cS} {Q : Option Value → cS → Prop} {many : Nat} {wide high bl : Int} {G : Nat → Nat → Int} {ad : Nat → Nat} {c : Nat → Nat → Int} {P : Nat → Nat → Int} {rule : Int} {dm : Nat} {H : Nat → mPl} {kc : Nat → Int} {KH : Nat → Nat → mPl} {KN : Nat → mPl} {rs : Nat → Int} {rd : Nat → Nat → Int32} {ts : Nat → Int} {tb : Nat → Nat → Int} {k : Nat} (hS : cSh many wide high bl G ad c σ) (hO : shOK many wide high bl G) (hP : cPl many P c) (hN : plOK many P rule) (hV : plV many wide high bl G P) (hZ : plZ many P) (hL : cLg many dm H σ) (hd : dm ≤ 40) (hR : cRl rule σ) (hK : cKc many kc KH KN σ) (hDt : cDt rs rd ts tb σ) (hk : k < 14) (hq : ∀ σ', cQ [20] [21, 22, 23, 24, 25] σ σ' → Q (some (.int (zI (mCnt many wide high bl G P rule dm rs ts kc k)))) σ') : jX0_countOf E α 0 [some (.ref (α 0)), some (.int (zI (k : Nat)))] [] σ Q := by
  match k, hk with
  | 0, _ => exact c_countOf0 hS hO hP hN hV hZ hL hd hR hK hDt hq
  | 1, _ => exact c_countOf1 hS hO hP hN hV hZ hL hd hR hK hDt hq
  | 2, _ => exact c_countOf2 hS hO hP hN hV hZ hL hd hR hK hDt hq
  | 3, _ => exact c_countOf3 hS hO hP hN hV hZ hL hd hR hK hDt hq
  | 4, _ => exact c_countOf4 hS hO hP hN hV hZ hL hd hR hK hDt hq
  | 5, _ => exact c_countOf5 hS hO hP hN hV hZ hL hd hR hK hDt hq
  | 6, _ => exact c_countOf6 hS hO hP hN hV hZ hL hd hR hK hDt hq
  | 7, _ => exact c_countOf7 hS hO hP hN hV hZ hL hd hR hK hDt hq
  | 8, _ => exact c_countOf8 hS hO hP hN hV hZ hL hd hR hK hDt hq
  | 9, _ => exact c_countOf9 hS hO hP hN hV hZ hL hd hR hK hDt hq
  | 10, _ => exact c_countOf10 hS hO hP hN hV hZ hL hd hR hK hDt hq
  | 11, _ => exact c_countOf11 hS hO hP hN hV hZ hL hd hR hK hDt hq
  | 12, _ => exact c_countOf12 hS hO hP hN hV hZ hL hd hR hK hDt hq
  | 13, _ => exact c_countOf13 hS hO hP hN hV hZ hL hd hR hK hDt hq
theorem c_count_bad {E : jEnv} {α : Nat → Nat} {σ : cS} {Q : Option Value → cS → Prop} {v : Int} (rv : zR v) (hv : ¬ (0 ≤ v ∧ v ≤ 13)) (hq : Q (some (.int (zI (-1)))) σ) : jX0_count E α 0 [some (.ref (α 0)), some (.int (zI (v)))] [] σ Q := by
  refine J_iload_n dX0_count_0 rfl ?_
  refine J_iconst (zI 0) dX0_count_1 rfl ?_
  refine J_bipush (zI 13) dX0_count_2 rfl ?_
  refine PX0_isIn (by unfold zR at *; omega) (by unfold zR at *; omega) (by unfold zR at *; omega) (by decide) (by exact ⟨Nat.le_refl _, Nat.le_refl _⟩) (Nat.le_of_ble_eq_true rfl) dX0_count_4 (fun b4 => ?_) (fun b4 => ?_)
  · exfalso; omega
  · skip
    refine J_if_eq_y (tgt := 18) dX0_count_7 (by decide) (by decide) ?_
    refine J_iconst (zI (-1)) dX0_count_18 rfl ?_
    exact J_iret rfl dX0_count_19 (by exact hq)
theorem c_count {E : jEnv} {α : Nat → Nat} {σ : cS} {Q : Option Value → cS → Prop} {many : Nat} {wide high bl : Int} {G : Nat → Nat → Int} {ad : Nat → Nat} {c : Nat → Nat → Int} {P : Nat → Nat → Int} {rule : Int} {dm : Nat} {H : Nat → mPl} {kc : Nat → Int} {KH : Nat → Nat → mPl} {KN : Nat → mPl} {rs : Nat → Int} {rd : Nat → Nat → Int32} {ts : Nat → Int} {tb : Nat → Nat → Int} {k : Nat} (hS : cSh many wide high bl G ad c σ) (hO : shOK many wide high bl G) (hP : cPl many P c) (hN : plOK many P rule) (hV : plV many wide high bl G P) (hZ : plZ many P) (hL : cLg many dm H σ) (hd : dm ≤ 40) (hR : cRl rule σ) (hK : cKc many kc KH KN σ) (hDt : cDt rs rd ts tb σ) (hk : k < 14) (hq : ∀ σ', cQ [20] [21, 22, 23, 24, 25] σ σ' → Q (some (.int (zI (mCnt many wide high bl G P rule dm rs ts kc k)))) σ')  : jX0_count E α 0 [some (.ref (α 0)), some (.int (zI (k : Nat)))] [] σ Q := by
  refine J_iload_n dX0_count_0 rfl ?_
  refine J_iconst (zI 0) dX0_count_1 rfl ?_
  refine J_bipush (zI 13) dX0_count_2 rfl ?_
  refine PX0_isIn (by unfold zR; omega) (by unfold zR; omega) (by unfold zR; omega) (by decide) (by exact ⟨Nat.le_refl _, Nat.le_refl _⟩) (Nat.le_of_ble_eq_true rfl) dX0_count_4 (fun b4 => ?_) (fun b4 => ?_)
  · skip
    refine J_if_eq_n (tgt := 18) dX0_count_7 (by decide) (by decide) ?_
    refine J_aload_n dX0_count_10 rfl ?_
    refine J_iload_n dX0_count_11 rfl ?_
    refine CC_X0_countOf (by decide) (by decide) (Nat.le_of_ble_eq_true rfl) dX0_count_12 ?_
    refine c_countOf hS hO hP hN hV hZ hL hd hR hK hDt hk (fun σ1 e1 => ?_)
    refine J_ri ?_
    refine J_goto (tgt := 19) dX0_count_15 (by decide) ?_
    exact J_iret rfl dX0_count_19 (by exact hq σ1 e1)
  · exfalso; omega
theorem c_mix {E : jEnv} {α : Nat → Nat} {σ : cS} {Q : Option Value → cS → Prop} {v : Int32} (hq : Q none (cL σ (31 * σ.h + v.toInt64))) : jX0_mix E α 0 [some (.ref (α 0)), some (.int (v))] [] σ Q := by
  refine J_aload_n dX0_mix_0 rfl ?_
  refine J_ldc2 (31) q1566 dX0_mix_1 ?_
  refine J_aload_n dX0_mix_4 rfl ?_
  refine CG_h0 dX0_mix_5 ?_
  refine J_lmul dX0_mix_8 ?_
  refine J_iload_n dX0_mix_9 rfl ?_
  refine J_i2l dX0_mix_10 ?_
  refine J_ladd dX0_mix_11 ?_
  refine CP_h0 dX0_mix_12 ?_
  exact J_vret rfl dX0_mix_15 (by exact hq)
theorem cl_mixSheet12 {E : jEnv} {α : Nat → Nat} {σ : cS} {Q : Option Value → cS → Prop} {many : Nat} {wide high bl : Int} {G : Nat → Nat → Int} {ad : Nat → Nat} {c : Nat → Nat → Int} {f : Nat} {h0 : Int64}  (hS : cSh many wide high bl G ad c σ) (hO : shOK many wide high bl G) (hf : f < many) (hx : jX0_mixSheet E α 41 [some (.ref (α 0)), some (.int (zI (f : Nat))), none, none, none] [] (cL σ (dgT h0 (fun k => zI (mTell bl G f k)) 5)) Q)  : ∀ (n : Nat) (k : Nat), k ≤ 5 → 5 - k < n → jX0_mixSheet E α 12 [some (.ref (α 0)), some (.int (zI (f : Nat))), some (.int (zI (k : Nat))), none, none] [] (cL σ (dgT h0 (fun k => zI (mTell bl G f k)) k)) Q := by
  intro n
  induction n with
  | zero => intro k h1 hn; exact absurd hn (Nat.not_lt_zero _)
  | succ n ih =>
    intro k h1 hn
    have hO8 := hO.s
    have hS : cSh many wide high bl G ad c (cL σ (dgT h0 (fun k => zI (mTell bl G f k)) k)) := hS
    refine J_iload_n dX0_mixSheet_12 rfl ?_
    refine J_iconst (zI 4) dX0_mixSheet_13 rfl ?_
    refine J_icmp_gt_z (tgt := 41) dX0_mixSheet_14 (by decide) (by unfold zR; omega) (by unfold zR; omega) (fun c14 => ?_) (fun c14 => ?_)
    · skip
      obtain rfl : k = 5 := by omega
      refine J_fg (L' := [some (.ref (α 0)), some (.int (zI (f : Nat))), none, none, none]) (by repeat' constructor) ?_
      exact hx
    · skip
      refine J_aload_n dX0_mixSheet_17 rfl ?_
      refine J_aload_n dX0_mixSheet_18 rfl ?_
      refine CG_frames dX0_mixSheet_19 ?_
      refine J_iload_n dX0_mixSheet_22 rfl ?_
      refine CA_fr (hS.2.2.2.2 _ hf) (by omega) (by have := hO.1; omega) dX0_mixSheet_23 ?_
      refine J_iload_n dX0_mixSheet_24 rfl ?_
      refine J_aload_n dX0_mixSheet_25 rfl ?_
      refine CG_bleed dX0_mixSheet_26 ?_
      refine J_top (zI (bl)) hS.2.2.2.1 ?_
      refine VX3_toldBy G f (c := (c f)) (m := k) (hS.w hf hO.1) (hO.k hf) (by omega) q1059 (by decide) (by decide) (Nat.le_of_ble_eq_true rfl) dX0_mixSheet_29 ?_
      refine CC_X0_mix (by decide) (by decide) (Nat.le_of_ble_eq_true rfl) dX0_mixSheet_32 ?_
      refine c_mix  ?_
      refine J_rv ?_
      refine J_iinc_z ((((k + 1)) : Nat) : Int) (by omega) dX0_mixSheet_35 rfl rfl (by decide) _ rfl ?_
      refine J_goto (tgt := 12) dX0_mixSheet_38 (by decide) ?_
      exact ih (k + 1) (by omega) (by omega)
theorem cl_mixSheet43 {E : jEnv} {α : Nat → Nat} {σ : cS} {Q : Option Value → cS → Prop} {many : Nat} {wide high bl : Int} {G : Nat → Nat → Int} {ad : Nat → Nat} {c : Nat → Nat → Int} {P : Nat → Nat → Int} {rule : Int} {f : Nat} {h0 : Int64}  (hS : cSh many wide high bl G ad c σ) (hO : shOK many wide high bl G) (hP : cPl many P c) (hN : plOK many P rule) (hf : f < many) (h0f : 0 ≤ P f 0) (hx : jX0_mixSheet E α 76 [some (.ref (α 0)), some (.int (zI (f : Nat))), none, none, none] [] (cL σ (dgT h0 (fun k => zI (P f k)) 4)) Q)  : ∀ (n : Nat) (k : Nat), k ≤ 4 → 4 - k < n → jX0_mixSheet E α 43 [some (.ref (α 0)), some (.int (zI (f : Nat))), some (.int (zI (k : Nat))), none, none] [] (cL σ (dgT h0 (fun k => zI (P f k)) k)) Q := by
  intro n
  induction n with
  | zero => intro k h1 hn; exact absurd hn (Nat.not_lt_zero _)
  | succ n ih =>
    intro k h1 hn
    have hO8 := hO.s
    have hS : cSh many wide high bl G ad c (cL σ (dgT h0 (fun k => zI (P f k)) k)) := hS
    refine J_iload_n dX0_mixSheet_43 rfl ?_
    refine J_iconst (zI 3) dX0_mixSheet_44 rfl ?_
    refine J_icmp_gt_z (tgt := 76) dX0_mixSheet_45 (by decide) (by unfold zR; omega) (by unfold zR; omega) (fun c45 => ?_) (fun c45 => ?_)
    · skip
      obtain rfl : k = 4 := by omega
      refine J_fg (L' := [some (.ref (α 0)), some (.int (zI (f : Nat))), none, none, none]) (by repeat' constructor) ?_
      exact hx
    · skip
      have hk : k < 4 := by omega
      have hck : c f k = P f k := by
        have := hP f hf
        match k, hk with
        | 0, _ => omega
        | 1, _ => omega
        | 2, _ => omega
        | 3, _ => omega
      refine J_aload_n dX0_mixSheet_48 rfl ?_
      refine J_iload_n dX0_mixSheet_49 rfl ?_
      refine CC_X0_isSet (by decide) (by decide) (Nat.le_of_ble_eq_true rfl) dX0_mixSheet_50 ?_
      refine c_isSet hS hO hP hN hf (fun b50 => ?_) (fun b50 => ?_)
      · refine J_ri ?_
        refine J_if_eq_n (tgt := 76) dX0_mixSheet_53 (by decide) (by decide) ?_
        refine J_aload_n dX0_mixSheet_56 rfl ?_
        refine J_aload_n dX0_mixSheet_57 rfl ?_
        refine CG_frames dX0_mixSheet_58 ?_
        refine J_iload_n dX0_mixSheet_61 rfl ?_
        refine CA_fr (hS.2.2.2.2 _ hf) (by omega) (by have := hO.1; omega) dX0_mixSheet_62 ?_
        refine J_iload_n dX0_mixSheet_63 rfl ?_
        refine VX3_placed G f (c := (c f)) (m := k) (hS.w hf hO.1) (hO.k hf) (hP f hf).1 (by omega) q1152 (by decide) (by decide) (Nat.le_of_ble_eq_true rfl) dX0_mixSheet_64 ?_
        refine J_top (zI (P f k)) (congrArg zI hck) ?_
        refine CC_X0_mix (by decide) (by decide) (Nat.le_of_ble_eq_true rfl) dX0_mixSheet_67 ?_
        refine c_mix  ?_
        refine J_rv ?_
        refine J_iinc_z ((((k + 1)) : Nat) : Int) (by omega) dX0_mixSheet_70 rfl rfl (by decide) _ rfl ?_
        refine J_goto (tgt := 43) dX0_mixSheet_73 (by decide) ?_
        exact ih (k + 1) (by omega) (by omega)
      · exfalso; omega
theorem cl_mixSheet10S {E : jEnv} {α : Nat → Nat} {σ : cS} {Q : Option Value → cS → Prop} {many : Nat} {wide high bl : Int} {G : Nat → Nat → Int} {ad : Nat → Nat} {c : Nat → Nat → Int} {P : Nat → Nat → Int} {rule : Int} {f : Nat} {H : Int64}  (hS : cSh many wide high bl G ad c σ) (hO : shOK many wide high bl G) (hP : cPl many P c) (hN : plOK many P rule) (hf : f < many) (h0f : 0 ≤ P f 0) (hx : jX0_mixSheet E α 89 [some (.ref (α 0)), some (.int (zI (f : Nat))), none, none, none] [] (cL σ (dgT (dgT H (fun k => zI (mTell bl G f k)) 5) (fun k => zI (P f k)) 4)) Q)  : jX0_mixSheet E α 10 [some (.ref (α 0)), some (.int (zI (f : Nat))), none, none, none] [] (cL σ H) Q := by
  have hO8 := hO.s
  have hS0 := hS
  refine J_iconst (zI 0) dX0_mixSheet_10 rfl ?_
  refine J_istore_n dX0_mixSheet_11 rfl (by decide) _ rfl ?_
  refine J_fg (L' := [some (.ref (α 0)), some (.int (zI (f : Nat))), some (.int (zI ((0 : Nat)))), none, none]) (by repeat' constructor) ?_
  refine cl_mixSheet12 (h0 := H) hS0 hO hf ?_ _ 0 (by omega) (Nat.lt_succ_self _)
  refine J_iconst (zI 0) dX0_mixSheet_41 rfl ?_
  refine J_istore_n dX0_mixSheet_42 rfl (by decide) _ rfl ?_
  refine J_fg (L' := [some (.ref (α 0)), some (.int (zI (f : Nat))), some (.int (zI ((0 : Nat)))), none, none]) (by repeat' constructor) ?_
  refine cl_mixSheet43 (h0 := dgT H (fun k => zI (mTell bl G f k)) 5) hS0 hO hP hN hf h0f ?_ _ 0 (by omega) (Nat.lt_succ_self _)
  refine J_aload_n dX0_mixSheet_76 rfl ?_
  refine J_iload_n dX0_mixSheet_77 rfl ?_
  refine CC_X0_isSet (by decide) (by decide) (Nat.le_of_ble_eq_true rfl) dX0_mixSheet_78 ?_
  refine c_isSet (show cSh many wide high bl G ad c (cL σ _) from hS0) hO hP hN hf (fun b78 => ?_) (fun b78 => ?_)
  · refine J_ri ?_
    refine J_if_ne_y (tgt := 89) dX0_mixSheet_81 (by decide) (by decide) ?_
    refine J_fg (L' := [some (.ref (α 0)), some (.int (zI (f : Nat))), none, none, none]) (by repeat' constructor) ?_
    exact hx
  · exfalso; omega
theorem cl_mixSheet10N {E : jEnv} {α : Nat → Nat} {σ : cS} {Q : Option Value → cS → Prop} {many : Nat} {wide high bl : Int} {G : Nat → Nat → Int} {ad : Nat → Nat} {c : Nat → Nat → Int} {P : Nat → Nat → Int} {rule : Int} {f : Nat} {H : Int64}  (hS : cSh many wide high bl G ad c σ) (hO : shOK many wide high bl G) (hP : cPl many P c) (hN : plOK many P rule) (hf : f < many) (h0f : P f 0 = -1) (hx : jX0_mixSheet E α 89 [some (.ref (α 0)), some (.int (zI (f : Nat))), none, none, none] [] (cL σ (31 * dgT H (fun k => zI (mTell bl G f k)) 5 + (-1))) Q)  : jX0_mixSheet E α 10 [some (.ref (α 0)), some (.int (zI (f : Nat))), none, none, none] [] (cL σ H) Q := by
  have hO8 := hO.s
  have hS0 := hS
  refine J_iconst (zI 0) dX0_mixSheet_10 rfl ?_
  refine J_istore_n dX0_mixSheet_11 rfl (by decide) _ rfl ?_
  refine J_fg (L' := [some (.ref (α 0)), some (.int (zI (f : Nat))), some (.int (zI ((0 : Nat)))), none, none]) (by repeat' constructor) ?_
  refine cl_mixSheet12 (h0 := H) hS0 hO hf ?_ _ 0 (by omega) (Nat.lt_succ_self _)
  refine J_iconst (zI 0) dX0_mixSheet_41 rfl ?_
  refine J_istore_n dX0_mixSheet_42 rfl (by decide) _ rfl ?_
  refine J_iload_n dX0_mixSheet_43 rfl ?_
  refine J_iconst (zI 3) dX0_mixSheet_44 rfl ?_
  refine J_icmp_gt_n (tgt := 76) dX0_mixSheet_45 (by decide) (by decide) ?_
  refine J_aload_n dX0_mixSheet_48 rfl ?_
  refine J_iload_n dX0_mixSheet_49 rfl ?_
  refine CC_X0_isSet (by decide) (by decide) (Nat.le_of_ble_eq_true rfl) dX0_mixSheet_50 ?_
  refine c_isSet (show cSh many wide high bl G ad c (cL σ _) from hS0) hO hP hN hf (fun b50 => ?_) (fun b50 => ?_)
  · exfalso; omega
  · refine J_ri ?_
    refine J_if_eq_y (tgt := 76) dX0_mixSheet_53 (by decide) (by decide) ?_
    refine J_aload_n dX0_mixSheet_76 rfl ?_
    refine J_iload_n dX0_mixSheet_77 rfl ?_
    refine CC_X0_isSet (by decide) (by decide) (Nat.le_of_ble_eq_true rfl) dX0_mixSheet_78 ?_
    refine c_isSet (show cSh many wide high bl G ad c (cL σ _) from hS0) hO hP hN hf (fun b78 => ?_) (fun b78 => ?_)
    · exfalso; omega
    · refine J_ri ?_
      refine J_if_ne_n (tgt := 89) dX0_mixSheet_81 (by decide) (by decide) ?_
      refine J_aload_n dX0_mixSheet_84 rfl ?_
      refine J_iconst (zI (-1)) dX0_mixSheet_85 rfl ?_
      refine CC_X0_mix (by decide) (by decide) (Nat.le_of_ble_eq_true rfl) dX0_mixSheet_86 ?_
      refine c_mix  ?_
      refine J_rv ?_
      refine J_fg (L' := [some (.ref (α 0)), some (.int (zI (f : Nat))), none, none, none]) (by repeat' constructor) ?_
      exact hx
theorem cl_mixSheet2 {E : jEnv} {α : Nat → Nat} {σ : cS} {Q : Option Value → cS → Prop} {many : Nat} {wide high bl : Int} {G : Nat → Nat → Int} {ad : Nat → Nat} {c : Nat → Nat → Int} {P : Nat → Nat → Int} {rule : Int} {h0 : Int64}  (hS : cSh many wide high bl G ad c σ) (hO : shOK many wide high bl G) (hP : cPl many P c) (hN : plOK many P rule) (hx : jX0_mixSheet E α 95 [some (.ref (α 0)), none, none, none, none] [] (cL σ (dg2 h0 bl G P many)) Q)  : ∀ (n : Nat) (f : Nat), f ≤ many → many - f < n → jX0_mixSheet E α 2 [some (.ref (α 0)), some (.int (zI (f : Nat))), none, none, none] [] (cL σ (dg2 h0 bl G P f)) Q := by
  intro n
  induction n with
  | zero => intro f h1 hn; exact absurd hn (Nat.not_lt_zero _)
  | succ n ih =>
    intro f h1 hn
    have hO8 := hO.s
    have hS0 := hS
    have hS : cSh many wide high bl G ad c (cL σ (dg2 h0 bl G P f)) := hS
    refine J_iload_n dX0_mixSheet_2 rfl ?_
    refine J_aload_n dX0_mixSheet_3 rfl ?_
    refine CG_many dX0_mixSheet_4 ?_
    refine J_top (zI (many)) hS.1 ?_
    refine J_icmp_ge_z (tgt := 95) dX0_mixSheet_7 (by decide) (by unfold zR; omega) (by unfold zR; omega) (fun c7 => ?_) (fun c7 => ?_)
    · skip
      obtain rfl : f = many := by omega
      refine J_fg (L' := [some (.ref (α 0)), none, none, none, none]) (by repeat' constructor) ?_
      exact hx
    · skip
      have hf : f < many := by omega
      have hnf := hN.1 f hf
      rcases (show 0 ≤ P f 0 ∨ P f 0 = -1 by omega) with h0f | h0f
      · refine cl_mixSheet10S hS0 hO hP hN hf h0f ?_
        refine J_iinc_z (((f + 1 : Nat)) : Int) (by omega) dX0_mixSheet_89 rfl rfl (by decide) _ rfl ?_
        refine J_goto (tgt := 2) dX0_mixSheet_92 (by decide) ?_
        refine J_w (σ' := cL σ (dg2 h0 bl G P (f + 1))) (congrArg (cL σ) ?_) (ih (f + 1) (by omega) (by omega))
        show _ = (if 0 ≤ P f 0 then _ else _)
        rw [if_pos h0f]
      · refine cl_mixSheet10N hS0 hO hP hN hf h0f ?_
        refine J_iinc_z (((f + 1 : Nat)) : Int) (by omega) dX0_mixSheet_89 rfl rfl (by decide) _ rfl ?_
        refine J_goto (tgt := 2) dX0_mixSheet_92 (by decide) ?_
        refine J_w (σ' := cL σ (dg2 h0 bl G P (f + 1))) (congrArg (cL σ) ?_) (ih (f + 1) (by omega) (by omega))
        show _ = (if 0 ≤ P f 0 then _ else _)
        rw [if_neg (by omega)]
theorem cl_mixSheet105 {E : jEnv} {α : Nat → Nat} {σ : cS} {Q : Option Value → cS → Prop} {kc : Nat → Int} {KH : Nat → Nat → mPl} {KN : Nat → mPl} {many : Nat} {h0 : Int64}  (hK : cKc many kc KH KN σ) (hq : Q none (cL σ (dgT h0 (fun k => zI (kc k)) 3)))  : ∀ (n : Nat) (k : Nat), k ≤ 3 → 3 - k < n → jX0_mixSheet E α 105 [some (.ref (α 0)), some (.ref (α 33)), some (.int (zI 3)), some (.int (zI (k : Nat))), none] [] (cL σ (dgT h0 (fun k => zI (kc k)) k)) Q := by
  intro n
  induction n with
  | zero => intro k h1 hn; exact absurd hn (Nat.not_lt_zero _)
  | succ n ih =>
    intro k h1 hn
    refine J_iload_n dX0_mixSheet_105 rfl ?_
    refine J_iload_n dX0_mixSheet_106 rfl ?_
    refine J_icmp_ge_z (tgt := 139) dX0_mixSheet_107 (by decide) (by unfold zR; omega) (by unfold zR; omega) (fun c107 => ?_) (fun c107 => ?_)
    · skip
      obtain rfl : k = 3 := by omega
      exact J_vret rfl dX0_mixSheet_139 (by exact hq)
    · skip
      refine J_aload_n dX0_mixSheet_110 rfl ?_
      refine J_iload_n dX0_mixSheet_111 rfl ?_
      rcases hK k (by omega) with ⟨z1, z2⟩ | ⟨x, z2, z3, z4, z5, z6⟩
      · skip
        refine CA_kpN z2 (by omega) (by omega) dX0_mixSheet_112 ?_
        refine J_astoreN dX0_mixSheet_113 rfl (by decide) _ rfl ?_
        refine J_aload_n dX0_mixSheet_115 rfl ?_
        refine J_aloadN dX0_mixSheet_116 rfl ?_
        refine J_ifnonnullN dX0_mixSheet_118 ?_
        refine J_iconst (zI (-1)) dX0_mixSheet_121 rfl ?_
        refine J_goto (tgt := 130) dX0_mixSheet_122 (by decide) ?_
        refine J_top (zI (kc k)) (congrArg zI z1.symm) ?_
        refine CC_X0_mix (by decide) (by decide) (Nat.le_of_ble_eq_true rfl) dX0_mixSheet_130 ?_
        refine c_mix  ?_
        refine J_rv ?_
        refine J_iinc_z ((((k + 1)) : Nat) : Int) (by omega) dX0_mixSheet_133 rfl rfl (by decide) _ rfl ?_
        refine J_goto (tgt := 105) dX0_mixSheet_136 (by decide) ?_
        refine J_fg (L' := [some (.ref (α 0)), some (.ref (α 33)), some (.int (zI (3))), some (.int (zI ((k + 1 : Nat)))), none]) (by repeat' constructor) ?_
        exact ih (k + 1) (by omega) (by omega)
      · skip
        refine CA_kp z2 (by omega) (by omega) dX0_mixSheet_112 ?_
        refine J_astore dX0_mixSheet_113 rfl (by decide) _ rfl ?_
        refine J_aload_n dX0_mixSheet_115 rfl ?_
        refine J_aload dX0_mixSheet_116 rfl ?_
        refine J_ifnonnull (tgt := 125) dX0_mixSheet_118 (by decide) ?_
        refine J_aload dX0_mixSheet_125 rfl ?_
        refine KG_deeds (show k < 3 by omega) z2 dX0_mixSheet_127 ?_
        refine J_top (zI (kc k)) z5 ?_
        refine CC_X0_mix (by decide) (by decide) (Nat.le_of_ble_eq_true rfl) dX0_mixSheet_130 ?_
        refine c_mix  ?_
        refine J_rv ?_
        refine J_iinc_z ((((k + 1)) : Nat) : Int) (by omega) dX0_mixSheet_133 rfl rfl (by decide) _ rfl ?_
        refine J_goto (tgt := 105) dX0_mixSheet_136 (by decide) ?_
        refine J_fg (L' := [some (.ref (α 0)), some (.ref (α 33)), some (.int (zI (3))), some (.int (zI ((k + 1 : Nat)))), none]) (by repeat' constructor) ?_
        exact ih (k + 1) (by omega) (by omega)
theorem c_mixSheet {E : jEnv} {α : Nat → Nat} {σ : cS} {Q : Option Value → cS → Prop} {many : Nat} {wide high bl : Int} {G : Nat → Nat → Int} {ad : Nat → Nat} {c : Nat → Nat → Int} {P : Nat → Nat → Int} {rule : Int} {kc : Nat → Int} {KH : Nat → Nat → mPl} {KN : Nat → mPl}  (hS : cSh many wide high bl G ad c σ) (hO : shOK many wide high bl G) (hP : cPl many P c) (hN : plOK many P rule) (hK : cKc many kc KH KN σ) (hq : Q none (cL σ (dgT (dg2 σ.h bl G P many) (fun k => zI (kc k)) 3)))  : jX0_mixSheet E α 0 [some (.ref (α 0)), none, none, none, none] [] σ Q := by
  refine J_iconst (zI 0) dX0_mixSheet_0 rfl ?_
  refine J_istore_n dX0_mixSheet_1 rfl (by decide) _ rfl ?_
  refine J_fg (L' := [some (.ref (α 0)), some (.int (zI ((0 : Nat)))), none, none, none]) (by repeat' constructor) ?_
  refine J_w (σ' := cL σ (dg2 σ.h bl G P 0)) rfl ?_
  refine cl_mixSheet2 hS hO hP hN ?_ _ 0 (by omega) (Nat.lt_succ_self _)
  refine J_aload_n dX0_mixSheet_95 rfl ?_
  refine CG_kept dX0_mixSheet_96 ?_
  refine J_astore_n dX0_mixSheet_99 rfl (by decide) _ rfl ?_
  refine J_aload_n dX0_mixSheet_100 rfl ?_
  refine CA_len32 dX0_mixSheet_101 ?_
  refine J_istore_n dX0_mixSheet_102 rfl (by decide) _ rfl ?_
  refine J_iconst (zI 0) dX0_mixSheet_103 rfl ?_
  refine J_istore_n dX0_mixSheet_104 rfl (by decide) _ rfl ?_
  refine J_fg (L' := [some (.ref (α 0)), some (.ref (α 33)), some (.int (zI (3))), some (.int (zI ((0 : Nat)))), none]) (by repeat' constructor) ?_
  exact cl_mixSheet105 (h0 := dg2 σ.h bl G P many) hK hq _ 0 (by omega) (Nat.lt_succ_self _)
theorem cQ.cl {I A : List Nat} {τ σ' : cS} {H : Int64} (h : cQ I A (cL τ H) σ') : cQ I A τ (cL σ' τ.h) := ⟨⟨h.1.1, h.1.2.1, rfl, h.1.2.2.2⟩, h.2⟩
theorem cL_cL {σ : cS} {a b : Int64} : cL (cL σ a) b = cL σ b := rfl
theorem cl_digest77 {E : jEnv} {α : Nat → Nat} {σ : cS} {Q : Option Value → cS → Prop} {rs : Nat → Int} {rd : Nat → Nat → Int32} {ts : Nat → Int} {tb : Nat → Nat → Int} {r a N : Nat} {f : Nat → Int32} {H : Int64}  (hDt : cDt rs rd ts tb σ) (hr : r < 6) (hx : σ.ro r = some (a, N, f)) (hN : N ≤ 120) (hf : ∀ i, i < N → f i = (rd r) i) (hk : jX0_digest E α 99 [some (.ref (α 0)), some (.ref (α 4)), some (.int (zI (6))), some (.int (zI (r : Nat))), none, none, none] [] (cL σ (dgT H (rd r) N)) Q)  : ∀ (n : Nat) (i : Nat), i ≤ N → N - i < n → jX0_digest E α 77 [some (.ref (α 0)), some (.ref (α 4)), some (.int (zI 6)), some (.int (zI (r : Nat))), some (.ref a), some (.int (zI (N : Nat))), some (.int (zI (i : Nat)))] [] (cL σ (dgT H (rd r) i)) Q := by
  intro n
  induction n with
  | zero => intro i h1 hn; exact absurd hn (Nat.not_lt_zero _)
  | succ n ih =>
    intro i h1 hn
    refine J_iload dX0_digest_77 rfl ?_
    refine J_iload dX0_digest_79 rfl ?_
    refine J_icmp_ge_z (tgt := 99) dX0_digest_81 (by decide) (by unfold zR; omega) (by unfold zR; omega) (fun c81 => ?_) (fun c81 => ?_)
    · skip
      obtain rfl : i = N := by omega
      refine J_fg (L' := [some (.ref (α 0)), some (.ref (α 4)), some (.int (zI (6))), some (.int (zI (r : Nat))), none, none, none]) (by repeat' constructor) ?_
      exact hk
    · skip
      refine J_aload_n dX0_digest_84 rfl ?_
      refine J_aload dX0_digest_85 rfl ?_
      refine J_iload dX0_digest_87 rfl ?_
      refine CR_iald (i) hr (show (cL σ _).ro r = some (a, N, f) from hx) (by omega) (show i < N by omega) (by omega) dX0_digest_89 ?_
      refine J_top ((rd r) i) (hf i (by omega)) ?_
      refine CC_X0_mix (by decide) (by decide) (Nat.le_of_ble_eq_true rfl) dX0_digest_90 ?_
      refine c_mix  ?_
      refine J_rv ?_
      refine J_iinc_z ((((i + 1)) : Nat) : Int) (by omega) dX0_digest_93 rfl rfl (by decide) _ rfl ?_
      refine J_goto (tgt := 77) dX0_digest_96 (by decide) ?_
      exact ih (i + 1) (by omega) (by omega)
theorem cl_digest44n {E : jEnv} {α : Nat → Nat} {σ : cS} {Q : Option Value → cS → Prop} {rs : Nat → Int} {rd : Nat → Nat → Int32} {ts : Nat → Int} {tb : Nat → Nat → Int} {r : Nat} {H : Int64}  (hDt : cDt rs rd ts tb σ) (hr : r < 6) (z2 : σ.ro r = none) (hk : jX0_digest E α 99 [some (.ref (α 0)), some (.ref (α 4)), some (.int (zI (6))), some (.int (zI (r : Nat))), none, none, none] [] (cL σ (31 * H + (zI (-1)).toInt64)) Q)  : jX0_digest E α 49 [some (.ref (α 0)), some (.ref (α 4)), some (.int (zI 6)), some (.int (zI (r : Nat))), none, none, none] [] (cL σ H) Q := by
  refine J_aload_n dX0_digest_49 rfl ?_
  refine J_iload_n dX0_digest_50 rfl ?_
  refine CA_roN z2 (by omega) (by omega) dX0_digest_51 ?_
  refine J_astoreN dX0_digest_52 rfl (by decide) _ rfl ?_
  refine J_aloadN dX0_digest_54 rfl ?_
  refine J_ifnonnullN dX0_digest_56 ?_
  refine J_iconst (zI (-1)) dX0_digest_59 rfl ?_
  refine J_goto (tgt := 66) dX0_digest_60 (by decide) ?_
  refine J_istore dX0_digest_66 rfl (by decide) _ rfl ?_
  refine J_aload_n dX0_digest_68 rfl ?_
  refine J_iload dX0_digest_69 rfl ?_
  refine CC_X0_mix (by decide) (by decide) (Nat.le_of_ble_eq_true rfl) dX0_digest_71 ?_
  refine c_mix  ?_
  refine J_rv ?_
  refine J_iconst (zI 0) dX0_digest_74 rfl ?_
  refine J_istore dX0_digest_75 rfl (by decide) _ rfl ?_
  refine J_iload dX0_digest_77 rfl ?_
  refine J_iload dX0_digest_79 rfl ?_
  refine J_icmp_ge_y (tgt := 99) dX0_digest_81 (by decide) (by decide) ?_
  refine J_fg (L' := [some (.ref (α 0)), some (.ref (α 4)), some (.int (zI (6))), some (.int (zI (r : Nat))), none, none, none]) (by repeat' constructor) ?_
  exact hk
theorem cl_digest44s {E : jEnv} {α : Nat → Nat} {σ : cS} {Q : Option Value → cS → Prop} {rs : Nat → Int} {rd : Nat → Nat → Int32} {ts : Nat → Int} {tb : Nat → Nat → Int} {r : Nat} {H : Int64} {a N : Nat} {g : Nat → Int32}  (hDt : cDt rs rd ts tb σ) (hr : r < 6) (z2 : σ.ro r = some (a, N, g)) (hN : N ≤ 120) (z5 : ∀ i, i < N → g i = (rd r) i) (hk : jX0_digest E α 99 [some (.ref (α 0)), some (.ref (α 4)), some (.int (zI (6))), some (.int (zI (r : Nat))), none, none, none] [] (cL σ (dgT (31 * H + (zI (N : Nat)).toInt64) (rd r) N)) Q)  : jX0_digest E α 49 [some (.ref (α 0)), some (.ref (α 4)), some (.int (zI 6)), some (.int (zI (r : Nat))), none, none, none] [] (cL σ H) Q := by
  refine J_aload_n dX0_digest_49 rfl ?_
  refine J_iload_n dX0_digest_50 rfl ?_
  refine CA_ro z2 (by omega) (by omega) dX0_digest_51 ?_
  refine J_astore dX0_digest_52 rfl (by decide) _ rfl ?_
  refine J_aload dX0_digest_54 rfl ?_
  refine J_ifnonnull (tgt := 63) dX0_digest_56 (by decide) ?_
  refine J_aload dX0_digest_63 rfl ?_
  refine CR_alen hr (show (cL σ _).ro r = some (a, N, g) from z2) dX0_digest_65 ?_
  refine J_istore dX0_digest_66 rfl (by decide) _ rfl ?_
  refine J_aload_n dX0_digest_68 rfl ?_
  refine J_iload dX0_digest_69 rfl ?_
  refine CC_X0_mix (by decide) (by decide) (Nat.le_of_ble_eq_true rfl) dX0_digest_71 ?_
  refine c_mix  ?_
  refine J_rv ?_
  refine J_iconst (zI 0) dX0_digest_74 rfl ?_
  refine J_istore dX0_digest_75 rfl (by decide) _ rfl ?_
  refine J_fg (L' := [some (.ref (α 0)), some (.ref (α 4)), some (.int (zI (6))), some (.int (zI (r : Nat))), some (.ref a), some (.int (zI (N : Nat))), some (.int (zI ((0 : Nat))))]) (by repeat' constructor) ?_
  exact cl_digest77 (H := 31 * H + (zI (N : Nat)).toInt64) hDt hr z2 hN z5 hk _ 0 (by omega) (Nat.lt_succ_self _)
theorem cl_digest44 {E : jEnv} {α : Nat → Nat} {σ : cS} {Q : Option Value → cS → Prop} {rs : Nat → Int} {rd : Nat → Nat → Int32} {ts : Nat → Int} {tb : Nat → Nat → Int} {h0 : Int64}  (hDt : cDt rs rd ts tb σ) (hk : jX0_digest E α 105 [some (.ref (α 0)), none, none, none, none, none, none] [] (cL σ (dg4 h0 rs rd 6)) Q)  : ∀ (n : Nat) (r : Nat), r ≤ 6 → 6 - r < n → jX0_digest E α 44 [some (.ref (α 0)), some (.ref (α 4)), some (.int (zI 6)), some (.int (zI (r : Nat))), none, none, none] [] (cL σ (dg4 h0 rs rd r)) Q := by
  intro n
  induction n with
  | zero => intro r h1 hn; exact absurd hn (Nat.not_lt_zero _)
  | succ n ih =>
    intro r h1 hn
    refine J_iload_n dX0_digest_44 rfl ?_
    refine J_iload_n dX0_digest_45 rfl ?_
    refine J_icmp_ge_z (tgt := 105) dX0_digest_46 (by decide) (by unfold zR; omega) (by unfold zR; omega) (fun c46 => ?_) (fun c46 => ?_)
    · skip
      obtain rfl : r = 6 := by omega
      refine J_fg (L' := [some (.ref (α 0)), none, none, none, none, none, none]) (by repeat' constructor) ?_
      exact hk
    · skip
      rcases hDt.1 r (by omega) with ⟨z1, z2⟩ | ⟨a, N, g, z2, z3, z4, z5⟩
      · refine cl_digest44n hDt (by omega) z2 ?_
        refine J_iinc_z (((r + 1 : Nat)) : Int) (by omega) dX0_digest_99 rfl rfl (by decide) _ rfl ?_
        refine J_goto (tgt := 44) dX0_digest_102 (by decide) ?_
        refine J_w (σ' := cL σ (dg4 h0 rs rd (r + 1))) (congrArg (cL σ) ?_) (ih (r + 1) (by omega) (by omega))
        show _ = dgT (31 * (dg4 h0 rs rd r) + (zI (rs r)).toInt64) (rd r) (rs r).toNat
        rw [z1]; rfl
      · refine cl_digest44s hDt (by omega) z2 (by omega) z5 ?_
        refine J_iinc_z (((r + 1 : Nat)) : Int) (by omega) dX0_digest_99 rfl rfl (by decide) _ rfl ?_
        refine J_goto (tgt := 44) dX0_digest_102 (by decide) ?_
        refine J_w (σ' := cL σ (dg4 h0 rs rd (r + 1))) (congrArg (cL σ) ?_) (ih (r + 1) (by omega) (by omega))
        show _ = dgT (31 * (dg4 h0 rs rd r) + (zI (rs r)).toInt64) (rd r) (rs r).toNat
        rw [z3, Int.toNat_natCast]
theorem cl_digest148 {E : jEnv} {α : Nat → Nat} {σ : cS} {Q : Option Value → cS → Prop} {rs : Nat → Int} {rd : Nat → Nat → Int32} {ts : Nat → Int} {tb : Nat → Nat → Int} {r a N : Nat} {f : Nat → Int32} {H : Int64}  (hDt : cDt rs rd ts tb σ) (hr : r < 4) (hx : σ.tx r = some (a, N, f)) (hN : N ≤ 120) (hf : ∀ i, i < N → f i = (fun i => zI (tb r i)) i) (hk : jX0_digest E α 170 [some (.ref (α 0)), some (.ref (α 5)), some (.int (zI (4))), some (.int (zI (r : Nat))), none, none, none] [] (cL σ (dgT H (fun i => zI (tb r i)) N)) Q)  : ∀ (n : Nat) (i : Nat), i ≤ N → N - i < n → jX0_digest E α 148 [some (.ref (α 0)), some (.ref (α 5)), some (.int (zI 4)), some (.int (zI (r : Nat))), some (.ref a), some (.int (zI (N : Nat))), some (.int (zI (i : Nat)))] [] (cL σ (dgT H (fun i => zI (tb r i)) i)) Q := by
  intro n
  induction n with
  | zero => intro i h1 hn; exact absurd hn (Nat.not_lt_zero _)
  | succ n ih =>
    intro i h1 hn
    refine J_iload dX0_digest_148 rfl ?_
    refine J_iload dX0_digest_150 rfl ?_
    refine J_icmp_ge_z (tgt := 170) dX0_digest_152 (by decide) (by unfold zR; omega) (by unfold zR; omega) (fun c152 => ?_) (fun c152 => ?_)
    · skip
      obtain rfl : i = N := by omega
      refine J_fg (L' := [some (.ref (α 0)), some (.ref (α 5)), some (.int (zI (4))), some (.int (zI (r : Nat))), none, none, none]) (by repeat' constructor) ?_
      exact hk
    · skip
      refine J_aload_n dX0_digest_155 rfl ?_
      refine J_aload dX0_digest_156 rfl ?_
      refine J_iload dX0_digest_158 rfl ?_
      refine CX_bald (i) hr (show (cL σ _).tx r = some (a, N, f) from hx) (by omega) (show i < N by omega) (by omega) dX0_digest_160 ?_
      refine J_top ((fun i => zI (tb r i)) i) (hf i (by omega)) ?_
      refine CC_X0_mix (by decide) (by decide) (Nat.le_of_ble_eq_true rfl) dX0_digest_161 ?_
      refine c_mix  ?_
      refine J_rv ?_
      refine J_iinc_z ((((i + 1)) : Nat) : Int) (by omega) dX0_digest_164 rfl rfl (by decide) _ rfl ?_
      refine J_goto (tgt := 148) dX0_digest_167 (by decide) ?_
      exact ih (i + 1) (by omega) (by omega)
theorem cl_digest115n {E : jEnv} {α : Nat → Nat} {σ : cS} {Q : Option Value → cS → Prop} {rs : Nat → Int} {rd : Nat → Nat → Int32} {ts : Nat → Int} {tb : Nat → Nat → Int} {r : Nat} {H : Int64}  (hDt : cDt rs rd ts tb σ) (hr : r < 4) (z2 : σ.tx r = none) (hk : jX0_digest E α 170 [some (.ref (α 0)), some (.ref (α 5)), some (.int (zI (4))), some (.int (zI (r : Nat))), none, none, none] [] (cL σ (31 * H + (zI (-1)).toInt64)) Q)  : jX0_digest E α 120 [some (.ref (α 0)), some (.ref (α 5)), some (.int (zI 4)), some (.int (zI (r : Nat))), none, none, none] [] (cL σ H) Q := by
  refine J_aload_n dX0_digest_120 rfl ?_
  refine J_iload_n dX0_digest_121 rfl ?_
  refine CA_txN z2 (by omega) (by omega) dX0_digest_122 ?_
  refine J_astoreN dX0_digest_123 rfl (by decide) _ rfl ?_
  refine J_aloadN dX0_digest_125 rfl ?_
  refine J_ifnonnullN dX0_digest_127 ?_
  refine J_iconst (zI (-1)) dX0_digest_130 rfl ?_
  refine J_goto (tgt := 137) dX0_digest_131 (by decide) ?_
  refine J_istore dX0_digest_137 rfl (by decide) _ rfl ?_
  refine J_aload_n dX0_digest_139 rfl ?_
  refine J_iload dX0_digest_140 rfl ?_
  refine CC_X0_mix (by decide) (by decide) (Nat.le_of_ble_eq_true rfl) dX0_digest_142 ?_
  refine c_mix  ?_
  refine J_rv ?_
  refine J_iconst (zI 0) dX0_digest_145 rfl ?_
  refine J_istore dX0_digest_146 rfl (by decide) _ rfl ?_
  refine J_iload dX0_digest_148 rfl ?_
  refine J_iload dX0_digest_150 rfl ?_
  refine J_icmp_ge_y (tgt := 170) dX0_digest_152 (by decide) (by decide) ?_
  refine J_fg (L' := [some (.ref (α 0)), some (.ref (α 5)), some (.int (zI (4))), some (.int (zI (r : Nat))), none, none, none]) (by repeat' constructor) ?_
  exact hk
theorem cl_digest115s {E : jEnv} {α : Nat → Nat} {σ : cS} {Q : Option Value → cS → Prop} {rs : Nat → Int} {rd : Nat → Nat → Int32} {ts : Nat → Int} {tb : Nat → Nat → Int} {r : Nat} {H : Int64} {a N : Nat} {g : Nat → Int32}  (hDt : cDt rs rd ts tb σ) (hr : r < 4) (z2 : σ.tx r = some (a, N, g)) (hN : N ≤ 120) (z5 : ∀ i, i < N → g i = (fun i => zI (tb r i)) i) (hk : jX0_digest E α 170 [some (.ref (α 0)), some (.ref (α 5)), some (.int (zI (4))), some (.int (zI (r : Nat))), none, none, none] [] (cL σ (dgT (31 * H + (zI (N : Nat)).toInt64) (fun i => zI (tb r i)) N)) Q)  : jX0_digest E α 120 [some (.ref (α 0)), some (.ref (α 5)), some (.int (zI 4)), some (.int (zI (r : Nat))), none, none, none] [] (cL σ H) Q := by
  refine J_aload_n dX0_digest_120 rfl ?_
  refine J_iload_n dX0_digest_121 rfl ?_
  refine CA_tx z2 (by omega) (by omega) dX0_digest_122 ?_
  refine J_astore dX0_digest_123 rfl (by decide) _ rfl ?_
  refine J_aload dX0_digest_125 rfl ?_
  refine J_ifnonnull (tgt := 134) dX0_digest_127 (by decide) ?_
  refine J_aload dX0_digest_134 rfl ?_
  refine CX_alen hr (show (cL σ _).tx r = some (a, N, g) from z2) dX0_digest_136 ?_
  refine J_istore dX0_digest_137 rfl (by decide) _ rfl ?_
  refine J_aload_n dX0_digest_139 rfl ?_
  refine J_iload dX0_digest_140 rfl ?_
  refine CC_X0_mix (by decide) (by decide) (Nat.le_of_ble_eq_true rfl) dX0_digest_142 ?_
  refine c_mix  ?_
  refine J_rv ?_
  refine J_iconst (zI 0) dX0_digest_145 rfl ?_
  refine J_istore dX0_digest_146 rfl (by decide) _ rfl ?_
  refine J_fg (L' := [some (.ref (α 0)), some (.ref (α 5)), some (.int (zI (4))), some (.int (zI (r : Nat))), some (.ref a), some (.int (zI (N : Nat))), some (.int (zI ((0 : Nat))))]) (by repeat' constructor) ?_
  exact cl_digest148 (H := 31 * H + (zI (N : Nat)).toInt64) hDt hr z2 hN z5 hk _ 0 (by omega) (Nat.lt_succ_self _)
theorem cl_digest115 {E : jEnv} {α : Nat → Nat} {σ : cS} {Q : Option Value → cS → Prop} {rs : Nat → Int} {rd : Nat → Nat → Int32} {ts : Nat → Int} {tb : Nat → Nat → Int} {h0 : Int64}  (hDt : cDt rs rd ts tb σ) (hk : jX0_digest E α 176 [some (.ref (α 0)), none, none, none, none, none, none] [] (cL σ (dg4 h0 ts (fun t i => zI (tb t i)) 4)) Q)  : ∀ (n : Nat) (r : Nat), r ≤ 4 → 4 - r < n → jX0_digest E α 115 [some (.ref (α 0)), some (.ref (α 5)), some (.int (zI 4)), some (.int (zI (r : Nat))), none, none, none] [] (cL σ (dg4 h0 ts (fun t i => zI (tb t i)) r)) Q := by
  intro n
  induction n with
  | zero => intro r h1 hn; exact absurd hn (Nat.not_lt_zero _)
  | succ n ih =>
    intro r h1 hn
    refine J_iload_n dX0_digest_115 rfl ?_
    refine J_iload_n dX0_digest_116 rfl ?_
    refine J_icmp_ge_z (tgt := 176) dX0_digest_117 (by decide) (by unfold zR; omega) (by unfold zR; omega) (fun c117 => ?_) (fun c117 => ?_)
    · skip
      obtain rfl : r = 4 := by omega
      refine J_fg (L' := [some (.ref (α 0)), none, none, none, none, none, none]) (by repeat' constructor) ?_
      exact hk
    · skip
      rcases hDt.2 r (by omega) with ⟨z1, z2⟩ | ⟨a, N, g, z2, z3, z4, z5⟩
      · refine cl_digest115n hDt (by omega) z2 ?_
        refine J_iinc_z (((r + 1 : Nat)) : Int) (by omega) dX0_digest_170 rfl rfl (by decide) _ rfl ?_
        refine J_goto (tgt := 115) dX0_digest_173 (by decide) ?_
        refine J_w (σ' := cL σ (dg4 h0 ts (fun t i => zI (tb t i)) (r + 1))) (congrArg (cL σ) ?_) (ih (r + 1) (by omega) (by omega))
        show _ = dgT (31 * (dg4 h0 ts (fun t i => zI (tb t i)) r) + (zI (ts r)).toInt64) (fun i => zI (tb r i)) (ts r).toNat
        rw [z1]; rfl
      · refine cl_digest115s hDt (by omega) z2 (by omega) z5 ?_
        refine J_iinc_z (((r + 1 : Nat)) : Int) (by omega) dX0_digest_170 rfl rfl (by decide) _ rfl ?_
        refine J_goto (tgt := 115) dX0_digest_173 (by decide) ?_
        refine J_w (σ' := cL σ (dg4 h0 ts (fun t i => zI (tb t i)) (r + 1))) (congrArg (cL σ) ?_) (ih (r + 1) (by omega) (by omega))
        show _ = dgT (31 * (dg4 h0 ts (fun t i => zI (tb t i)) r) + (zI (ts r)).toInt64) (fun i => zI (tb r i)) (ts r).toNat
        rw [z3, Int.toNat_natCast]
theorem cl_digest9 {E : jEnv} {α : Nat → Nat} {σ : cS} {Q : Option Value → cS → Prop} {many : Nat} {wide high bl : Int} {G : Nat → Nat → Int} {ad : Nat → Nat} {c : Nat → Nat → Int} {P : Nat → Nat → Int} {rule : Int} {dm : Nat} {H : Nat → mPl} {kc : Nat → Int} {KH : Nat → Nat → mPl} {KN : Nat → mPl} {rs : Nat → Int} {rd : Nat → Nat → Int32} {ts : Nat → Int} {tb : Nat → Nat → Int}  (hS : cSh many wide high bl G ad c σ) (hO : shOK many wide high bl G) (hP : cPl many P c) (hN : plOK many P rule) (hV : plV many wide high bl G P) (hZ : plZ many P) (hL : cLg many dm H σ) (hd : dm ≤ 40) (hR : cRl rule σ) (hK : cKc many kc KH KN σ) (hDt : cDt rs rd ts tb σ) (hx : ∀ τ, cQ [20] [21, 22, 23, 24, 25] σ τ → jX0_digest E α 30 [some (.ref (α 0)), none, none, none, none, none, none] [] (cL τ (dg1 (mCnt many wide high bl G P rule dm rs ts kc) 14)) Q)  : ∀ (n : Nat) (k : Nat) (τ : cS), k ≤ 14 → cQ [20] [21, 22, 23, 24, 25] σ τ → 14 - k < n → jX0_digest E α 9 [some (.ref (α 0)), some (.int (zI (k : Nat))), none, none, none, none, none] [] (cL τ (dg1 (mCnt many wide high bl G P rule dm rs ts kc) k)) Q := by
  intro n
  induction n with
  | zero => intro k τ h1 h2 hn; exact absurd hn (Nat.not_lt_zero _)
  | succ n ih =>
    intro k τ h1 h2 hn
    have hS := hS.up h2 (by decide) (by decide) (by decide) (by decide)
    have hL := hL.up h2.1 (by decide) (by decide)
    have hR := hR.up h2.2.2
    have hK := hK.up h2.1
    have hDt := hDt.up h2.1
    refine J_iload_n dX0_digest_9 rfl ?_
    refine J_bipush (zI 13) dX0_digest_10 rfl ?_
    refine J_icmp_gt_z (tgt := 30) dX0_digest_12 (by decide) (by unfold zR; omega) (by unfold zR; omega) (fun c12 => ?_) (fun c12 => ?_)
    · skip
      obtain rfl : k = 14 := by omega
      refine J_fg (L' := [some (.ref (α 0)), none, none, none, none, none, none]) (by repeat' constructor) ?_
      exact hx τ h2
    · skip
      refine J_aload_n dX0_digest_15 rfl ?_
      refine J_aload_n dX0_digest_16 rfl ?_
      refine J_iload_n dX0_digest_17 rfl ?_
      refine CC_X0_countOf (by decide) (by decide) (Nat.le_of_ble_eq_true rfl) dX0_digest_18 ?_
      refine c_countOf (σ := cL τ (dg1 (mCnt many wide high bl G P rule dm rs ts kc) k)) hS hO hP hN hV hZ hL hd hR hK hDt (by omega) (fun σ1 e1 => ?_)
      refine J_ri ?_
      refine CC_X0_mix (by decide) (by decide) (Nat.le_of_ble_eq_true rfl) dX0_digest_21 ?_
      refine c_mix ?_
      refine J_w (σ' := cL (cL σ1 τ.h) (dg1 (mCnt many wide high bl G P rule dm rs ts kc) (k + 1))) (show cL σ1 _ = cL σ1 _ from congrArg (cL σ1) (by rw [e1.1.2.2.1]; rfl)) ?_
      refine J_rv ?_
      refine J_iinc_z ((((k + 1)) : Nat) : Int) (by omega) dX0_digest_24 rfl rfl (by decide) _ rfl ?_
      refine J_goto (tgt := 9) dX0_digest_27 (by decide) ?_
      exact ih (k + 1) _ (by omega) (h2.trans e1.cl) (by omega)
theorem c_digest {E : jEnv} {α : Nat → Nat} {σ : cS} {Q : Option Value → cS → Prop} {many : Nat} {wide high bl : Int} {G : Nat → Nat → Int} {ad : Nat → Nat} {c : Nat → Nat → Int} {P : Nat → Nat → Int} {rule : Int} {dm : Nat} {H : Nat → mPl} {kc : Nat → Int} {KH : Nat → Nat → mPl} {KN : Nat → mPl} {rs : Nat → Int} {rd : Nat → Nat → Int32} {ts : Nat → Int} {tb : Nat → Nat → Int}  (hS : cSh many wide high bl G ad c σ) (hO : shOK many wide high bl G) (hP : cPl many P c) (hN : plOK many P rule) (hV : plV many wide high bl G P) (hZ : plZ many P) (hL : cLg many dm H σ) (hd : dm ≤ 40) (hR : cRl rule σ) (hK : cKc many kc KH KN σ) (hDt : cDt rs rd ts tb σ) (hq : ∀ σ', cQ [20] [21, 22, 23, 24, 25] σ (cL σ' σ.h) → Q (some (.long (dgA (mCnt many wide high bl G P rule dm rs ts kc) many bl G P kc rs rd ts tb))) σ')  : jX0_digest E α 0 [some (.ref (α 0)), none, none, none, none, none, none] [] σ Q := by
  refine J_aload_n dX0_digest_0 rfl ?_
  refine J_ldc2 (17) q1561 dX0_digest_1 ?_
  refine CP_h0 dX0_digest_4 ?_
  refine J_iconst (zI 0) dX0_digest_7 rfl ?_
  refine J_istore_n dX0_digest_8 rfl (by decide) _ rfl ?_
  refine J_fg (L' := [some (.ref (α 0)), some (.int (zI ((0 : Nat)))), none, none, none, none, none]) (by repeat' constructor) ?_
  refine J_w (σ' := cL σ (dg1 (mCnt many wide high bl G P rule dm rs ts kc) 0)) rfl ?_
  refine cl_digest9 hS hO hP hN hV hZ hL hd hR hK hDt (fun τ e1 => ?_) _ 0 σ (by omega) cQ.refl (Nat.lt_succ_self _)
  refine J_aload_n dX0_digest_30 rfl ?_
  refine CC_X0_mixSheet (by decide) (by decide) (Nat.le_of_ble_eq_true rfl) dX0_digest_31 ?_
  refine c_mixSheet (σ := cL τ (dg1 (mCnt many wide high bl G P rule dm rs ts kc) 14)) (show cSh many wide high bl G ad c τ from hS.up e1 (by decide) (by decide) (by decide) (by decide)) hO hP hN (show cKc many kc KH KN τ from hK.up e1.1) ?_
  refine J_rv ?_
  refine J_aload_n dX0_digest_34 rfl ?_
  refine CG_rows dX0_digest_35 ?_
  refine J_astore_n dX0_digest_38 rfl (by decide) _ rfl ?_
  refine J_aload_n dX0_digest_39 rfl ?_
  refine CA_len3 dX0_digest_40 ?_
  refine J_istore_n dX0_digest_41 rfl (by decide) _ rfl ?_
  refine J_iconst (zI 0) dX0_digest_42 rfl ?_
  refine J_istore_n dX0_digest_43 rfl (by decide) _ rfl ?_
  refine J_fg (L' := [some (.ref (α 0)), some (.ref (α 4)), some (.int (zI (6))), some (.int (zI ((0 : Nat)))), none, none, none]) (by repeat' constructor) ?_
  refine cl_digest44 (σ := τ) (h0 := dgT (dg2 (dg1 (mCnt many wide high bl G P rule dm rs ts kc) 14) bl G P many) (fun k => zI (kc k)) 3) (hDt.up e1.1) ?_ _ 0 (by omega) (Nat.lt_succ_self _)
  refine J_aload_n dX0_digest_105 rfl ?_
  refine CG_texts dX0_digest_106 ?_
  refine J_astore_n dX0_digest_109 rfl (by decide) _ rfl ?_
  refine J_aload_n dX0_digest_110 rfl ?_
  refine CA_len4 dX0_digest_111 ?_
  refine J_istore_n dX0_digest_112 rfl (by decide) _ rfl ?_
  refine J_iconst (zI 0) dX0_digest_113 rfl ?_
  refine J_istore_n dX0_digest_114 rfl (by decide) _ rfl ?_
  refine J_fg (L' := [some (.ref (α 0)), some (.ref (α 5)), some (.int (zI (4))), some (.int (zI ((0 : Nat)))), none, none, none]) (by repeat' constructor) ?_
  refine cl_digest115 (σ := τ) (h0 := dg4 (dgT (dg2 (dg1 (mCnt many wide high bl G P rule dm rs ts kc) 14) bl G P many) (fun k => zI (kc k)) 3) rs rd 6) (hDt.up e1.1) ?_ _ 0 (by omega) (Nat.lt_succ_self _)
  refine J_aload_n dX0_digest_176 rfl ?_
  refine CG_h0 dX0_digest_177 ?_
  exact J_lret rfl dX0_digest_180 (by exact hq _ (show cQ [20] [21, 22, 23, 24, 25] σ (cL τ σ.h) from ⟨⟨e1.1.1, e1.1.2.1, rfl, e1.1.2.2.2⟩, e1.2⟩))
