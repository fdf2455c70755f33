set_option maxRecDepth 100000
/-! the twin: digest -/
theorem tSh.L {many : Nat} {wide high bl : Int} {G : Nat → Nat → Int} {σ : tS} (h : tSh many wide high bl G σ) (v : Int64) : tSh many wide high bl G (setL σ v) := h
theorem tPl.L {P : Nat → Nat → Int} {rule : Int} {σ : tS} (h : tPl P rule σ) (v : Int64) : tPl P rule (setL σ v) := h
theorem tl_digest9 {E : jEnv} {α : Nat → Nat} {σ : tS} {Q : Option Value → tS → Prop} {many : Nat} {wide high bl : Int} {G : Nat → Nat → Int} {P : Nat → Nat → Int} {rule : Int} {dm : Nat} {H : Nat → mPl} {kc : Nat → Int} {KH : Nat → Nat → mPl} {KN : Nat → mPl} {rs : Nat → Int} {rd : Nat → Nat → Int32} {ts : Nat → Int} {tb : Nat → Nat → Int}  (hS : tSh many wide high bl G σ) (hO : shOK many wide high bl G) (hP : tPl P rule σ) (hN : plOK many P rule) (hV : plV many wide high bl G P) (hL : tLg dm H σ) (hd : dm ≤ 40) (hK : tKp kc KH KN σ) (hkc : ∀ k, k < 3 → -1 ≤ kc k ∧ kc k ≤ 40) (hDt : tDt rs rd ts tb σ) (hDo : dtOK rs ts tb) (hx : ∀ σ1, tEqL [27, 32, 33, 34, 35] [26, 28, 29, 30, 31] σ σ1 → σ1.2.2 = dg1 (mCnt many wide high bl G P rule dm rs ts kc) 14 → jX2_digest E α 31 [some (.ref (α 0)), none, none] [] σ1 Q) : ∀ (n : Nat) (k : Nat) (σ1 : tS), k ≤ 14 → tEqL [27, 32, 33, 34, 35] [26, 28, 29, 30, 31] σ σ1 → σ1.2.2 = dg1 (mCnt many wide high bl G P rule dm rs ts kc) k → 14 - k < n → jX2_digest E α 9 [some (.ref (α 0)), some (.int (zI (k : Nat))), none] [] σ1 Q := by
  intro n
  induction n with
  | zero => intro k σ1 h1 h2 h3 hn; exact absurd hn (Nat.not_lt_zero _)
  | succ n ih =>
    intro k σ1 h1 h2 h3 hn
    have hS : tSh many wide high bl G σ1 := by have h := hS.eq h2.eq (by decide) (by decide) (by decide) (by decide) (by decide); exact h
    have hP : tPl P rule σ1 := by have h := hP.eq h2.eq (by decide); exact h
    have hL : tLg dm H σ1 := by have h := hL.eq h2.eq (by decide) (by decide); exact h
    have hK : tKp kc KH KN σ1 := by have h := hK.eq h2.eq (by decide) (by decide); exact h
    have hDt : tDt rs rd ts tb σ1 := by have h := hDt.eq h2.eq (by decide) (by decide) (by decide) (by decide); exact h
    refine J_iload_n dX2_digest_9 rfl ?_
    refine J_bipush (zI 14) dX2_digest_10 rfl ?_
    refine J_icmp_ge_z (tgt := 31) dX2_digest_12 (by decide) (by unfold zR; omega) (by unfold zR; omega) (fun c12 => ?_) (fun c12 => ?_)
    · skip
      obtain rfl : k = 14 := by omega
      refine J_fg (L' := [some (.ref (α 0)), none, none]) (by repeat' constructor) ?_
      exact hx σ1 h2 h3
    · skip
      refine J_aload_n dX2_digest_15 rfl ?_
      refine J_aload_n dX2_digest_16 rfl ?_
      refine J_iload_n dX2_digest_17 rfl ?_
      refine TC_X2_counted (by decide) (Nat.le_of_ble_eq_true rfl) dX2_digest_18 ?_
      refine t_counted hS hO hP hN hV hL hd hK hkc hDt hDo (by omega) (fun σ2 e2 => ?_)
      refine J_ri ?_
      refine J_i2l dX2_digest_21 ?_
      refine TC_X2_adds (by decide) (Nat.le_of_ble_eq_true rfl) dX2_digest_22 ?_
      refine t_adds ?_
      refine J_rv ?_
      refine J_iinc_z ((((k + 1)) : Nat) : Int) (by omega) dX2_digest_25 rfl rfl (by decide) _ rfl ?_
      refine J_goto (tgt := 9) dX2_digest_28 (by decide) ?_
      exact ih (k + 1) _ (by omega) ((h2.trans e2).L _) (by show 31 * σ2.2.2 + _ = _; rw [e2.2.2, h3]; rfl) (by omega)
theorem tl_digest43 {E : jEnv} {α : Nat → Nat} {σ : tS} {Q : Option Value → tS → Prop} {many : Nat} {wide high bl : Int} {G : Nat → Nat → Int} {f : Nat} {h : Int64} (hS : tSh many wide high bl G σ) (hO : shOK many wide high bl G) (hf : f < many) (hx : ∀ σ1, tEqL [27, 32, 33, 34, 35] [26, 28, 29, 30, 31] σ σ1 → σ1.2.2 = dgT h (fun k => zI (mTell bl G f k)) 5 → jX2_digest E α 65 [some (.ref (α 0)), some (.int (zI (f : Nat))), none] [] σ1 Q) : ∀ (n : Nat) (k : Nat) (σ1 : tS), k ≤ 5 → tEqL [27, 32, 33, 34, 35] [26, 28, 29, 30, 31] σ σ1 → σ1.2.2 = dgT h (fun k => zI (mTell bl G f k)) k → 5 - k < n → jX2_digest E α 43 [some (.ref (α 0)), some (.int (zI (f : Nat))), some (.int (zI (k : Nat)))] [] σ1 Q := by
  intro n
  induction n with
  | zero => intro k σ1 h1 h2 h3 hn; exact absurd hn (Nat.not_lt_zero _)
  | succ n ih =>
    intro k σ1 h1 h2 h3 hn
    have hS : tSh many wide high bl G σ1 := by have h := hS.eq h2.eq (by decide) (by decide) (by decide) (by decide) (by decide); exact h
    refine J_iload_n dX2_digest_43 rfl ?_
    refine J_iconst (zI 5) dX2_digest_44 rfl ?_
    refine J_icmp_ge_z (tgt := 65) dX2_digest_45 (by decide) (by unfold zR; omega) (by unfold zR; omega) (fun c45 => ?_) (fun c45 => ?_)
    · skip
      obtain rfl : k = 5 := by omega
      refine J_fg (L' := [some (.ref (α 0)), some (.int (zI (f : Nat))), none]) (by repeat' constructor) ?_
      exact hx σ1 h2 h3
    · skip
      refine J_aload_n dX2_digest_48 rfl ?_
      refine J_aload_n dX2_digest_49 rfl ?_
      refine J_iload_n dX2_digest_50 rfl ?_
      refine J_iload_n dX2_digest_51 rfl ?_
      refine TC_X2_frameTells (by decide) (Nat.le_of_ble_eq_true rfl) dX2_digest_52 ?_
      refine t_frameTells hS hO (by omega) (by omega) ?_
      refine J_ri ?_
      refine J_i2l dX2_digest_55 ?_
      refine TC_X2_adds (by decide) (Nat.le_of_ble_eq_true rfl) dX2_digest_56 ?_
      refine t_adds ?_
      refine J_rv ?_
      refine J_iinc_z ((((k + 1)) : Nat) : Int) (by omega) dX2_digest_59 rfl rfl (by decide) _ rfl ?_
      refine J_goto (tgt := 43) dX2_digest_62 (by decide) ?_
      exact ih (k + 1) _ (by omega) (h2.L _) (by show 31 * σ1.2.2 + _ = _; rw [h3]; rfl) (by omega)
theorem tl_digest67y {E : jEnv} {α : Nat → Nat} {σ : tS} {Q : Option Value → tS → Prop} {many : Nat} {wide high bl : Int} {G : Nat → Nat → Int} {P : Nat → Nat → Int} {rule : Int} {f : Nat} {h : Int64} (hS : tSh many wide high bl G σ) (hO : shOK many wide high bl G) (hP : tPl P rule σ) (hN : plOK many P rule) (hf : f < many) (h0 : 0 ≤ P f 0) (hx : ∀ σ1, tEqL [27, 32, 33, 34, 35] [26, 28, 29, 30, 31] σ σ1 → σ1.2.2 = dgT h (fun k => zI (P f k)) 4 → jX2_digest E α 119 [some (.ref (α 0)), some (.int (zI (f : Nat))), none] [] σ1 Q) : ∀ (n : Nat) (k : Nat) (σ1 : tS), k ≤ 4 → tEqL [27, 32, 33, 34, 35] [26, 28, 29, 30, 31] σ σ1 → σ1.2.2 = dgT h (fun k => zI (P f k)) k → 4 - k < n → jX2_digest E α 67 [some (.ref (α 0)), some (.int (zI (f : Nat))), some (.int (zI (k : Nat)))] [] σ1 Q := by
  intro n
  induction n with
  | zero => intro k σ1 h1 h2 h3 hn; exact absurd hn (Nat.not_lt_zero _)
  | succ n ih =>
    intro k σ1 h1 h2 h3 hn
    have := hO.s
    have hS : tSh many wide high bl G σ1 := by have h := hS.eq h2.eq (by decide) (by decide) (by decide) (by decide) (by decide); exact h
    have hP : tPl P rule σ1 := by have h := hP.eq h2.eq (by decide); exact h
    refine J_iload_n dX2_digest_67 rfl ?_
    refine J_aload_n dX2_digest_68 rfl ?_
    refine J_iload_n dX2_digest_69 rfl ?_
    refine TC_X2_isSet (by decide) (Nat.le_of_ble_eq_true rfl) dX2_digest_70 ?_
    refine t_isSet hS hO hP hN (by omega) (fun b70 => ?_) (fun b70 => ?_)
    · refine J_ri ?_
      refine J_if_eq_n (tgt := 80) dX2_digest_73 (by decide) (by decide) ?_
      refine J_iconst (zI 4) dX2_digest_76 rfl ?_
      refine J_goto (tgt := 81) dX2_digest_77 (by decide) ?_
      refine J_icmp_ge_z (tgt := 119) dX2_digest_81 (by decide) (by unfold zR; omega) (by unfold zR; omega) (fun c81 => ?_) (fun c81 => ?_)
      · skip
        obtain rfl : k = 4 := by omega
        refine J_fg (L' := [some (.ref (α 0)), some (.int (zI (f : Nat))), none]) (by repeat' constructor) ?_
        exact hx σ1 h2 h3
      · skip
        refine J_aload_n dX2_digest_84 rfl ?_
        refine J_aload_n dX2_digest_85 rfl ?_
        refine J_iload_n dX2_digest_86 rfl ?_
        refine TC_X2_isSet (by decide) (Nat.le_of_ble_eq_true rfl) dX2_digest_87 ?_
        refine t_isSet hS hO hP hN (by omega) (fun b87 => ?_) (fun b87 => ?_)
        · refine J_ri ?_
          refine J_if_eq_n (tgt := 107) dX2_digest_90 (by decide) (by decide) ?_
          refine J_aload_n dX2_digest_93 rfl ?_
          refine TG_now dX2_digest_94 ?_
          refine J_iconst (zI 4) dX2_digest_97 rfl ?_
          refine J_iload_n dX2_digest_98 rfl ?_
          refine J_imul_z dX2_digest_99 ?_
          refine J_iload_n dX2_digest_100 rfl ?_
          refine J_iadd_z dX2_digest_101 ?_
          refine TJ_iald 23 (((4 * f) + k)) ⟨rfl, rfl, by decide⟩ (by omega) (show ((4 * f) + k) < 33 by omega) dX2_digest_102 ?_
          refine J_top (zI (P f k)) (hP.1 f k (by omega) (by omega)) ?_
          refine J_i2l dX2_digest_103 ?_
          refine J_goto (tgt := 110) dX2_digest_104 (by decide) ?_
          refine TC_X2_adds (by decide) (Nat.le_of_ble_eq_true rfl) dX2_digest_110 ?_
          refine t_adds ?_
          refine J_rv ?_
          refine J_iinc_z ((((k + 1)) : Nat) : Int) (by omega) dX2_digest_113 rfl rfl (by decide) _ rfl ?_
          refine J_goto (tgt := 67) dX2_digest_116 (by decide) ?_
          exact ih (k + 1) _ (by omega) (h2.L _) (by show 31 * σ1.2.2 + _ = _; rw [h3]; rfl) (by omega)
        · exfalso; omega
    · exfalso; omega
theorem tl_digest67n {E : jEnv} {α : Nat → Nat} {σ : tS} {Q : Option Value → tS → Prop} {many : Nat} {wide high bl : Int} {G : Nat → Nat → Int} {P : Nat → Nat → Int} {rule : Int} {f : Nat} {h : Int64} {σ0 : tS} (hS : tSh many wide high bl G σ) (hO : shOK many wide high bl G) (hP : tPl P rule σ) (hN : plOK many P rule) (hf : f < many) (h0 : P f 0 = -1) (h3 : σ.2.2 = h) (hx : ∀ σ1, tEqL [27, 32, 33, 34, 35] [26, 28, 29, 30, 31] σ σ1 → σ1.2.2 = 31 * h + (-1) → jX2_digest E α 119 [some (.ref (α 0)), some (.int (zI (f : Nat))), none] [] σ1 Q) : jX2_digest E α 67 [some (.ref (α 0)), some (.int (zI (f : Nat))), some (.int (zI 0))] [] σ Q := by
  have := hO.s
  refine J_iload_n dX2_digest_67 rfl ?_
  refine J_aload_n dX2_digest_68 rfl ?_
  refine J_iload_n dX2_digest_69 rfl ?_
  refine TC_X2_isSet (by decide) (Nat.le_of_ble_eq_true rfl) dX2_digest_70 ?_
  refine t_isSet hS hO hP hN (by omega) (fun b70 => ?_) (fun b70 => ?_)
  · exfalso; omega
  · refine J_ri ?_
    refine J_if_eq_y (tgt := 80) dX2_digest_73 (by decide) (by decide) ?_
    refine J_iconst (zI 1) dX2_digest_80 rfl ?_
    refine J_icmp_ge_n (tgt := 119) dX2_digest_81 (by decide) (by decide) ?_
    refine J_aload_n dX2_digest_84 rfl ?_
    refine J_aload_n dX2_digest_85 rfl ?_
    refine J_iload_n dX2_digest_86 rfl ?_
    refine TC_X2_isSet (by decide) (Nat.le_of_ble_eq_true rfl) dX2_digest_87 ?_
    refine t_isSet hS hO hP hN (by omega) (fun b87 => ?_) (fun b87 => ?_)
    · exfalso; omega
    · refine J_ri ?_
      refine J_if_eq_y (tgt := 107) dX2_digest_90 (by decide) (by decide) ?_
      refine J_ldc2 (-1) q2105 dX2_digest_107 ?_
      refine TC_X2_adds (by decide) (Nat.le_of_ble_eq_true rfl) dX2_digest_110 ?_
      refine t_adds ?_
      refine J_rv ?_
      refine J_iinc_z (1) (by omega) dX2_digest_113 rfl rfl (by decide) _ rfl ?_
      refine J_goto (tgt := 67) dX2_digest_116 (by decide) ?_
      have hS : tSh many wide high bl G (setL σ (31 * σ.2.2 + (-1))) := hS.L _
      have hP : tPl P rule (setL σ (31 * σ.2.2 + (-1))) := hP.L _
      refine J_iload_n dX2_digest_67 rfl ?_
      refine J_aload_n dX2_digest_68 rfl ?_
      refine J_iload_n dX2_digest_69 rfl ?_
      refine TC_X2_isSet (by decide) (Nat.le_of_ble_eq_true rfl) dX2_digest_70 ?_
      refine t_isSet hS hO hP hN (by omega) (fun b70 => ?_) (fun b70 => ?_)
      · exfalso; omega
      · refine J_ri ?_
        refine J_if_eq_y (tgt := 80) dX2_digest_73 (by decide) (by decide) ?_
        refine J_iconst (zI 1) dX2_digest_80 rfl ?_
        refine J_icmp_ge_y (tgt := 119) dX2_digest_81 (by decide) (by decide) ?_
        refine J_fg (L' := [some (.ref (α 0)), some (.int (zI (f : Nat))), none]) (by repeat' constructor) ?_
        exact hx _ (tEqL.refl.L _) (by show 31 * σ.2.2 + (-1) = _; rw [h3])
theorem tl_digest33 {E : jEnv} {α : Nat → Nat} {σ : tS} {Q : Option Value → tS → Prop} {many : Nat} {wide high bl : Int} {G : Nat → Nat → Int} {P : Nat → Nat → Int} {rule : Int} {h : Int64} (hS : tSh many wide high bl G σ) (hO : shOK many wide high bl G) (hP : tPl P rule σ) (hN : plOK many P rule) (hx : ∀ σ1, tEqL [27, 32, 33, 34, 35] [26, 28, 29, 30, 31] σ σ1 → σ1.2.2 = (dg2 h bl G P many) → jX2_digest E α 125 [some (.ref (α 0)), none, none] [] σ1 Q) : ∀ (n : Nat) (f : Nat) (σ1 : tS), f ≤ many → tEqL [27, 32, 33, 34, 35] [26, 28, 29, 30, 31] σ σ1 → σ1.2.2 = (dg2 h bl G P f) → many - f < n → jX2_digest E α 33 [some (.ref (α 0)), some (.int (zI (f : Nat))), none] [] σ1 Q := by
  intro n
  induction n with
  | zero => intro f σ1 h1 h2 h3 hn; exact absurd hn (Nat.not_lt_zero _)
  | succ n ih =>
    intro f σ1 h1 h2 h3 hn
    have := hO.s
    have hS0 := hS
    have hP0 := hP
    have hS : tSh many wide high bl G σ1 := by have h := hS.eq h2.eq (by decide) (by decide) (by decide) (by decide) (by decide); exact h
    have hP : tPl P rule σ1 := by have h := hP.eq h2.eq (by decide); exact h
    refine J_iload_n dX2_digest_33 rfl ?_
    refine J_aload_n dX2_digest_34 rfl ?_
    refine TG_frameMany dX2_digest_35 ?_
    refine J_top (zI (many)) hS.1 ?_
    refine J_icmp_ge_z (tgt := 125) dX2_digest_38 (by decide) (by unfold zR; omega) (by unfold zR; omega) (fun c38 => ?_) (fun c38 => ?_)
    · skip
      obtain rfl : f = many := by omega
      refine J_fg (L' := [some (.ref (α 0)), none, none]) (by repeat' constructor) ?_
      exact hx σ1 h2 h3
    · skip
      have := hN.1 f (by omega)
      refine J_iconst (zI 0) dX2_digest_41 rfl ?_
      refine J_istore_n dX2_digest_42 rfl (by decide) _ rfl ?_
      refine tl_digest43 (h := (dg2 h bl G P f)) hS0 hO (by omega) (fun σ2 e2 v2 => ?_) _ 0 σ1 (by omega) h2 h3 (Nat.lt_succ_self _)
      refine J_iconst (zI 0) dX2_digest_65 rfl ?_
      refine J_istore_n dX2_digest_66 rfl (by decide) _ rfl ?_
      rcases (show 0 ≤ P f 0 ∨ P f 0 = -1 by omega) with z | z
      · refine tl_digest67y hS0 hO hP0 hN (by omega) z (fun σ3 e3 v3 => ?_) _ 0 σ2 (by omega) e2 v2 (Nat.lt_succ_self _)
        refine J_iinc_z (((f + 1) : Nat) : Int) (by omega) dX2_digest_119 rfl rfl (by decide) _ rfl ?_
        refine J_goto (tgt := 33) dX2_digest_122 (by decide) ?_
        exact ih (f + 1) σ3 (by omega) e3 (by rw [dg2, if_pos z]; exact v3) (by omega)
      · have hS2 : tSh many wide high bl G σ2 := by have h := hS0.eq e2.eq (by decide) (by decide) (by decide) (by decide) (by decide); exact h
        have hP2 : tPl P rule σ2 := by have h := hP0.eq e2.eq (by decide); exact h
        refine tl_digest67n (σ0 := σ) hS2 hO hP2 hN (by omega) z v2 (fun σ3 e3 v3 => ?_)
        refine J_iinc_z (((f + 1) : Nat) : Int) (by omega) dX2_digest_119 rfl rfl (by decide) _ rfl ?_
        refine J_goto (tgt := 33) dX2_digest_122 (by decide) ?_
        exact ih (f + 1) σ3 (by omega) ⟨fun k hk => (e3.1 k hk).trans (e2.1 k hk), fun k hk => (e3.2 k hk).trans (e2.2 k hk)⟩ (by rw [dg2, if_neg (by omega)]; exact v3) (by omega)
theorem tl_digest127 {E : jEnv} {α : Nat → Nat} {σ : tS} {Q : Option Value → tS → Prop} {kc : Nat → Int} {KH : Nat → Nat → mPl} {KN : Nat → mPl} {h : Int64} (hK : tKp kc KH KN σ) (hkc : ∀ k, k < 3 → -1 ≤ kc k ∧ kc k ≤ 40) (hx : ∀ σ1, tEqL [27, 32, 33, 34, 35] [26, 28, 29, 30, 31] σ σ1 → σ1.2.2 = dgT h (fun k => zI (kc k)) 3 → jX2_digest E α 149 [some (.ref (α 0)), none, none] [] σ1 Q) : ∀ (n : Nat) (k : Nat) (σ1 : tS), k ≤ 3 → tEqL [27, 32, 33, 34, 35] [26, 28, 29, 30, 31] σ σ1 → σ1.2.2 = dgT h (fun k => zI (kc k)) k → 3 - k < n → jX2_digest E α 127 [some (.ref (α 0)), some (.int (zI (k : Nat))), none] [] σ1 Q := by
  intro n
  induction n with
  | zero => intro k σ1 h1 h2 h3 hn; exact absurd hn (Nat.not_lt_zero _)
  | succ n ih =>
    intro k σ1 h1 h2 h3 hn
    have hK : tKp kc KH KN σ1 := by have h := hK.eq h2.eq (by decide) (by decide); exact h
    refine J_iload_n dX2_digest_127 rfl ?_
    refine J_iconst (zI 3) dX2_digest_128 rfl ?_
    refine J_icmp_ge_z (tgt := 149) dX2_digest_129 (by decide) (by unfold zR; omega) (by unfold zR; omega) (fun c129 => ?_) (fun c129 => ?_)
    · skip
      obtain rfl : k = 3 := by omega
      refine J_fg (L' := [some (.ref (α 0)), none, none]) (by repeat' constructor) ?_
      exact hx σ1 h2 h3
    · skip
      refine J_aload_n dX2_digest_132 rfl ?_
      refine J_aload_n dX2_digest_133 rfl ?_
      refine TG_keptMany dX2_digest_134 ?_
      refine J_iload_n dX2_digest_137 rfl ?_
      refine TJ_iald 38 (k) ⟨rfl, rfl, by decide⟩ (by omega) (show k < 3 by omega) dX2_digest_138 ?_
      refine J_top (zI (kc k)) ((hK k (by omega)).1) ?_
      refine J_i2l dX2_digest_139 ?_
      refine TC_X2_adds (by decide) (Nat.le_of_ble_eq_true rfl) dX2_digest_140 ?_
      refine t_adds ?_
      refine J_rv ?_
      refine J_iinc_z ((((k + 1)) : Nat) : Int) (by omega) dX2_digest_143 rfl rfl (by decide) _ rfl ?_
      refine J_goto (tgt := 127) dX2_digest_146 (by decide) ?_
      exact ih (k + 1) _ (by omega) (h2.L _) (by show 31 * σ1.2.2 + _ = _; rw [h3]; rfl) (by omega)
theorem tl_digest170 {E : jEnv} {α : Nat → Nat} {σ : tS} {Q : Option Value → tS → Prop} {rs : Nat → Int} {rd : Nat → Nat → Int32} {ts : Nat → Int} {tb : Nat → Nat → Int} {r : Nat} {h : Int64} (hDt : tDt rs rd ts tb σ) (hDo : dtOK rs ts tb) (hr : r < 6) (hx : ∀ σ1, tEqL [27, 32, 33, 34, 35] [26, 28, 29, 30, 31] σ σ1 → σ1.2.2 = dgT h (rd r) (rs r).toNat → jX2_digest E α 197 [some (.ref (α 0)), some (.int (zI (r : Nat))), none] [] σ1 Q) : ∀ (n : Nat) (i : Nat) (σ1 : tS), i ≤ (rs r).toNat → tEqL [27, 32, 33, 34, 35] [26, 28, 29, 30, 31] σ σ1 → σ1.2.2 = dgT h (rd r) i → (rs r).toNat - i < n → jX2_digest E α 170 [some (.ref (α 0)), some (.int (zI (r : Nat))), some (.int (zI (i : Nat)))] [] σ1 Q := by
  intro n
  induction n with
  | zero => intro i σ1 h1 h2 h3 hn; exact absurd hn (Nat.not_lt_zero _)
  | succ n ih =>
    intro i σ1 h1 h2 h3 hn
    have hDt : tDt rs rd ts tb σ1 := by have h := hDt.eq h2.eq (by decide) (by decide) (by decide) (by decide); exact h
    have := hDo.1 r (by omega)
    refine J_iload_n dX2_digest_170 rfl ?_
    refine J_aload_n dX2_digest_171 rfl ?_
    refine TG_sizes dX2_digest_172 ?_
    refine J_iload_n dX2_digest_175 rfl ?_
    refine TJ_iald 3 (r) ⟨rfl, rfl, by decide⟩ (by omega) (show r < 6 by omega) dX2_digest_176 ?_
    refine J_top (zI (rs r)) (hDt.1 r (by omega)) ?_
    refine J_icmp_ge_z (tgt := 197) dX2_digest_177 (by decide) (by unfold zR; omega) (by unfold zR; omega) (fun c177 => ?_) (fun c177 => ?_)
    · skip
      refine J_fg (L' := [some (.ref (α 0)), some (.int (zI (r : Nat))), none]) (by repeat' constructor) ?_
      exact hx σ1 h2 (by rw [h3, show i = (rs r).toNat by omega])
    · skip
      refine J_aload_n dX2_digest_180 rfl ?_
      refine J_aload_n dX2_digest_181 rfl ?_
      refine J_iload_n dX2_digest_182 rfl ?_
      refine J_iload_n dX2_digest_183 rfl ?_
      refine TC_X2_rowAt (by decide) (Nat.le_of_ble_eq_true rfl) dX2_digest_184 ?_
      refine t_rowAt (by omega) (by omega) ?_
      refine J_ri ?_
      refine J_top (rd r i) (hDt.2.1 r i (by omega) (by omega)) ?_
      refine J_i2l dX2_digest_187 ?_
      refine TC_X2_adds (by decide) (Nat.le_of_ble_eq_true rfl) dX2_digest_188 ?_
      refine t_adds ?_
      refine J_rv ?_
      refine J_iinc_z ((((i + 1)) : Nat) : Int) (by omega) dX2_digest_191 rfl rfl (by decide) _ rfl ?_
      refine J_goto (tgt := 170) dX2_digest_194 (by decide) ?_
      exact ih (i + 1) _ (by omega) (h2.L _) (by show 31 * σ1.2.2 + _ = _; rw [h3]; rfl) (by omega)
theorem tl_digest151 {E : jEnv} {α : Nat → Nat} {σ : tS} {Q : Option Value → tS → Prop} {rs : Nat → Int} {rd : Nat → Nat → Int32} {ts : Nat → Int} {tb : Nat → Nat → Int} {h : Int64} (hDt : tDt rs rd ts tb σ) (hDo : dtOK rs ts tb) (hx : ∀ σ1, tEqL [27, 32, 33, 34, 35] [26, 28, 29, 30, 31] σ σ1 → σ1.2.2 = (dg4 h rs rd 6) → jX2_digest E α 203 [some (.ref (α 0)), none, none] [] σ1 Q) : ∀ (n : Nat) (r : Nat) (σ1 : tS), r ≤ 6 → tEqL [27, 32, 33, 34, 35] [26, 28, 29, 30, 31] σ σ1 → σ1.2.2 = (dg4 h rs rd r) → 6 - r < n → jX2_digest E α 151 [some (.ref (α 0)), some (.int (zI (r : Nat))), none] [] σ1 Q := by
  intro n
  induction n with
  | zero => intro r σ1 h1 h2 h3 hn; exact absurd hn (Nat.not_lt_zero _)
  | succ n ih =>
    intro r σ1 h1 h2 h3 hn
    have hDt0 := hDt
    have hDt : tDt rs rd ts tb σ1 := by have h := hDt.eq h2.eq (by decide) (by decide) (by decide) (by decide); exact h
    refine J_iload_n dX2_digest_151 rfl ?_
    refine J_bipush (zI 6) dX2_digest_152 rfl ?_
    refine J_icmp_ge_z (tgt := 203) dX2_digest_154 (by decide) (by unfold zR; omega) (by unfold zR; omega) (fun c154 => ?_) (fun c154 => ?_)
    · skip
      obtain rfl : r = 6 := by omega
      refine J_fg (L' := [some (.ref (α 0)), none, none]) (by repeat' constructor) ?_
      exact hx σ1 h2 h3
    · skip
      have := hDo.1 r (by omega)
      refine J_aload_n dX2_digest_157 rfl ?_
      refine J_aload_n dX2_digest_158 rfl ?_
      refine TG_sizes dX2_digest_159 ?_
      refine J_iload_n dX2_digest_162 rfl ?_
      refine TJ_iald 3 (r) ⟨rfl, rfl, by decide⟩ (by omega) (show r < 6 by omega) dX2_digest_163 ?_
      refine J_top (zI (rs r)) (hDt.1 r (by omega)) ?_
      refine J_i2l dX2_digest_164 ?_
      refine TC_X2_adds (by decide) (Nat.le_of_ble_eq_true rfl) dX2_digest_165 ?_
      refine t_adds ?_
      refine J_rv ?_
      refine J_iconst (zI 0) dX2_digest_168 rfl ?_
      refine J_istore_n dX2_digest_169 rfl (by decide) _ rfl ?_
      refine tl_digest170 (h := 31 * (dg4 h rs rd r) + (zI (rs r)).toInt64) hDt0 hDo (by omega) (fun σ2 e2 v2 => ?_) _ 0 _ (by omega) (h2.L _) (by show 31 * σ1.2.2 + _ = _; rw [h3]; rfl) (Nat.lt_succ_self _)
      refine J_iinc_z ((((r + 1)) : Nat) : Int) (by omega) dX2_digest_197 rfl rfl (by decide) _ rfl ?_
      refine J_goto (tgt := 151) dX2_digest_200 (by decide) ?_
      exact ih (r + 1) σ2 (by omega) e2 v2 (by omega)
theorem tl_digest223 {E : jEnv} {α : Nat → Nat} {σ : tS} {Q : Option Value → tS → Prop} {rs : Nat → Int} {rd : Nat → Nat → Int32} {ts : Nat → Int} {tb : Nat → Nat → Int} {r : Nat} {h : Int64} (hDt : tDt rs rd ts tb σ) (hDo : dtOK rs ts tb) (hr : r < 4) (hx : ∀ σ1, tEqL [27, 32, 33, 34, 35] [26, 28, 29, 30, 31] σ σ1 → σ1.2.2 = dgT h (fun i => zI (tb r i)) (ts r).toNat → jX2_digest E α 255 [some (.ref (α 0)), some (.int (zI (r : Nat))), none] [] σ1 Q) : ∀ (n : Nat) (i : Nat) (σ1 : tS), i ≤ (ts r).toNat → tEqL [27, 32, 33, 34, 35] [26, 28, 29, 30, 31] σ σ1 → σ1.2.2 = dgT h (fun i => zI (tb r i)) i → (ts r).toNat - i < n → jX2_digest E α 223 [some (.ref (α 0)), some (.int (zI (r : Nat))), some (.int (zI (i : Nat)))] [] σ1 Q := by
  intro n
  induction n with
  | zero => intro i σ1 h1 h2 h3 hn; exact absurd hn (Nat.not_lt_zero _)
  | succ n ih =>
    intro i σ1 h1 h2 h3 hn
    have hDt : tDt rs rd ts tb σ1 := by have h := hDt.eq h2.eq (by decide) (by decide) (by decide) (by decide); exact h
    have := hDo.2.1 r (by omega)
    refine J_iload_n dX2_digest_223 rfl ?_
    refine J_aload_n dX2_digest_224 rfl ?_
    refine TG_textSizes dX2_digest_225 ?_
    refine J_iload_n dX2_digest_228 rfl ?_
    refine TJ_iald 6 (r) ⟨rfl, rfl, by decide⟩ (by omega) (show r < 4 by omega) dX2_digest_229 ?_
    refine J_top (zI (ts r)) (hDt.2.2.1 r (by omega)) ?_
    refine J_icmp_ge_z (tgt := 255) dX2_digest_230 (by decide) (by unfold zR; omega) (by unfold zR; omega) (fun c230 => ?_) (fun c230 => ?_)
    · skip
      refine J_fg (L' := [some (.ref (α 0)), some (.int (zI (r : Nat))), none]) (by repeat' constructor) ?_
      exact hx σ1 h2 (by rw [h3, show i = (ts r).toNat by omega])
    · skip
      refine J_aload_n dX2_digest_233 rfl ?_
      refine J_aload_n dX2_digest_234 rfl ?_
      refine TG_bytes dX2_digest_235 ?_
      refine J_bipush (zI 120) dX2_digest_238 rfl ?_
      refine J_iload_n dX2_digest_240 rfl ?_
      refine J_imul_z dX2_digest_241 ?_
      refine J_iload_n dX2_digest_242 rfl ?_
      refine J_iadd_z dX2_digest_243 ?_
      refine TJ_bald 7 (((120 * r) + i)) ⟨rfl, rfl, by decide⟩ (by omega) (show ((120 * r) + i) < 480 by omega) dX2_digest_244 ?_
      refine J_top (zI (tb r i)) (hDt.2.2.2 r i (by omega) (by omega)) ?_
      refine J_i2l dX2_digest_245 ?_
      refine TC_X2_adds (by decide) (Nat.le_of_ble_eq_true rfl) dX2_digest_246 ?_
      refine t_adds ?_
      refine J_rv ?_
      refine J_iinc_z ((((i + 1)) : Nat) : Int) (by omega) dX2_digest_249 rfl rfl (by decide) _ rfl ?_
      refine J_goto (tgt := 223) dX2_digest_252 (by decide) ?_
      exact ih (i + 1) _ (by omega) (h2.L _) (by show 31 * σ1.2.2 + _ = _; rw [h3]; rfl) (by omega)
theorem tl_digest205 {E : jEnv} {α : Nat → Nat} {σ : tS} {Q : Option Value → tS → Prop} {rs : Nat → Int} {rd : Nat → Nat → Int32} {ts : Nat → Int} {tb : Nat → Nat → Int} {h : Int64} (hDt : tDt rs rd ts tb σ) (hDo : dtOK rs ts tb) (hx : ∀ σ1, tEqL [27, 32, 33, 34, 35] [26, 28, 29, 30, 31] σ σ1 → Q (some (.long (dg4 h ts (fun t i => zI (tb t i)) 4))) σ1) : ∀ (n : Nat) (r : Nat) (σ1 : tS), r ≤ 4 → tEqL [27, 32, 33, 34, 35] [26, 28, 29, 30, 31] σ σ1 → σ1.2.2 = (dg4 h ts (fun t i => zI (tb t i)) r) → 4 - r < n → jX2_digest E α 205 [some (.ref (α 0)), some (.int (zI (r : Nat))), none] [] σ1 Q := by
  intro n
  induction n with
  | zero => intro r σ1 h1 h2 h3 hn; exact absurd hn (Nat.not_lt_zero _)
  | succ n ih =>
    intro r σ1 h1 h2 h3 hn
    have hDt0 := hDt
    have hDt : tDt rs rd ts tb σ1 := by have h := hDt.eq h2.eq (by decide) (by decide) (by decide) (by decide); exact h
    refine J_iload_n dX2_digest_205 rfl ?_
    refine J_iconst (zI 4) dX2_digest_206 rfl ?_
    refine J_icmp_ge_z (tgt := 261) dX2_digest_207 (by decide) (by unfold zR; omega) (by unfold zR; omega) (fun c207 => ?_) (fun c207 => ?_)
    · skip
      obtain rfl : r = 4 := by omega
      refine J_aload_n dX2_digest_261 rfl ?_
      refine TG_h dX2_digest_262 ?_
      exact J_lret rfl dX2_digest_265 (by rw [h3]; exact hx σ1 h2)
    · skip
      have := hDo.2.1 r (by omega)
      refine J_aload_n dX2_digest_210 rfl ?_
      refine J_aload_n dX2_digest_211 rfl ?_
      refine TG_textSizes dX2_digest_212 ?_
      refine J_iload_n dX2_digest_215 rfl ?_
      refine TJ_iald 6 (r) ⟨rfl, rfl, by decide⟩ (by omega) (show r < 4 by omega) dX2_digest_216 ?_
      refine J_top (zI (ts r)) (hDt.2.2.1 r (by omega)) ?_
      refine J_i2l dX2_digest_217 ?_
      refine TC_X2_adds (by decide) (Nat.le_of_ble_eq_true rfl) dX2_digest_218 ?_
      refine t_adds ?_
      refine J_rv ?_
      refine J_iconst (zI 0) dX2_digest_221 rfl ?_
      refine J_istore_n dX2_digest_222 rfl (by decide) _ rfl ?_
      refine tl_digest223 (h := 31 * (dg4 h ts (fun t i => zI (tb t i)) r) + (zI (ts r)).toInt64) hDt0 hDo (by omega) (fun σ2 e2 v2 => ?_) _ 0 _ (by omega) (h2.L _) (by show 31 * σ1.2.2 + _ = _; rw [h3]; rfl) (Nat.lt_succ_self _)
      refine J_iinc_z ((((r + 1)) : Nat) : Int) (by omega) dX2_digest_255 rfl rfl (by decide) _ rfl ?_
      refine J_goto (tgt := 205) dX2_digest_258 (by decide) ?_
      exact ih (r + 1) σ2 (by omega) e2 v2 (by omega)
theorem t_digest {E : jEnv} {α : Nat → Nat} {σ : tS} {Q : Option Value → tS → Prop} {many : Nat} {wide high bl : Int} {G : Nat → Nat → Int} {P : Nat → Nat → Int} {rule : Int} {dm : Nat} {H : Nat → mPl} {kc : Nat → Int} {KH : Nat → Nat → mPl} {KN : Nat → mPl} {rs : Nat → Int} {rd : Nat → Nat → Int32} {ts : Nat → Int} {tb : Nat → Nat → Int}  (hS : tSh many wide high bl G σ) (hO : shOK many wide high bl G) (hP : tPl P rule σ) (hN : plOK many P rule) (hV : plV many wide high bl G P) (hL : tLg dm H σ) (hd : dm ≤ 40) (hK : tKp kc KH KN σ) (hkc : ∀ k, k < 3 → -1 ≤ kc k ∧ kc k ≤ 40) (hDt : tDt rs rd ts tb σ) (hDo : dtOK rs ts tb) (hq : ∀ σ1, tEqL [27, 32, 33, 34, 35] [26, 28, 29, 30, 31] σ σ1 → Q (some (.long (dgA (mCnt many wide high bl G P rule dm rs ts kc) many bl G P kc rs rd ts tb))) σ1) : jX2_digest E α 0 [some (.ref (α 0)), none, none] [] σ Q := by
  refine J_aload_n dX2_digest_0 rfl ?_
  refine J_ldc2 (17) q2099 dX2_digest_1 ?_
  refine TP_h dX2_digest_4 ?_
  refine J_iconst (zI 0) dX2_digest_7 rfl ?_
  refine J_istore_n dX2_digest_8 rfl (by decide) _ rfl ?_
  refine tl_digest9 hS hO hP hN hV hL hd hK hkc hDt hDo (fun σ1 e1 v1 => ?_) _ 0 _ (by omega) (tEqL.refl.L _) rfl (Nat.lt_succ_self _)
  refine J_iconst (zI 0) dX2_digest_31 rfl ?_
  refine J_istore_n dX2_digest_32 rfl (by decide) _ rfl ?_
  refine tl_digest33 hS hO hP hN (fun σ2 e2 v2 => ?_) _ 0 _ (by omega) e1 v1 (Nat.lt_succ_self _)
  refine J_iconst (zI 0) dX2_digest_125 rfl ?_
  refine J_istore_n dX2_digest_126 rfl (by decide) _ rfl ?_
  refine tl_digest127 hK hkc (fun σ3 e3 v3 => ?_) _ 0 _ (by omega) e2 v2 (Nat.lt_succ_self _)
  refine J_iconst (zI 0) dX2_digest_149 rfl ?_
  refine J_istore_n dX2_digest_150 rfl (by decide) _ rfl ?_
  refine tl_digest151 hDt hDo (fun σ4 e4 v4 => ?_) _ 0 _ (by omega) e3 v3 (Nat.lt_succ_self _)
  refine J_iconst (zI 0) dX2_digest_203 rfl ?_
  refine J_istore_n dX2_digest_204 rfl (by decide) _ rfl ?_
  exact tl_digest205 hDt hDo hq _ 0 _ (by omega) e4 v4 (Nat.lt_succ_self _)
