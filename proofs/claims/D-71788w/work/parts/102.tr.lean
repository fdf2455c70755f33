set_option maxRecDepth 100000
/-! the twin: sheet -/
theorem tl_sheet82 {E : jEnv} {α : Nat → Nat} {σ : tS} {Q : Option Value → tS → Prop} {t : Nat} (hx : ∀ σ1, tEq [] [12] σ σ1 → σ1.2.1 12 = va_cpy (σ.2.1 22) (σ.2.1 12) 0 0 56 → jX2_sheet E α 106 [some (.ref (α 0)), some (.int (zI (t : Nat))), none] [] σ1 Q) : ∀ (n : Nat) (i : Nat) (σ1 : tS), i ≤ 56 → tEq [] [12] σ σ1 → σ1.2.1 12 = va_cpy (σ.2.1 22) (σ.2.1 12) (0) (0) i → 56 - i < n → jX2_sheet E α 82 [some (.ref (α 0)), some (.int (zI (t : Nat))), some (.int (zI (i : Nat)))] [] σ1 Q := by
  intro n
  induction n with
  | zero => intro i σ1 h1 h2 h3 hn; exact absurd hn (Nat.not_lt_zero _)
  | succ n ih =>
    intro i σ1 h1 h2 h3 hn
    refine J_iload_n dX2_sheet_82 rfl ?_
    refine J_bipush (zI 56) dX2_sheet_83 rfl ?_
    refine J_icmp_ge_z (tgt := 106) dX2_sheet_85 (by decide) (by unfold zR; omega) (by unfold zR; omega) (fun c85 => ?_) (fun c85 => ?_)
    · skip
      obtain rfl : i = 56 := by omega
      refine J_fg (L' := [some (.ref (α 0)), some (.int (zI (t : Nat))), none]) (by repeat' constructor) ?_
      exact hx _ h2 h3
    · skip
      refine J_aload_n dX2_sheet_88 rfl ?_
      refine TG_given dX2_sheet_89 ?_
      refine J_iload_n dX2_sheet_92 rfl ?_
      refine J_aload_n dX2_sheet_93 rfl ?_
      refine TG_read dX2_sheet_94 ?_
      refine J_iload_n dX2_sheet_97 rfl ?_
      refine TJ_iald 22 (i) ⟨rfl, rfl, by decide⟩ (by omega) (show i < 56 by omega) dX2_sheet_98 ?_
      refine TJ_iast 12 (i) ⟨rfl, rfl, by decide⟩ (by omega) (show i < 56 by omega) dX2_sheet_99 ?_
      refine J_iinc_z ((((i + 1)) : Nat) : Int) (by omega) dX2_sheet_100 rfl rfl (by decide) _ rfl ?_
      refine J_goto (tgt := 82) dX2_sheet_103 (by decide) ?_
      exact ih (i + 1) _ (by omega) (h2.sA (by decide)) (by exact cpy_stepE h3 (h2.2.1 22 (by decide)) (by omega) (by omega)) (by omega)
theorem tl_sheet108 {E : jEnv} {α : Nat → Nat} {σ : tS} {Q : Option Value → tS → Prop} {t : Nat} (hx : ∀ σ1, tEq [] [23] σ σ1 → σ1.2.1 23 = va_cpy (fun _ => zI 0) (σ.2.1 23) 0 0 33 → jX2_sheet E α 127 [some (.ref (α 0)), some (.int (zI (t : Nat))), none] [] σ1 Q) : ∀ (n : Nat) (i : Nat) (σ1 : tS), i ≤ 33 → tEq [] [23] σ σ1 → σ1.2.1 23 = va_cpy (fun _ => zI 0) (σ.2.1 23) 0 0 i → 33 - i < n → jX2_sheet E α 108 [some (.ref (α 0)), some (.int (zI (t : Nat))), some (.int (zI (i : Nat)))] [] σ1 Q := by
  intro n
  induction n with
  | zero => intro i σ1 h1 h2 h3 hn; exact absurd hn (Nat.not_lt_zero _)
  | succ n ih =>
    intro i σ1 h1 h2 h3 hn
    refine J_iload_n dX2_sheet_108 rfl ?_
    refine J_bipush (zI 33) dX2_sheet_109 rfl ?_
    refine J_icmp_ge_z (tgt := 127) dX2_sheet_111 (by decide) (by unfold zR; omega) (by unfold zR; omega) (fun c111 => ?_) (fun c111 => ?_)
    · skip
      obtain rfl : i = 33 := by omega
      refine J_fg (L' := [some (.ref (α 0)), some (.int (zI (t : Nat))), none]) (by repeat' constructor) ?_
      exact hx σ1 h2 h3
    · skip
      refine J_aload_n dX2_sheet_114 rfl ?_
      refine TG_now dX2_sheet_115 ?_
      refine J_iload_n dX2_sheet_118 rfl ?_
      refine J_iconst (zI 0) dX2_sheet_119 rfl ?_
      refine TJ_iast 23 (i) ⟨rfl, rfl, by decide⟩ (by omega) (show i < 33 by omega) dX2_sheet_120 ?_
      refine J_iinc_z ((((i + 1)) : Nat) : Int) (by omega) dX2_sheet_121 rfl rfl (by decide) _ rfl ?_
      refine J_goto (tgt := 108) dX2_sheet_124 (by decide) ?_
      exact ih (i + 1) _ (by omega) (h2.sA (by decide)) (by exact cpy_stepE (s' := fun _ => zI 0) (q := 0 + i) h3 rfl (by omega) rfl) (by omega)
theorem tl_sheet138 {E : jEnv} {α : Nat → Nat} {σ : tS} {Q : Option Value → tS → Prop} {t : Nat} (hx : ∀ σ1, tEq [] [38] σ σ1 → σ1.2.1 38 = va_cpy (fun _ => zI (-1)) (σ.2.1 38) 0 0 3 → jX2_sheet E α 156 [some (.ref (α 0)), some (.int (zI (t : Nat))), none] [] σ1 Q) : ∀ (n : Nat) (i : Nat) (σ1 : tS), i ≤ 3 → tEq [] [38] σ σ1 → σ1.2.1 38 = va_cpy (fun _ => zI (-1)) (σ.2.1 38) 0 0 i → 3 - i < n → jX2_sheet E α 138 [some (.ref (α 0)), some (.int (zI (t : Nat))), some (.int (zI (i : Nat)))] [] σ1 Q := by
  intro n
  induction n with
  | zero => intro i σ1 h1 h2 h3 hn; exact absurd hn (Nat.not_lt_zero _)
  | succ n ih =>
    intro i σ1 h1 h2 h3 hn
    refine J_iload_n dX2_sheet_138 rfl ?_
    refine J_iconst (zI 3) dX2_sheet_139 rfl ?_
    refine J_icmp_ge_z (tgt := 156) dX2_sheet_140 (by decide) (by unfold zR; omega) (by unfold zR; omega) (fun c140 => ?_) (fun c140 => ?_)
    · skip
      obtain rfl : i = 3 := by omega
      refine J_fg (L' := [some (.ref (α 0)), some (.int (zI (t : Nat))), none]) (by repeat' constructor) ?_
      exact hx σ1 h2 h3
    · skip
      refine J_aload_n dX2_sheet_143 rfl ?_
      refine TG_keptMany dX2_sheet_144 ?_
      refine J_iload_n dX2_sheet_147 rfl ?_
      refine J_iconst (zI (-1)) dX2_sheet_148 rfl ?_
      refine TJ_iast 38 (i) ⟨rfl, rfl, by decide⟩ (by omega) (show i < 3 by omega) dX2_sheet_149 ?_
      refine J_iinc_z ((((i + 1)) : Nat) : Int) (by omega) dX2_sheet_150 rfl rfl (by decide) _ rfl ?_
      refine J_goto (tgt := 138) dX2_sheet_153 (by decide) ?_
      exact ih (i + 1) _ (by omega) (h2.sA (by decide)) (by exact cpy_stepE (s' := fun _ => zI (-1)) (q := 0 + i) h3 rfl (by omega) rfl) (by omega)
theorem t_sheet_bad {E : jEnv} {α : Nat → Nat} {σ : tS} {Q : Option Value → tS → Prop} {v : Int} (rv : zR v) (hv : ¬ (0 ≤ v ∧ v ≤ 3)) (hq : Q (some (.int (zI (-1)))) σ) : jX2_sheet E α 0 [some (.ref (α 0)), some (.int (zI (v))), none] [] σ Q := by
  refine J_iload_n dX2_sheet_0 rfl ?_
  refine TC_X2_isText (by decide) (Nat.le_of_ble_eq_true rfl) dX2_sheet_1 ?_
  refine t_isText (by unfold zR at *; omega) (fun b1 => ?_) (fun b1 => ?_)
  · exfalso; omega
  · refine J_ri ?_
    refine J_if_ne_n (tgt := 9) dX2_sheet_4 (by decide) (by decide) ?_
    refine J_iconst (zI (-1)) dX2_sheet_7 rfl ?_
    exact J_iret rfl dX2_sheet_8 (by exact hq)
theorem t_sheet_no {E : jEnv} {α : Nat → Nat} {σ : tS} {Q : Option Value → tS → Prop} {rs : Nat → Int} {rd : Nat → Nat → Int32} {ts : Nat → Int} {tb : Nat → Nat → Int} {t : Nat}  (hDt : tDt rs rd ts tb σ) (hDo : dtOK rs ts tb) (ht : t < 4) (h0 : ts t = -1) (hq : Q (some (.int (zI (-3)))) (setA (setI σ 1 (zI 1)) 2 (upd (σ.2.1 2) 1 (σ.2.1 2 1 + zI 1)))) : jX2_sheet E α 0 [some (.ref (α 0)), some (.int (zI (t : Nat))), none] [] σ Q := by
  refine J_iload_n dX2_sheet_0 rfl ?_
  refine TC_X2_isText (by decide) (Nat.le_of_ble_eq_true rfl) dX2_sheet_1 ?_
  refine t_isText (by unfold zR at *; omega) (fun b1 => ?_) (fun b1 => ?_)
  · refine J_ri ?_
    refine J_if_ne_y (tgt := 9) dX2_sheet_4 (by decide) (by decide) ?_
    refine J_aload_n dX2_sheet_9 rfl ?_
    refine TG_textSizes dX2_sheet_10 ?_
    refine J_iload_n dX2_sheet_13 rfl ?_
    refine TJ_iald 6 (t) ⟨rfl, rfl, by decide⟩ (by omega) (show t < 4 by omega) dX2_sheet_14 ?_
    refine J_top (zI (ts t)) (hDt.2.2.1 t (by omega)) ?_
    refine J_if_ge_z (tgt := 24) dX2_sheet_15 (by decide) (by unfold zR; omega) (fun c15 => ?_) (fun c15 => ?_)
    · exfalso; omega
    · skip
      refine J_aload_n dX2_sheet_18 rfl ?_
      refine J_iconst (zI 1) dX2_sheet_19 rfl ?_
      refine TC_X2_found (by decide) (Nat.le_of_ble_eq_true rfl) dX2_sheet_20 ?_
      refine t_found (m := _) (by decide) ?_
      refine J_ri ?_
      exact J_iret rfl dX2_sheet_23 (by exact hq)
  · exfalso; omega
theorem sheet_ok {n : Nat} {s : pS} (h : pOK n s) (hz : s.2.2.2.2.1 ≠ 0) : shOK s.2.2.2.2.1 s.2.1 s.2.2.1 (if s.2.2.2.1 < 0 then 0 else s.2.2.2.1) s.2.2.2.2.2 := by
  obtain ⟨p1, p2, p3, p4, p5, p6⟩ := h
  refine ⟨p2, by omega, by omega, by omega, by omega, fun _ => by omega, ?_, ?_, p6⟩
  · split <;> omega
  · split <;> omega
theorem t_sheet {E : jEnv} {α : Nat → Nat} {σ : tS} {Q : Option Value → tS → Prop} {rs : Nat → Int} {rd : Nat → Nat → Int32} {ts : Nat → Int} {tb : Nat → Nat → Int} {t n0 : Nat}  (hDt : tDt rs rd ts tb σ) (hDo : dtOK rs ts tb) (ht : t < 4) (h0 : ts t = n0) (q0 : ∀ p, mRead (tb t) n0 = .error p → ∀ σ1, tEq [13, 14, 15, 16, 17, 18, 19, 20, 21] [22] σ σ1 → Q (some (.int (zI (-4)))) σ1) (q1 : ∀ s, mRead (tb t) n0 = .ok s → s.2.2.2.2.1 ≠ 0 → pOK n0 s → ∀ σ1, tEq [8, 9, 10, 11, 13, 14, 15, 16, 17, 18, 19, 20, 21, 36] [12, 22, 23, 38] σ σ1 → tSh s.2.2.2.2.1 s.2.1 s.2.2.1 (if s.2.2.2.1 < 0 then 0 else s.2.2.2.1) s.2.2.2.2.2 σ1 → tPl P0 0 σ1 → σ1.1 36 = zI 0 → (∀ k, k < 3 → σ1.2.1 38 k = zI (-1)) → Q (some (.int (zI (s.2.2.2.2.1 : Nat)))) σ1) : jX2_sheet E α 0 [some (.ref (α 0)), some (.int (zI (t : Nat))), none] [] σ Q := by
  have hnn := hDo.2.1 t ht
  refine J_iload_n dX2_sheet_0 rfl ?_
  refine TC_X2_isText (by decide) (Nat.le_of_ble_eq_true rfl) dX2_sheet_1 ?_
  refine t_isText (by unfold zR at *; omega) (fun b1 => ?_) (fun b1 => ?_)
  · refine J_ri ?_
    refine J_if_ne_y (tgt := 9) dX2_sheet_4 (by decide) (by decide) ?_
    refine J_aload_n dX2_sheet_9 rfl ?_
    refine TG_textSizes dX2_sheet_10 ?_
    refine J_iload_n dX2_sheet_13 rfl ?_
    refine TJ_iald 6 (t) ⟨rfl, rfl, by decide⟩ (by omega) (show t < 4 by omega) dX2_sheet_14 ?_
    refine J_top (zI (n0)) ((by rw [← h0]; exact hDt.2.2.1 t ht)) ?_
    refine J_if_ge_z (tgt := 24) dX2_sheet_15 (by decide) (by unfold zR; omega) (fun c15 => ?_) (fun c15 => ?_)
    · skip
      refine J_aload_n dX2_sheet_24 rfl ?_
      refine J_iload_n dX2_sheet_25 rfl ?_
      refine TC_X2_faultOf (by decide) (Nat.le_of_ble_eq_true rfl) dX2_sheet_26 ?_
      refine t_faultOf (hDt.tx ht h0) ht (by omega) (hDo.2.2 t)  (fun p hm σ1 e1 => ?_) (fun s hm hz σ1 e1 P1 o1 => ?_)
      · refine J_ri ?_
        have hpn := mRead_b hm
        refine J_bipush (zI (-9)) dX2_sheet_29 rfl ?_
        refine J_icmp_eq_z (tgt := 37) dX2_sheet_31 (by decide) (by unfold zR; omega) (by unfold zR; omega) (fun c31 => ?_) (fun c31 => ?_)
        · exfalso; omega
        · skip
          refine J_bipush (zI (-4)) dX2_sheet_34 rfl ?_
          exact J_iret rfl dX2_sheet_36 (by exact q0 p hm σ1 e1)
      · refine J_ri ?_
        have hbl := o1.2.2.2
        refine J_bipush (zI (-9)) dX2_sheet_29 rfl ?_
        refine J_icmp_eq_y (tgt := 37) dX2_sheet_31 (by decide) (by decide) ?_
        refine J_aload_n dX2_sheet_37 rfl ?_
        refine J_aload_n dX2_sheet_38 rfl ?_
        refine TG_readWide dX2_sheet_39 ?_
        refine J_top (zI (s.2.1)) P1.2.1 ?_
        refine TP_wide dX2_sheet_42 ?_
        refine J_aload_n dX2_sheet_45 rfl ?_
        refine J_aload_n dX2_sheet_46 rfl ?_
        refine TG_readHigh dX2_sheet_47 ?_
        refine J_top (zI (s.2.2.1)) P1.2.2.1 ?_
        refine TP_high dX2_sheet_50 ?_
        refine J_aload_n dX2_sheet_53 rfl ?_
        refine J_aload_n dX2_sheet_54 rfl ?_
        refine TG_readBleed dX2_sheet_55 ?_
        refine J_top (zI (s.2.2.2.1)) P1.2.2.2.1 ?_
        refine J_if_ge_z (tgt := 65) dX2_sheet_58 (by decide) (by unfold zR; omega) (fun c58 => ?_) (fun c58 => ?_)
        · skip
          refine J_aload_n dX2_sheet_65 rfl ?_
          refine TG_readBleed dX2_sheet_66 ?_
          refine J_top (zI (s.2.2.2.1)) P1.2.2.2.1 ?_
          refine J_top (zI (if s.2.2.2.1 < 0 then 0 else s.2.2.2.1)) (congrArg zI (by split <;> omega)) ?_
          refine TP_bleed dX2_sheet_69 ?_
          refine J_aload_n dX2_sheet_72 rfl ?_
          refine J_aload_n dX2_sheet_73 rfl ?_
          refine TG_readMany dX2_sheet_74 ?_
          refine J_top (zI (s.2.2.2.2.1)) P1.2.2.2.2.1 ?_
          refine TP_frameMany dX2_sheet_77 ?_
          refine J_iconst (zI 0) dX2_sheet_80 rfl ?_
          refine J_istore_n dX2_sheet_81 rfl (by decide) _ rfl ?_
          refine tl_sheet82 (fun σ2 e2 c2 => ?_) _ 0 _ (by omega) tEq.refl cpy_0 (Nat.lt_succ_self _)
          refine J_iconst (zI 0) dX2_sheet_106 rfl ?_
          refine J_istore_n dX2_sheet_107 rfl (by decide) _ rfl ?_
          refine tl_sheet108 (fun σ3 e3 c3 => ?_) _ 0 _ (by omega) tEq.refl cpy_0 (Nat.lt_succ_self _)
          refine J_aload_n dX2_sheet_127 rfl ?_
          refine TC_X2_liftsAll (by decide) (Nat.le_of_ble_eq_true rfl) dX2_sheet_128 ?_
          refine t_liftsAll (P := fun _ _ => 0) (rule := 0) ⟨fun f k hf hk => (by show σ3.2.1 23 _ = _; rw [c3, pk_cpy_in (by omega) (by omega)]), (by show σ3.2.1 23 _ = _; rw [c3, pk_cpy_in (by omega) (by omega)])⟩ (fun σ4 e4 P4 => ?_)
          refine J_rv ?_
          refine J_aload_n dX2_sheet_131 rfl ?_
          refine J_iconst (zI 0) dX2_sheet_132 rfl ?_
          refine TP_deedMany dX2_sheet_133 ?_
          refine J_iconst (zI 0) dX2_sheet_136 rfl ?_
          refine J_istore_n dX2_sheet_137 rfl (by decide) _ rfl ?_
          refine tl_sheet138 (fun σ5 e5 c5 => ?_) _ 0 _ (by omega) tEq.refl cpy_0 (Nat.lt_succ_self _)
          have EE : tEq [8, 9, 10, 11, 13, 14, 15, 16, 17, 18, 19, 20, 21, 36] [12, 22, 23, 38] σ σ5 := (((((((((e1.mono (by decide) (by decide)).sI (by decide)).sI (by decide)).sI (by decide)).sI (by decide)).trans (e2.mono (by decide) (by decide))).trans (e3.mono (by decide) (by decide))).trans (e4.mono (by decide) (by decide))).sI (by decide)).trans (e5.mono (by decide) (by decide))
          have S5 : tSh s.2.2.2.2.1 s.2.1 s.2.2.1 (if s.2.2.2.1 < 0 then 0 else s.2.2.2.1) s.2.2.2.2.2 σ5 := ⟨(e5.1 11 (by decide)).trans ((e4.1 11 (by decide)).trans ((e3.1 11 (by decide)).trans (e2.1 11 (by decide)))), (e5.1 8 (by decide)).trans ((e4.1 8 (by decide)).trans ((e3.1 8 (by decide)).trans (e2.1 8 (by decide)))), (e5.1 9 (by decide)).trans ((e4.1 9 (by decide)).trans ((e3.1 9 (by decide)).trans (e2.1 9 (by decide)))), (e5.1 10 (by decide)).trans ((e4.1 10 (by decide)).trans ((e3.1 10 (by decide)).trans (e2.1 10 (by decide)))), fun f k hf hk => (by have h8 := o1.2.1; rw [e5.2.1 12 (by decide)]; show σ4.2.1 12 _ = _; rw [e4.2.1 12 (by decide), e3.2.1 12 (by decide), c2, pk_cpy_in (by omega) (by omega), Nat.zero_add, Nat.sub_zero]; exact P1.2.2.2.2.2 f k hf hk)⟩
          refine J_aload_n dX2_sheet_156 rfl ?_
          refine TG_frameMany dX2_sheet_157 ?_
          refine J_top (zI (s.2.2.2.2.1 : Nat)) S5.1 ?_
          exact J_iret rfl dX2_sheet_160 (by exact q1 s hm hz o1 σ5 EE S5 (P4.eq ((tEq.refl.sI (I := [36]) (A := [38]) (k := 36) (v := zI 0) (by decide)).trans (e5.mono (by decide) (by decide))) (by decide)) (e5.1 36 (by decide)) (fun k hk => by rw [c5, pk_cpy_in (by omega) (by omega)]))
        · skip
          refine J_iconst (zI 0) dX2_sheet_61 rfl ?_
          refine J_goto (tgt := 69) dX2_sheet_62 (by decide) ?_
          refine J_top (zI (if s.2.2.2.1 < 0 then 0 else s.2.2.2.1)) (congrArg zI (by split <;> omega)) ?_
          refine TP_bleed dX2_sheet_69 ?_
          refine J_aload_n dX2_sheet_72 rfl ?_
          refine J_aload_n dX2_sheet_73 rfl ?_
          refine TG_readMany dX2_sheet_74 ?_
          refine J_top (zI (s.2.2.2.2.1)) P1.2.2.2.2.1 ?_
          refine TP_frameMany dX2_sheet_77 ?_
          refine J_iconst (zI 0) dX2_sheet_80 rfl ?_
          refine J_istore_n dX2_sheet_81 rfl (by decide) _ rfl ?_
          refine tl_sheet82 (fun σ2 e2 c2 => ?_) _ 0 _ (by omega) tEq.refl cpy_0 (Nat.lt_succ_self _)
          refine J_iconst (zI 0) dX2_sheet_106 rfl ?_
          refine J_istore_n dX2_sheet_107 rfl (by decide) _ rfl ?_
          refine tl_sheet108 (fun σ3 e3 c3 => ?_) _ 0 _ (by omega) tEq.refl cpy_0 (Nat.lt_succ_self _)
          refine J_aload_n dX2_sheet_127 rfl ?_
          refine TC_X2_liftsAll (by decide) (Nat.le_of_ble_eq_true rfl) dX2_sheet_128 ?_
          refine t_liftsAll (P := fun _ _ => 0) (rule := 0) ⟨fun f k hf hk => (by show σ3.2.1 23 _ = _; rw [c3, pk_cpy_in (by omega) (by omega)]), (by show σ3.2.1 23 _ = _; rw [c3, pk_cpy_in (by omega) (by omega)])⟩ (fun σ4 e4 P4 => ?_)
          refine J_rv ?_
          refine J_aload_n dX2_sheet_131 rfl ?_
          refine J_iconst (zI 0) dX2_sheet_132 rfl ?_
          refine TP_deedMany dX2_sheet_133 ?_
          refine J_iconst (zI 0) dX2_sheet_136 rfl ?_
          refine J_istore_n dX2_sheet_137 rfl (by decide) _ rfl ?_
          refine tl_sheet138 (fun σ5 e5 c5 => ?_) _ 0 _ (by omega) tEq.refl cpy_0 (Nat.lt_succ_self _)
          have EE : tEq [8, 9, 10, 11, 13, 14, 15, 16, 17, 18, 19, 20, 21, 36] [12, 22, 23, 38] σ σ5 := (((((((((e1.mono (by decide) (by decide)).sI (by decide)).sI (by decide)).sI (by decide)).sI (by decide)).trans (e2.mono (by decide) (by decide))).trans (e3.mono (by decide) (by decide))).trans (e4.mono (by decide) (by decide))).sI (by decide)).trans (e5.mono (by decide) (by decide))
          have S5 : tSh s.2.2.2.2.1 s.2.1 s.2.2.1 (if s.2.2.2.1 < 0 then 0 else s.2.2.2.1) s.2.2.2.2.2 σ5 := ⟨(e5.1 11 (by decide)).trans ((e4.1 11 (by decide)).trans ((e3.1 11 (by decide)).trans (e2.1 11 (by decide)))), (e5.1 8 (by decide)).trans ((e4.1 8 (by decide)).trans ((e3.1 8 (by decide)).trans (e2.1 8 (by decide)))), (e5.1 9 (by decide)).trans ((e4.1 9 (by decide)).trans ((e3.1 9 (by decide)).trans (e2.1 9 (by decide)))), (e5.1 10 (by decide)).trans ((e4.1 10 (by decide)).trans ((e3.1 10 (by decide)).trans (e2.1 10 (by decide)))), fun f k hf hk => (by have h8 := o1.2.1; rw [e5.2.1 12 (by decide)]; show σ4.2.1 12 _ = _; rw [e4.2.1 12 (by decide), e3.2.1 12 (by decide), c2, pk_cpy_in (by omega) (by omega), Nat.zero_add, Nat.sub_zero]; exact P1.2.2.2.2.2 f k hf hk)⟩
          refine J_aload_n dX2_sheet_156 rfl ?_
          refine TG_frameMany dX2_sheet_157 ?_
          refine J_top (zI (s.2.2.2.2.1 : Nat)) S5.1 ?_
          exact J_iret rfl dX2_sheet_160 (by exact q1 s hm hz o1 σ5 EE S5 (P4.eq ((tEq.refl.sI (I := [36]) (A := [38]) (k := 36) (v := zI 0) (by decide)).trans (e5.mono (by decide) (by decide))) (by decide)) (e5.1 36 (by decide)) (fun k hk => by rw [c5, pk_cpy_in (by omega) (by omega)]))
    · exfalso; omega
  · exfalso; omega
