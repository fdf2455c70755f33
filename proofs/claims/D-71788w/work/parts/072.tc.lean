set_option maxRecDepth 100000
/-! the twin: what would be, lots -/
theorem tl_tries2 {E : jEnv} {α : Nat → Nat} {σ : tS} {Q : Option Value → tS → Prop} {r2 o : Int} (hx : ∀ σ1, tEq [] [40] σ σ1 → σ1.2.1 40 = va_cpy (σ.2.1 23) (σ.2.1 40) 0 0 33 → jX2_tries E α 26 [some (.ref (α 0)), some (.int (zI (r2))), some (.int (zI (o))), none] [] σ1 Q) : ∀ (n : Nat) (i : Nat) (σ1 : tS), i ≤ 33 → tEq [] [40] σ σ1 → σ1.2.1 40 = va_cpy (σ.2.1 23) (σ.2.1 40) (0) (0) i → 33 - i < n → jX2_tries E α 2 [some (.ref (α 0)), some (.int (zI (r2))), some (.int (zI (o))), some (.int (zI (i : Nat)))] [] σ1 Q := by
  intro n
  induction n with
  | zero => intro i σ1 h1 h2 h3 hn; exact absurd hn (Nat.not_lt_zero _)
  | succ n ih =>
    intro i σ1 h1 h2 h3 hn
    refine J_iload_n dX2_tries_2 rfl ?_
    refine J_bipush (zI 33) dX2_tries_3 rfl ?_
    refine J_icmp_ge_z (tgt := 26) dX2_tries_5 (by decide) (by unfold zR; omega) (by unfold zR; omega) (fun c5 => ?_) (fun c5 => ?_)
    · skip
      obtain rfl : i = 33 := by omega
      refine J_fg (L' := [some (.ref (α 0)), some (.int (zI (r2))), some (.int (zI (o))), none]) (by repeat' constructor) ?_
      exact hx _ h2 h3
    · skip
      refine J_aload_n dX2_tries_8 rfl ?_
      refine TG_aside dX2_tries_9 ?_
      refine J_iload_n dX2_tries_12 rfl ?_
      refine J_aload_n dX2_tries_13 rfl ?_
      refine TG_now dX2_tries_14 ?_
      refine J_iload_n dX2_tries_17 rfl ?_
      refine TJ_iald 23 (i) ⟨rfl, rfl, by decide⟩ (by omega) (show i < 33 by omega) dX2_tries_18 ?_
      refine TJ_iast 40 (i) ⟨rfl, rfl, by decide⟩ (by omega) (show i < 33 by omega) dX2_tries_19 ?_
      refine J_iinc_z ((((i + 1)) : Nat) : Int) (by omega) dX2_tries_20 rfl rfl (by decide) _ rfl ?_
      refine J_goto (tgt := 2) dX2_tries_23 (by decide) ?_
      exact ih (i + 1) _ (by omega) (h2.sA (by decide)) (by exact cpy_stepE h3 (h2.2.1 23 (by decide)) (by omega) (by omega)) (by omega)
theorem tl_tries119 {E : jEnv} {α : Nat → Nat} {σ : tS} {Q : Option Value → tS → Prop} {r2 o : Int} (hq : ∀ σ1, tEq [] [23] σ σ1 → σ1.2.1 23 = va_cpy (σ.2.1 40) (σ.2.1 23) 0 0 33 → Q none σ1) : ∀ (n : Nat) (i : Nat) (σ1 : tS), i ≤ 33 → tEq [] [23] σ σ1 → σ1.2.1 23 = va_cpy (σ.2.1 40) (σ.2.1 23) (0) (0) i → 33 - i < n → jX2_tries E α 119 [some (.ref (α 0)), some (.int (zI (r2))), some (.int (zI (o))), some (.int (zI (i : Nat)))] [] σ1 Q := by
  intro n
  induction n with
  | zero => intro i σ1 h1 h2 h3 hn; exact absurd hn (Nat.not_lt_zero _)
  | succ n ih =>
    intro i σ1 h1 h2 h3 hn
    refine J_iload_n dX2_tries_119 rfl ?_
    refine J_bipush (zI 33) dX2_tries_120 rfl ?_
    refine J_icmp_ge_z (tgt := 143) dX2_tries_122 (by decide) (by unfold zR; omega) (by unfold zR; omega) (fun c122 => ?_) (fun c122 => ?_)
    · skip
      obtain rfl : i = 33 := by omega
      exact J_vret rfl dX2_tries_143 (by exact hq _ h2 h3)
    · skip
      refine J_aload_n dX2_tries_125 rfl ?_
      refine TG_now dX2_tries_126 ?_
      refine J_iload_n dX2_tries_129 rfl ?_
      refine J_aload_n dX2_tries_130 rfl ?_
      refine TG_aside dX2_tries_131 ?_
      refine J_iload_n dX2_tries_134 rfl ?_
      refine TJ_iald 40 (i) ⟨rfl, rfl, by decide⟩ (by omega) (show i < 33 by omega) dX2_tries_135 ?_
      refine TJ_iast 23 (i) ⟨rfl, rfl, by decide⟩ (by omega) (show i < 33 by omega) dX2_tries_136 ?_
      refine J_iinc_z ((((i + 1)) : Nat) : Int) (by omega) dX2_tries_137 rfl rfl (by decide) _ rfl ?_
      refine J_goto (tgt := 119) dX2_tries_140 (by decide) ?_
      exact ih (i + 1) _ (by omega) (h2.sA (by decide)) (by exact cpy_stepE h3 (h2.2.1 40 (by decide)) (by omega) (by omega)) (by omega)
theorem tl_tries54 {E : jEnv} {α : Nat → Nat} {σ : tS} {Q : Option Value → tS → Prop} {many : Nat} {wide high bl : Int} {G : Nat → Nat → Int} {P : Nat → Nat → Int} {rule : Int} {r2 o : Int} (hS : tSh many wide high bl G σ) (hO : shOK many wide high bl G) (hP : tPl P rule σ) (hN : plOK many P rule) (hx : ∀ σ1, tEq [42] [] σ σ1 → σ1.1 42 = nI (mMiss P many) → jX2_tries E α 92 [some (.ref (α 0)), some (.int (zI (r2))), some (.int (zI (o))), none] [] σ1 Q) : ∀ (n : Nat) (f : Nat) (σ1 : tS), f ≤ many → tEq [42] [] σ σ1 → σ1.1 42 = nI (mMiss P f) → many - f < n → jX2_tries E α 54 [some (.ref (α 0)), some (.int (zI (r2))), some (.int (zI (o))), some (.int (zI (f : Nat)))] [] σ1 Q := by
  intro n
  induction n with
  | zero => intro f σ1 h1 h2 h3 hn; exact absurd hn (Nat.not_lt_zero _)
  | succ n ih =>
    intro f σ1 h1 h2 h3 hn
    have := hO.s
    have hS := hS.eq h2 (by decide) (by decide) (by decide) (by decide) (by decide)
    have hP := hP.eq h2 (by decide)
    have := mMiss_lt P f (by omega)
    refine J_iload_n dX2_tries_54 rfl ?_
    refine J_aload_n dX2_tries_55 rfl ?_
    refine TG_frameMany dX2_tries_56 ?_
    refine J_top (zI (many)) hS.1 ?_
    refine J_icmp_ge_z (tgt := 92) dX2_tries_59 (by decide) (by unfold zR; omega) (by unfold zR; omega) (fun c59 => ?_) (fun c59 => ?_)
    · skip
      obtain rfl : f = many := by omega
      refine J_fg (L' := [some (.ref (α 0)), some (.int (zI (r2))), some (.int (zI (o))), none]) (by repeat' constructor) ?_
      exact hx σ1 h2 h3
    · skip
      refine J_aload_n dX2_tries_62 rfl ?_
      refine J_dup dX2_tries_63 rfl ?_
      refine TG_wouldMissing dX2_tries_64 ?_
      refine J_top (nI (mMiss P f)) h3 ?_
      refine J_aload_n dX2_tries_67 rfl ?_
      refine J_iload_n dX2_tries_68 rfl ?_
      refine TC_X2_isSet (by decide) (Nat.le_of_ble_eq_true rfl) dX2_tries_69 ?_
      refine t_isSet hS hO hP hN (by omega) (fun b69 => ?_) (fun b69 => ?_)
      · refine J_ri ?_
        refine J_if_eq_n (tgt := 79) dX2_tries_72 (by decide) (by decide) ?_
        refine J_iconst (zI 0) dX2_tries_75 rfl ?_
        refine J_goto (tgt := 82) dX2_tries_76 (by decide) ?_
        refine J_ior dX2_tries_82 ?_
        refine J_top (nI (mMiss P (f + 1))) (by first | exact mMiss_y b69 | exact mMiss_n (by omega) b69) ?_
        refine TP_wouldMissing dX2_tries_83 ?_
        refine J_iinc_z ((((f + 1)) : Nat) : Int) (by omega) dX2_tries_86 rfl rfl (by decide) _ rfl ?_
        refine J_goto (tgt := 54) dX2_tries_89 (by decide) ?_
        exact ih (f + 1) _ (by omega) (h2.sI (by decide)) rfl (by omega)
      · refine J_ri ?_
        refine J_if_eq_y (tgt := 79) dX2_tries_72 (by decide) (by decide) ?_
        refine J_iconst (zI 1) dX2_tries_79 rfl ?_
        refine J_iload_n dX2_tries_80 rfl ?_
        refine J_ishl dX2_tries_81 ?_
        refine J_ior dX2_tries_82 ?_
        refine J_top (nI (mMiss P (f + 1))) (by first | exact mMiss_y b69 | exact mMiss_n (by omega) b69) ?_
        refine TP_wouldMissing dX2_tries_83 ?_
        refine J_iinc_z ((((f + 1)) : Nat) : Int) (by omega) dX2_tries_86 rfl rfl (by decide) _ rfl ?_
        refine J_goto (tgt := 54) dX2_tries_89 (by decide) ?_
        exact ih (f + 1) _ (by omega) (h2.sI (by decide)) rfl (by omega)
/-- what would be, told by three fields -/
def tWd (bl : Int) (G P : Nat → Nat → Int) (many : Nat) (σ : tS) : Prop := σ.1 41 = zI (pgM P many) ∧ σ.1 42 = nI (mMiss P many) ∧ σ.1 43 = zI (mLast bl G P many)
theorem tRow.same {a b : Nat → Int32} {o : Nat} {p : mPl} (h : tRow a o p) (e : ∀ j, j < 33 → b (o + j) = a (o + j)) : tRow b o p := ⟨fun f k hf hk => (e _ (by omega)).trans (h.1 f k hf hk), (e _ (by omega)).trans h.2⟩
theorem t_tries {E : jEnv} {α : Nat → Nat} {σ : tS} {Q : Option Value → tS → Prop} {many : Nat} {wide high bl : Int} {G : Nat → Nat → Int} {P : Nat → Nat → Int} {rule : Int} {r2 o : Int} (hS : tSh many wide high bl G σ) (hO : shOK many wide high bl G) (hP : tPl P rule σ) (hN : plOK many P rule) (hV : plV many wide high bl G P) (h2 : 0 ≤ r2 ∧ r2 ≤ 3) (ho : 0 ≤ o ∧ o ≤ 2) (hq : ∀ σ1, tEq [27, 32, 33, 34, 35, 41, 42, 43] [23, 26, 28, 29, 30, 31, 40] σ σ1 → tPl P rule σ1 → tWd bl G (mAll many wide high bl G r2 o many).1 many σ1 → Q none σ1) : jX2_tries E α 0 [some (.ref (α 0)), some (.int (zI (r2))), some (.int (zI (o))), none] [] σ Q := by
  have := hO.s
  have hS0 := hS
  have hP0 := hP
  refine J_iconst (zI 0) dX2_tries_0 rfl ?_
  refine J_istore_n dX2_tries_1 rfl (by decide) _ rfl ?_
  refine tl_tries2 (fun σ1 e1 c1 => ?_) _ 0 _ (by omega) tEq.refl cpy_0 (Nat.lt_succ_self _)
  have hS := hS.eq e1 (by decide) (by decide) (by decide) (by decide) (by decide)
  have hP := hP.eq e1 (by decide)
  refine J_aload_n dX2_tries_26 rfl ?_
  refine TG_now dX2_tries_27 ?_
  refine J_bipush (zI 32) dX2_tries_30 rfl ?_
  refine J_iload_n dX2_tries_32 rfl ?_
  refine TJ_iast 23 (32) ⟨rfl, rfl, by decide⟩ (by omega) (show 32 < 33 by omega) dX2_tries_33 ?_
  refine J_aload_n dX2_tries_34 rfl ?_
  refine J_iload_n dX2_tries_35 rfl ?_
  refine TC_X2_setsAll (by decide) (Nat.le_of_ble_eq_true rfl) dX2_tries_36 ?_
  refine t_setsAll (rule := r2) (P := P) (hS.eq (tEq.refl.sA (A := [23]) (I := []) (by decide)) (by decide) (by decide) (by decide) (by decide) (by decide)) hO (tPl_rule hP) ⟨hN.1, h2⟩ ho (fun σ2 e2 P2 hR => ?_)
  have hS := (hS.eq (tEq.refl.sA (A := [23]) (I := []) (by decide)) (by decide) (by decide) (by decide) (by decide) (by decide)).eq e2 (by decide) (by decide) (by decide) (by decide) (by decide)
  have hP := P2
  have hN : plOK many (mAll many wide high bl G r2 o many).1 r2 := hR.1
  refine J_rv ?_
  refine J_aload_n dX2_tries_39 rfl ?_
  refine J_aload_n dX2_tries_40 rfl ?_
  refine TC_X2_pageMany (by decide) (Nat.le_of_ble_eq_true rfl) dX2_tries_41 ?_
  refine t_pageMany hS hO hP hN  ?_
  refine J_ri ?_
  refine TP_wouldPages dX2_tries_44 ?_
  refine J_aload_n dX2_tries_47 rfl ?_
  refine J_iconst (zI 0) dX2_tries_48 rfl ?_
  refine TP_wouldMissing dX2_tries_49 ?_
  refine J_iconst (zI 0) dX2_tries_52 rfl ?_
  refine J_istore_n dX2_tries_53 rfl (by decide) _ rfl ?_
  refine tl_tries54 (hS.eq ((tEq.refl.sI (I := [41, 42]) (A := []) (by decide)).sI (by decide)) (by decide) (by decide) (by decide) (by decide) (by decide)) hO (hP.eq ((tEq.refl.sI (I := [41, 42]) (A := []) (by decide)).sI (by decide)) (by decide)) hN (fun σ3 e3 m3 => ?_) _ 0 _ (by omega) tEq.refl rfl (Nat.lt_succ_self _)
  have hS := (hS.eq ((tEq.refl.sI (I := [41, 42]) (A := []) (by decide)).sI (by decide)) (by decide) (by decide) (by decide) (by decide) (by decide)).eq e3 (by decide) (by decide) (by decide) (by decide) (by decide)
  have hP := (hP.eq ((tEq.refl.sI (I := [41, 42]) (A := []) (by decide)).sI (by decide)) (by decide)).eq e3 (by decide)
  have hW1 : σ3.1 41 = zI (pgM (mAll many wide high bl G r2 o many).1 many) := e3.1 41 (by decide)
  have := pgM_b hN many (Nat.le_refl _)
  refine J_aload_n dX2_tries_92 rfl ?_
  refine J_aload_n dX2_tries_93 rfl ?_
  refine TG_wouldPages dX2_tries_94 ?_
  refine J_top (zI (pgM (mAll many wide high bl G r2 o many).1 many)) hW1 ?_
  refine J_if_ne_z (tgt := 104) dX2_tries_97 (by decide) (by unfold zR; omega) (fun c97 => ?_) (fun c97 => ?_)
  · skip
    refine J_aload_n dX2_tries_104 rfl ?_
    refine J_aload_n dX2_tries_105 rfl ?_
    refine TG_wouldPages dX2_tries_106 ?_
    refine J_top (zI (pgM (mAll many wide high bl G r2 o many).1 many)) hW1 ?_
    refine J_iconst (zI 1) dX2_tries_109 rfl ?_
    refine J_isub_z dX2_tries_110 ?_
    refine TC_X2_takenOf (by decide) (Nat.le_of_ble_eq_true rfl) dX2_tries_111 ?_
    refine t_takenOf hS hO hP hN (by unfold zR at *; omega) ?_
    refine J_ri ?_
    refine TP_wouldLast dX2_tries_114 ?_
    refine J_iconst (zI 0) dX2_tries_117 rfl ?_
    refine J_istore_n dX2_tries_118 rfl (by decide) _ rfl ?_
    refine tl_tries119 (fun σ4 e4 c4 => hq σ4 ((((((((e1.mono (by decide) (by decide)).sA (by decide)).trans (e2.mono (by decide) (by decide))).sI (by decide)).sI (by decide)).trans (e3.mono (by decide) (by decide))).sI (by decide)).trans (e4.mono (by decide) (by decide))) ?_ ?_) _ 0 _ (by omega) tEq.refl cpy_0 (Nat.lt_succ_self _)
    · have h40 : σ3.2.1 40 = σ1.2.1 40 := (e3.2.1 40 (by decide)).trans (e2.2.1 40 (by decide))
      refine tRow.pl (hP0.row.same (fun j hj => ?_))
      rw [c4]
      show va_cpy (σ3.2.1 40) _ 0 0 33 (0 + j) = _
      rw [pk_cpy_in (by omega) (by omega), h40, c1, pk_cpy_in (by omega) (by omega)]
      simp only [Nat.zero_add, Nat.sub_zero]
    · exact ⟨(e4.1 41 (by decide)).trans hW1, (e4.1 42 (by decide)).trans m3, (e4.1 43 (by decide)).trans (congrArg zI (by unfold mLast; split <;> first | rfl | omega))⟩
  · skip
    refine J_iconst (zI 0) dX2_tries_100 rfl ?_
    refine J_goto (tgt := 114) dX2_tries_101 (by decide) ?_
    refine TP_wouldLast dX2_tries_114 ?_
    refine J_iconst (zI 0) dX2_tries_117 rfl ?_
    refine J_istore_n dX2_tries_118 rfl (by decide) _ rfl ?_
    refine tl_tries119 (fun σ4 e4 c4 => hq σ4 ((((((((e1.mono (by decide) (by decide)).sA (by decide)).trans (e2.mono (by decide) (by decide))).sI (by decide)).sI (by decide)).trans (e3.mono (by decide) (by decide))).sI (by decide)).trans (e4.mono (by decide) (by decide))) ?_ ?_) _ 0 _ (by omega) tEq.refl cpy_0 (Nat.lt_succ_self _)
    · have h40 : σ3.2.1 40 = σ1.2.1 40 := (e3.2.1 40 (by decide)).trans (e2.2.1 40 (by decide))
      refine tRow.pl (hP0.row.same (fun j hj => ?_))
      rw [c4]
      show va_cpy (σ3.2.1 40) _ 0 0 33 (0 + j) = _
      rw [pk_cpy_in (by omega) (by omega), h40, c1, pk_cpy_in (by omega) (by omega)]
      simp only [Nat.zero_add, Nat.sub_zero]
    · exact ⟨(e4.1 41 (by decide)).trans hW1, (e4.1 42 (by decide)).trans m3, (e4.1 43 (by decide)).trans (congrArg zI (by unfold mLast; split <;> first | rfl | omega))⟩
