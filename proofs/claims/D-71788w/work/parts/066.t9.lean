set_option maxRecDepth 100000
/-! the twin: kept ones; setting all -/
def upk {α : Type} (f : Nat → α) (k : Nat) (v : α) : Nat → α := fun j => if j = k then v else f j
theorem tl_keep65 {E : jEnv} {α : Nat → Nat} {σ : tS} {Q : Option Value → tS → Prop} {dm k : Nat} (hD : σ.1 36 = zI dm) (hd : dm ≤ 40) (hk : k < 3) (hq : ∀ σ1, tEq [] [39] σ σ1 → σ1.2.1 39 = va_cpy (σ.2.1 37) (σ.2.1 39) 0 (1353 * k + 33) (33 * dm) → Q (some (.int (zI dm))) σ1) : ∀ (n : Nat) (i : Nat) (σ1 : tS), i ≤ (33 * dm) → tEq [] [39] σ σ1 → σ1.2.1 39 = va_cpy (σ.2.1 37) (σ.2.1 39) (0) (1353 * k + 33) i → (33 * dm) - i < n → jX2_keep E α 65 [some (.ref (α 0)), some (.int (zI (k : Nat))), some (.int (zI (i : Nat)))] [] σ1 Q := by
  intro n
  induction n with
  | zero => intro i σ1 h1 h2 h3 hn; exact absurd hn (Nat.not_lt_zero _)
  | succ n ih =>
    intro i σ1 h1 h2 h3 hn
    refine J_iload_n dX2_keep_65 rfl ?_
    refine J_bipush (zI 33) dX2_keep_66 rfl ?_
    refine J_aload_n dX2_keep_68 rfl ?_
    refine TG_deedMany dX2_keep_69 ?_
    refine J_top (zI (dm)) ((h2.1 36 (by decide)).trans hD) ?_
    refine J_imul_z dX2_keep_72 ?_
    refine J_icmp_ge_z (tgt := 103) dX2_keep_73 (by decide) (by unfold zR; omega) (by unfold zR; omega) (fun c73 => ?_) (fun c73 => ?_)
    · skip
      obtain rfl : i = 33 * dm := by omega
      refine J_aload_n dX2_keep_103 rfl ?_
      refine TG_deedMany dX2_keep_104 ?_
      refine J_top (zI (dm)) ((h2.1 36 (by decide)).trans hD) ?_
      exact J_iret rfl dX2_keep_107 (by exact hq _ h2 h3)
    · skip
      refine J_aload_n dX2_keep_76 rfl ?_
      refine TG_kept dX2_keep_77 ?_
      refine J_sipush (zI 1353) dX2_keep_80 rfl ?_
      refine J_iload_n dX2_keep_83 rfl ?_
      refine J_imul_z dX2_keep_84 ?_
      refine J_bipush (zI 33) dX2_keep_85 rfl ?_
      refine J_iadd_z dX2_keep_87 ?_
      refine J_iload_n dX2_keep_88 rfl ?_
      refine J_iadd_z dX2_keep_89 ?_
      refine J_aload_n dX2_keep_90 rfl ?_
      refine TG_log dX2_keep_91 ?_
      refine J_iload_n dX2_keep_94 rfl ?_
      refine TJ_iald 37 (i) ⟨rfl, rfl, by decide⟩ (by omega) (show i < 1320 by omega) dX2_keep_95 ?_
      refine TJ_iast 39 ((((1353 * k) + 33) + i)) ⟨rfl, rfl, by decide⟩ (by omega) (show (((1353 * k) + 33) + i) < 4059 by omega) dX2_keep_96 ?_
      refine J_iinc_z ((((i + 1)) : Nat) : Int) (by omega) dX2_keep_97 rfl rfl (by decide) _ rfl ?_
      refine J_goto (tgt := 65) dX2_keep_100 (by decide) ?_
      exact ih (i + 1) _ (by omega) (h2.sA (by decide)) (by exact cpy_stepE h3 (h2.2.1 37 (by decide)) (by omega) (by omega)) (by omega)
theorem tl_keep33 {E : jEnv} {α : Nat → Nat} {σ : tS} {Q : Option Value → tS → Prop} {k : Nat} (hk : k < 3) (hx : ∀ σ1, tEq [] [39] σ σ1 → σ1.2.1 39 = va_cpy (σ.2.1 23) (σ.2.1 39) 0 (1353 * k) 33 → jX2_keep E α 63 [some (.ref (α 0)), some (.int (zI (k : Nat))), none] [] σ1 Q) : ∀ (n : Nat) (i : Nat) (σ1 : tS), i ≤ 33 → tEq [] [39] σ σ1 → σ1.2.1 39 = va_cpy (σ.2.1 23) (σ.2.1 39) (0) (1353 * k) i → 33 - i < n → jX2_keep E α 33 [some (.ref (α 0)), some (.int (zI (k : Nat))), some (.int (zI (i : Nat)))] [] σ1 Q := by
  intro n
  induction n with
  | zero => intro i σ1 h1 h2 h3 hn; exact absurd hn (Nat.not_lt_zero _)
  | succ n ih =>
    intro i σ1 h1 h2 h3 hn
    refine J_iload_n dX2_keep_33 rfl ?_
    refine J_bipush (zI 33) dX2_keep_34 rfl ?_
    refine J_icmp_ge_z (tgt := 63) dX2_keep_36 (by decide) (by unfold zR; omega) (by unfold zR; omega) (fun c36 => ?_) (fun c36 => ?_)
    · skip
      obtain rfl : i = 33 := by omega
      refine J_fg (L' := [some (.ref (α 0)), some (.int (zI (k : Nat))), none]) (by repeat' constructor) ?_
      exact hx _ h2 h3
    · skip
      refine J_aload_n dX2_keep_39 rfl ?_
      refine TG_kept dX2_keep_40 ?_
      refine J_sipush (zI 1353) dX2_keep_43 rfl ?_
      refine J_iload_n dX2_keep_46 rfl ?_
      refine J_imul_z dX2_keep_47 ?_
      refine J_iload_n dX2_keep_48 rfl ?_
      refine J_iadd_z dX2_keep_49 ?_
      refine J_aload_n dX2_keep_50 rfl ?_
      refine TG_now dX2_keep_51 ?_
      refine J_iload_n dX2_keep_54 rfl ?_
      refine TJ_iald 23 (i) ⟨rfl, rfl, by decide⟩ (by omega) (show i < 33 by omega) dX2_keep_55 ?_
      refine TJ_iast 39 (((1353 * k) + i)) ⟨rfl, rfl, by decide⟩ (by omega) (show ((1353 * k) + i) < 4059 by omega) dX2_keep_56 ?_
      refine J_iinc_z ((((i + 1)) : Nat) : Int) (by omega) dX2_keep_57 rfl rfl (by decide) _ rfl ?_
      refine J_goto (tgt := 33) dX2_keep_60 (by decide) ?_
      exact ih (i + 1) _ (by omega) (h2.sA (by decide)) (by exact cpy_stepE h3 (h2.2.1 23 (by decide)) (by omega) (by omega)) (by omega)
theorem keep_ok {P : Nat → Nat → Int} {rule : Int} {dm : Nat} {H : Nat → mPl} {kc : Nat → Int} {KH : Nat → Nat → mPl} {KN : Nat → mPl} {σ σ2 σ3 : tS} {k : Nat} (hP : tPl P rule σ) (hL : tLg dm H σ) (hd : dm ≤ 40) (hK : tKp kc KH KN σ) (hkc : ∀ k, k < 3 → -1 ≤ kc k ∧ kc k ≤ 40) (hk : k < 3)
    (e2 : tEq [] [39] (setA σ 38 (upd (σ.2.1 38) k (zI dm))) σ2) (c2 : σ2.2.1 39 = va_cpy (σ.2.1 23) (σ.2.1 39) 0 (1353 * k) 33) (e3 : tEq [] [39] σ2 σ3) (c3 : σ3.2.1 39 = va_cpy (σ.2.1 37) (σ2.2.1 39) 0 (1353 * k + 33) (33 * dm)) : tKp (upk kc k dm) (upk KH k H) (upk KN k (P, rule)) σ3 := by
  have h38 : σ3.2.1 38 = upd (σ.2.1 38) k (zI dm) := (e3.2.1 38 (by decide)).trans (e2.2.1 38 (by decide))
  intro j hj
  rw [h38, c3, c2]
  unfold upk
  by_cases z : j = k
  · subst z
    simp only [if_pos, upd]
    refine ⟨trivial, fun _ => ⟨?_, fun d h2 => ?_⟩⟩
    · exact (hP.row.cpy (d := σ.2.1 39) (o1 := 1353 * j) (n := 33) (m := 0) (o2 := 0) (by omega)).out (by omega)
    · have := (hL.2 d (by omega))
      rw [← Nat.zero_add (33 * d)] at this
      exact this.cpy (by omega)
  · simp only [if_neg z, upd]
    obtain ⟨k1, k2⟩ := hK j hj
    have hb := hkc j hj
    refine ⟨k1, fun h => ?_⟩
    obtain ⟨k3, k4⟩ := k2 h
    refine ⟨(k3.out (by omega)).out (by omega), fun d h2 => ((k4 d h2).out (by omega)).out (by omega)⟩
theorem t_keep {E : jEnv} {α : Nat → Nat} {σ : tS} {Q : Option Value → tS → Prop} {many : Nat} {wide high bl : Int} {G : Nat → Nat → Int} {P : Nat → Nat → Int} {rule : Int} {dm : Nat} {H : Nat → mPl} {kc : Nat → Int} {KH : Nat → Nat → mPl} {KN : Nat → mPl} {k : Nat} (hS : tSh many wide high bl G σ) (hO : shOK many wide high bl G) (hP : tPl P rule σ) (hL : tLg dm H σ) (hd : dm ≤ 40) (hK : tKp kc KH KN σ) (hkc : ∀ k, k < 3 → -1 ≤ kc k ∧ kc k ≤ 40) (hk : k < 3) (hm : 0 < many) (hq : ∀ σ1, tEq [] [38, 39] σ σ1 → tKp (upk kc k dm) (upk KH k H) (upk KN k (P, rule)) σ1 → Q (some (.int (zI dm))) σ1) : jX2_keep E α 0 [some (.ref (α 0)), some (.int (zI (k : Nat))), none] [] σ Q := by
  have := hO.s
  refine J_iload_n dX2_keep_0 rfl ?_
  refine J_iconst (zI 0) dX2_keep_1 rfl ?_
  refine J_iconst (zI 2) dX2_keep_2 rfl ?_
  refine TC_X2_in (by decide) (Nat.le_of_ble_eq_true rfl) dX2_keep_3 ?_
  refine t_in (by unfold zR; omega) (by unfold zR; omega) (by unfold zR; omega) (fun b3 => ?_) (fun b3 => ?_)
  · refine J_ri ?_
    refine J_if_ne_y (tgt := 11) dX2_keep_6 (by decide) (by decide) ?_
    refine J_aload_n dX2_keep_11 rfl ?_
    refine TG_frameMany dX2_keep_12 ?_
    refine J_top (zI (many)) hS.1 ?_
    refine J_if_ne_z (tgt := 21) dX2_keep_15 (by decide) (by unfold zR; omega) (fun c15 => ?_) (fun c15 => ?_)
    · skip
      refine J_aload_n dX2_keep_21 rfl ?_
      refine TG_keptMany dX2_keep_22 ?_
      refine J_iload_n dX2_keep_25 rfl ?_
      refine J_aload_n dX2_keep_26 rfl ?_
      refine TG_deedMany dX2_keep_27 ?_
      refine J_top (zI (dm)) hL.1 ?_
      refine TJ_iast 38 (k) ⟨rfl, rfl, by decide⟩ (by omega) (show k < 3 by omega) dX2_keep_30 ?_
      refine J_iconst (zI 0) dX2_keep_31 rfl ?_
      refine J_istore_n dX2_keep_32 rfl (by decide) _ rfl ?_
      refine tl_keep33 hk (fun σ2 e2 c2 => ?_) _ 0 _ (by omega) tEq.refl cpy_0 (Nat.lt_succ_self _)
      refine J_iconst (zI 0) dX2_keep_63 rfl ?_
      refine J_istore_n dX2_keep_64 rfl (by decide) _ rfl ?_
      exact tl_keep65 ((e2.1 36 (by decide)).trans hL.1) hd hk (fun σ3 e3 c3 => hq σ3 (((tEq.refl.sA (by decide)).trans (e2.mono (by decide) (by decide))).trans (e3.mono (by decide) (by decide))) (keep_ok hP hL hd hK hkc hk e2 c2 e3 (by rw [c3, e2.2.1 37 (by decide)]; rfl))) _ 0 σ2 (by omega) tEq.refl cpy_0 (Nat.lt_succ_self _)
    · exfalso; omega
  · exfalso; omega
theorem t_keep_no {E : jEnv} {α : Nat → Nat} {σ : tS} {Q : Option Value → tS → Prop} {many : Nat} {wide high bl : Int} {G : Nat → Nat → Int} {k : Nat} (hS : tSh many wide high bl G σ) (hO : shOK many wide high bl G) (hk : k < 3) (hm : many = 0) (hq : Q (some (.int (zI (-4)))) σ) : jX2_keep E α 0 [some (.ref (α 0)), some (.int (zI (k : Nat))), none] [] σ Q := by
  have := hO.s
  refine J_iload_n dX2_keep_0 rfl ?_
  refine J_iconst (zI 0) dX2_keep_1 rfl ?_
  refine J_iconst (zI 2) dX2_keep_2 rfl ?_
  refine TC_X2_in (by decide) (Nat.le_of_ble_eq_true rfl) dX2_keep_3 ?_
  refine t_in (by unfold zR; omega) (by unfold zR; omega) (by unfold zR; omega) (fun b3 => ?_) (fun b3 => ?_)
  · refine J_ri ?_
    refine J_if_ne_y (tgt := 11) dX2_keep_6 (by decide) (by decide) ?_
    refine J_aload_n dX2_keep_11 rfl ?_
    refine TG_frameMany dX2_keep_12 ?_
    refine J_top (zI (many)) hS.1 ?_
    refine J_if_ne_z (tgt := 21) dX2_keep_15 (by decide) (by unfold zR; omega) (fun c15 => ?_) (fun c15 => ?_)
    · exfalso; omega
    · skip
      refine J_bipush (zI (-4)) dX2_keep_18 rfl ?_
      exact J_iret rfl dX2_keep_20 (by exact hq)
  · exfalso; omega
theorem t_keep_bad {E : jEnv} {α : Nat → Nat} {σ : tS} {Q : Option Value → tS → Prop} {v : Int} (rv : zR v) (hv : ¬ (0 ≤ v ∧ v ≤ 2)) (hq : Q (some (.int (zI (-1)))) σ) : jX2_keep E α 0 [some (.ref (α 0)), some (.int (zI (v))), none] [] σ Q := by
  refine J_iload_n dX2_keep_0 rfl ?_
  refine J_iconst (zI 0) dX2_keep_1 rfl ?_
  refine J_iconst (zI 2) dX2_keep_2 rfl ?_
  refine TC_X2_in (by decide) (Nat.le_of_ble_eq_true rfl) dX2_keep_3 ?_
  refine t_in (by unfold zR at *; omega) (by unfold zR at *; omega) (by unfold zR at *; omega) (fun b3 => ?_) (fun b3 => ?_)
  · exfalso; omega
  · refine J_ri ?_
    refine J_if_ne_n (tgt := 11) dX2_keep_6 (by decide) (by decide) ?_
    refine J_iconst (zI (-1)) dX2_keep_9 rfl ?_
    exact J_iret rfl dX2_keep_10 (by exact hq)
theorem t_on_bad {E : jEnv} {α : Nat → Nat} {σ : tS} {Q : Option Value → tS → Prop} {v : Int} (rv : zR v) (hv : ¬ (0 ≤ v ∧ v ≤ 2)) (hq : Q (some (.int (zI (-1)))) σ) : jX2_on E α 0 [some (.ref (α 0)), some (.int (zI (v))), none] [] σ Q := by
  refine J_iload_n dX2_on_0 rfl ?_
  refine J_iconst (zI 0) dX2_on_1 rfl ?_
  refine J_iconst (zI 2) dX2_on_2 rfl ?_
  refine TC_X2_in (by decide) (Nat.le_of_ble_eq_true rfl) dX2_on_3 ?_
  refine t_in (by unfold zR at *; omega) (by unfold zR at *; omega) (by unfold zR at *; omega) (fun b3 => ?_) (fun b3 => ?_)
  · exfalso; omega
  · refine J_ri ?_
    refine J_if_ne_n (tgt := 11) dX2_on_6 (by decide) (by decide) ?_
    refine J_iconst (zI (-1)) dX2_on_9 rfl ?_
    exact J_iret rfl dX2_on_10 (by exact hq)
theorem t_on_no {E : jEnv} {α : Nat → Nat} {σ : tS} {Q : Option Value → tS → Prop} {kc : Nat → Int} {KH : Nat → Nat → mPl} {KN : Nat → mPl} {k : Nat} (hK : tKp kc KH KN σ) (hkc : ∀ k, k < 3 → -1 ≤ kc k ∧ kc k ≤ 40) (hk : k < 3) (h0 : kc k = -1) (hq : Q (some (.int (zI (-3)))) (setA (setI σ 1 (zI 1)) 2 (upd (σ.2.1 2) 1 (σ.2.1 2 1 + zI 1)))) : jX2_on E α 0 [some (.ref (α 0)), some (.int (zI (k : Nat))), none] [] σ Q := by
  refine J_iload_n dX2_on_0 rfl ?_
  refine J_iconst (zI 0) dX2_on_1 rfl ?_
  refine J_iconst (zI 2) dX2_on_2 rfl ?_
  refine TC_X2_in (by decide) (Nat.le_of_ble_eq_true rfl) dX2_on_3 ?_
  refine t_in (by unfold zR; omega) (by unfold zR; omega) (by unfold zR; omega) (fun b3 => ?_) (fun b3 => ?_)
  · refine J_ri ?_
    refine J_if_ne_y (tgt := 11) dX2_on_6 (by decide) (by decide) ?_
    refine J_aload_n dX2_on_11 rfl ?_
    refine TG_keptMany dX2_on_12 ?_
    refine J_iload_n dX2_on_15 rfl ?_
    refine TJ_iald 38 (k) ⟨rfl, rfl, by decide⟩ (by omega) (show k < 3 by omega) dX2_on_16 ?_
    refine J_top (zI (kc k)) ((hK k hk).1) ?_
    refine J_if_ge_z (tgt := 26) dX2_on_17 (by decide) (by unfold zR; omega) (fun c17 => ?_) (fun c17 => ?_)
    · exfalso; omega
    · skip
      refine J_aload_n dX2_on_20 rfl ?_
      refine J_iconst (zI 1) dX2_on_21 rfl ?_
      refine TC_X2_found (by decide) (Nat.le_of_ble_eq_true rfl) dX2_on_22 ?_
      refine t_found (m := _) (by decide) ?_
      refine J_ri ?_
      exact J_iret rfl dX2_on_25 (by exact hq)
  · exfalso; omega
theorem tl_on70 {E : jEnv} {α : Nat → Nat} {σ : tS} {Q : Option Value → tS → Prop} {dm k : Nat} (hD : σ.1 36 = zI dm) (hd : dm ≤ 40) (hk : k < 3) (hq : ∀ σ1, tEq [] [37] σ σ1 → σ1.2.1 37 = va_cpy (σ.2.1 39) (σ.2.1 37) (1353 * k + 33) 0 (33 * dm) → Q (some (.int (zI dm))) σ1) : ∀ (n : Nat) (i : Nat) (σ1 : tS), i ≤ (33 * dm) → tEq [] [37] σ σ1 → σ1.2.1 37 = va_cpy (σ.2.1 39) (σ.2.1 37) (1353 * k + 33) (0) i → (33 * dm) - i < n → jX2_on E α 70 [some (.ref (α 0)), some (.int (zI (k : Nat))), some (.int (zI (i : Nat)))] [] σ1 Q := by
  intro n
  induction n with
  | zero => intro i σ1 h1 h2 h3 hn; exact absurd hn (Nat.not_lt_zero _)
  | succ n ih =>
    intro i σ1 h1 h2 h3 hn
    refine J_iload_n dX2_on_70 rfl ?_
    refine J_bipush (zI 33) dX2_on_71 rfl ?_
    refine J_aload_n dX2_on_73 rfl ?_
    refine TG_deedMany dX2_on_74 ?_
    refine J_top (zI (dm)) ((h2.1 36 (by decide)).trans hD) ?_
    refine J_imul_z dX2_on_77 ?_
    refine J_icmp_ge_z (tgt := 108) dX2_on_78 (by decide) (by unfold zR; omega) (by unfold zR; omega) (fun c78 => ?_) (fun c78 => ?_)
    · skip
      obtain rfl : i = 33 * dm := by omega
      refine J_aload_n dX2_on_108 rfl ?_
      refine TG_deedMany dX2_on_109 ?_
      refine J_top (zI (dm)) ((h2.1 36 (by decide)).trans hD) ?_
      exact J_iret rfl dX2_on_112 (by exact hq _ h2 h3)
    · skip
      refine J_aload_n dX2_on_81 rfl ?_
      refine TG_log dX2_on_82 ?_
      refine J_iload_n dX2_on_85 rfl ?_
      refine J_aload_n dX2_on_86 rfl ?_
      refine TG_kept dX2_on_87 ?_
      refine J_sipush (zI 1353) dX2_on_90 rfl ?_
      refine J_iload_n dX2_on_93 rfl ?_
      refine J_imul_z dX2_on_94 ?_
      refine J_bipush (zI 33) dX2_on_95 rfl ?_
      refine J_iadd_z dX2_on_97 ?_
      refine J_iload_n dX2_on_98 rfl ?_
      refine J_iadd_z dX2_on_99 ?_
      refine TJ_iald 39 ((((1353 * k) + 33) + i)) ⟨rfl, rfl, by decide⟩ (by omega) (show (((1353 * k) + 33) + i) < 4059 by omega) dX2_on_100 ?_
      refine TJ_iast 37 (i) ⟨rfl, rfl, by decide⟩ (by omega) (show i < 1320 by omega) dX2_on_101 ?_
      refine J_iinc_z ((((i + 1)) : Nat) : Int) (by omega) dX2_on_102 rfl rfl (by decide) _ rfl ?_
      refine J_goto (tgt := 70) dX2_on_105 (by decide) ?_
      exact ih (i + 1) _ (by omega) (h2.sA (by decide)) (by exact cpy_stepE h3 (h2.2.1 39 (by decide)) (by omega) (by omega)) (by omega)
theorem tl_on38 {E : jEnv} {α : Nat → Nat} {σ : tS} {Q : Option Value → tS → Prop} {k : Nat} (hk : k < 3) (hx : ∀ σ1, tEq [] [23] σ σ1 → σ1.2.1 23 = va_cpy (σ.2.1 39) (σ.2.1 23) (1353 * k) 0 33 → jX2_on E α 68 [some (.ref (α 0)), some (.int (zI (k : Nat))), none] [] σ1 Q) : ∀ (n : Nat) (i : Nat) (σ1 : tS), i ≤ 33 → tEq [] [23] σ σ1 → σ1.2.1 23 = va_cpy (σ.2.1 39) (σ.2.1 23) (1353 * k) (0) i → 33 - i < n → jX2_on E α 38 [some (.ref (α 0)), some (.int (zI (k : Nat))), some (.int (zI (i : Nat)))] [] σ1 Q := by
  intro n
  induction n with
  | zero => intro i σ1 h1 h2 h3 hn; exact absurd hn (Nat.not_lt_zero _)
  | succ n ih =>
    intro i σ1 h1 h2 h3 hn
    refine J_iload_n dX2_on_38 rfl ?_
    refine J_bipush (zI 33) dX2_on_39 rfl ?_
    refine J_icmp_ge_z (tgt := 68) dX2_on_41 (by decide) (by unfold zR; omega) (by unfold zR; omega) (fun c41 => ?_) (fun c41 => ?_)
    · skip
      obtain rfl : i = 33 := by omega
      refine J_fg (L' := [some (.ref (α 0)), some (.int (zI (k : Nat))), none]) (by repeat' constructor) ?_
      exact hx _ h2 h3
    · skip
      refine J_aload_n dX2_on_44 rfl ?_
      refine TG_now dX2_on_45 ?_
      refine J_iload_n dX2_on_48 rfl ?_
      refine J_aload_n dX2_on_49 rfl ?_
      refine TG_kept dX2_on_50 ?_
      refine J_sipush (zI 1353) dX2_on_53 rfl ?_
      refine J_iload_n dX2_on_56 rfl ?_
      refine J_imul_z dX2_on_57 ?_
      refine J_iload_n dX2_on_58 rfl ?_
      refine J_iadd_z dX2_on_59 ?_
      refine TJ_iald 39 (((1353 * k) + i)) ⟨rfl, rfl, by decide⟩ (by omega) (show ((1353 * k) + i) < 4059 by omega) dX2_on_60 ?_
      refine TJ_iast 23 (i) ⟨rfl, rfl, by decide⟩ (by omega) (show i < 33 by omega) dX2_on_61 ?_
      refine J_iinc_z ((((i + 1)) : Nat) : Int) (by omega) dX2_on_62 rfl rfl (by decide) _ rfl ?_
      refine J_goto (tgt := 38) dX2_on_65 (by decide) ?_
      exact ih (i + 1) _ (by omega) (h2.sA (by decide)) (by exact cpy_stepE h3 (h2.2.1 39 (by decide)) (by omega) (by omega)) (by omega)
theorem t_on {E : jEnv} {α : Nat → Nat} {σ : tS} {Q : Option Value → tS → Prop} {kc : Nat → Int} {KH : Nat → Nat → mPl} {KN : Nat → mPl} {k dm : Nat} (hK : tKp kc KH KN σ) (hkc : ∀ k, k < 3 → -1 ≤ kc k ∧ kc k ≤ 40) (hk : k < 3) (hc : kc k = dm) (hq : ∀ σ1, tEq [36] [23, 37] σ σ1 → tPl (KN k).1 (KN k).2 σ1 → tLg dm (KH k) σ1 → Q (some (.int (zI dm))) σ1) : jX2_on E α 0 [some (.ref (α 0)), some (.int (zI (k : Nat))), none] [] σ Q := by
  have hkk := hkc k hk
  obtain ⟨k1, k2⟩ := hK k hk
  rw [hc] at k1
  obtain ⟨k3, k4⟩ := k2 (by omega)
  refine J_iload_n dX2_on_0 rfl ?_
  refine J_iconst (zI 0) dX2_on_1 rfl ?_
  refine J_iconst (zI 2) dX2_on_2 rfl ?_
  refine TC_X2_in (by decide) (Nat.le_of_ble_eq_true rfl) dX2_on_3 ?_
  refine t_in (by unfold zR; omega) (by unfold zR; omega) (by unfold zR; omega) (fun b3 => ?_) (fun b3 => ?_)
  · refine J_ri ?_
    refine J_if_ne_y (tgt := 11) dX2_on_6 (by decide) (by decide) ?_
    refine J_aload_n dX2_on_11 rfl ?_
    refine TG_keptMany dX2_on_12 ?_
    refine J_iload_n dX2_on_15 rfl ?_
    refine TJ_iald 38 (k) ⟨rfl, rfl, by decide⟩ (by omega) (show k < 3 by omega) dX2_on_16 ?_
    refine J_top (zI (dm)) (k1) ?_
    refine J_if_ge_z (tgt := 26) dX2_on_17 (by decide) (by unfold zR; omega) (fun c17 => ?_) (fun c17 => ?_)
    · skip
      refine J_aload_n dX2_on_26 rfl ?_
      refine J_aload_n dX2_on_27 rfl ?_
      refine TG_keptMany dX2_on_28 ?_
      refine J_iload_n dX2_on_31 rfl ?_
      refine TJ_iald 38 (k) ⟨rfl, rfl, by decide⟩ (by omega) (show k < 3 by omega) dX2_on_32 ?_
      refine J_top (zI (dm)) (k1) ?_
      refine TP_deedMany dX2_on_33 ?_
      refine J_iconst (zI 0) dX2_on_36 rfl ?_
      refine J_istore_n dX2_on_37 rfl (by decide) _ rfl ?_
      refine tl_on38 hk (fun σ2 e2 c2 => ?_) _ 0 _ (by omega) tEq.refl cpy_0 (Nat.lt_succ_self _)
      refine J_iconst (zI 0) dX2_on_68 rfl ?_
      refine J_istore_n dX2_on_69 rfl (by decide) _ rfl ?_
      exact tl_on70 (e2.1 36 (by decide)) (by omega) hk (fun σ3 e3 c3 => hq σ3 (((tEq.refl.sI (by decide)).trans (e2.mono (by decide) (by decide))).trans (e3.mono (by decide) (by decide))) (tRow.pl (by rw [e3.2.1 23 (by decide), c2]; exact k3.cpy (o2 := 1353 * k) (o1 := 0) (n := 33) (m := 0) (by omega))) ⟨(e3.1 36 (by decide)).trans (e2.1 36 (by decide)), fun d h2 => by
          rw [c3, e2.2.1 39 (by decide)]
          have := (k4 d (by omega)).cpy (d := σ2.2.1 37) (o1 := 0) (n := 33 * dm) (m := 33 * d) (by omega)
          rwa [Nat.zero_add] at this⟩) _ 0 σ2 (by omega) tEq.refl cpy_0 (Nat.lt_succ_self _)
    · exfalso; omega
  · exfalso; omega
theorem t_has {E : jEnv} {α : Nat → Nat} {σ : tS} {Q : Option Value → tS → Prop} {m k : Nat} (hm : m < 256) (hk : k < 8) (h1 : m.testBit k = true → Q (some (.int (zI 1))) σ) (h0 : m.testBit k = false → Q (some (.int (zI 0))) σ) : jX2_has E α 0 [some (.int (nI m)), some (.int (zI (k : Nat)))] [] σ Q := by
  refine J_iload_n dX2_has_0 rfl ?_
  refine J_iload_n dX2_has_1 rfl ?_
  refine J_ishr dX2_has_2 ?_
  refine J_iconst (zI 1) dX2_has_3 rfl ?_
  refine J_iand dX2_has_4 ?_
  refine J_iconst (zI 1) dX2_has_5 rfl ?_
  have hb := mask_bit m hm k hk
  refine J_icmp_ne (tgt := 13) dX2_has_6 (by decide) (fun c6 => ?_) (fun c6 => ?_)
  · skip
    refine J_iconst (zI 0) dX2_has_13 rfl ?_
    exact J_zret rfl dX2_has_14 rfl (by first | exact h1 (by cases hc : m.testBit k with | true => rfl | false => rw [hb, hc] at c6; exact absurd c6 (by decide)) | exact h0 (by cases hc : m.testBit k with | false => rfl | true => rw [hb, hc] at c6; exact absurd rfl c6))
  · skip
    refine J_iconst (zI 1) dX2_has_9 rfl ?_
    refine J_goto (tgt := 14) dX2_has_10 (by decide) ?_
    exact J_zret rfl dX2_has_14 rfl (by first | exact h1 (by cases hc : m.testBit k with | true => rfl | false => rw [hb, hc] at c6; exact absurd c6 (by decide)) | exact h0 (by cases hc : m.testBit k with | false => rfl | true => rw [hb, hc] at c6; exact absurd rfl c6))
