set_option maxRecDepth 100000
/-! the twin: pages, the grid, free rectangles -/
theorem tl_pageMany {E : jEnv} {α : Nat → Nat} {σ : tS} {Q : Option Value → tS → Prop} {many : Nat} {wide high bl : Int} {G : Nat → Nat → Int} {P : Nat → Nat → Int} {rule : Int}  (hS : tSh many wide high bl G σ) (hO : shOK many wide high bl G) (hP : tPl P rule σ) (hN : plOK many P rule) (hq : Q (some (.int (zI (pgM P many)))) σ) : ∀ (n : Nat) (f : Nat), f ≤ many → many - f < n → jX2_pageMany E α 4 [some (.ref (α 0)), some (.int (zI (pgM P f))), some (.int (zI (f : Nat)))] [] σ Q := by
  intro n
  induction n with
  | zero => intro f h1 hn; exact absurd hn (Nat.not_lt_zero _)
  | succ n ih =>
    intro f h1 hn
    have := hO.s
    have := pgM_b hN f h1
    refine J_iload_n dX2_pageMany_4 rfl ?_
    refine J_aload_n dX2_pageMany_5 rfl ?_
    refine TG_frameMany dX2_pageMany_6 ?_
    refine J_top (zI (many)) hS.1 ?_
    refine J_icmp_ge_z (tgt := 49) dX2_pageMany_9 (by decide) (by unfold zR; omega) (by unfold zR; omega) (fun c9 => ?_) (fun c9 => ?_)
    · skip
      obtain rfl : f = many := by omega
      refine J_iload_n dX2_pageMany_49 rfl ?_
      exact J_iret rfl dX2_pageMany_50 (by exact hq)
    · skip
      have := hN.1 f (by omega)
      refine J_aload_n dX2_pageMany_12 rfl ?_
      refine TG_now dX2_pageMany_13 ?_
      refine J_iconst (zI 4) dX2_pageMany_16 rfl ?_
      refine J_iload_n dX2_pageMany_17 rfl ?_
      refine J_imul_z dX2_pageMany_18 ?_
      refine J_iconst (zI 0) dX2_pageMany_19 rfl ?_
      refine J_iadd_z dX2_pageMany_20 ?_
      refine TJ_iald 23 (((4 * f) + 0)) ⟨rfl, rfl, by decide⟩ (by omega) (show ((4 * f) + 0) < 33 by omega) dX2_pageMany_21 ?_
      refine J_top (zI (P f 0)) (hP.1 f 0 (by omega) (by decide)) ?_
      refine J_iload_n dX2_pageMany_22 rfl ?_
      refine J_icmp_lt_z (tgt := 41) dX2_pageMany_23 (by decide) (by unfold zR; omega) (by unfold zR; omega) (fun c23 => ?_) (fun c23 => ?_)
      · skip
        refine J_iload_n dX2_pageMany_41 rfl ?_
        refine J_top (zI (pgM P (f + 1))) (congrArg zI (by simp only [pgM]; split <;> omega)) ?_
        refine J_istore_n dX2_pageMany_42 rfl (by decide) _ rfl ?_
        refine J_iinc_z ((((f + 1)) : Nat) : Int) (by omega) dX2_pageMany_43 rfl rfl (by decide) _ rfl ?_
        refine J_goto (tgt := 4) dX2_pageMany_46 (by decide) ?_
        exact ih (f + 1) (by omega) (by omega)
      · skip
        refine J_aload_n dX2_pageMany_26 rfl ?_
        refine TG_now dX2_pageMany_27 ?_
        refine J_iconst (zI 4) dX2_pageMany_30 rfl ?_
        refine J_iload_n dX2_pageMany_31 rfl ?_
        refine J_imul_z dX2_pageMany_32 ?_
        refine J_iconst (zI 0) dX2_pageMany_33 rfl ?_
        refine J_iadd_z dX2_pageMany_34 ?_
        refine TJ_iald 23 (((4 * f) + 0)) ⟨rfl, rfl, by decide⟩ (by omega) (show ((4 * f) + 0) < 33 by omega) dX2_pageMany_35 ?_
        refine J_top (zI (P f 0)) (hP.1 f 0 (by omega) (by decide)) ?_
        refine J_iconst (zI 1) dX2_pageMany_36 rfl ?_
        refine J_iadd_z dX2_pageMany_37 ?_
        refine J_goto (tgt := 42) dX2_pageMany_38 (by decide) ?_
        refine J_top (zI (pgM P (f + 1))) (congrArg zI (by simp only [pgM]; split <;> omega)) ?_
        refine J_istore_n dX2_pageMany_42 rfl (by decide) _ rfl ?_
        refine J_iinc_z ((((f + 1)) : Nat) : Int) (by omega) dX2_pageMany_43 rfl rfl (by decide) _ rfl ?_
        refine J_goto (tgt := 4) dX2_pageMany_46 (by decide) ?_
        exact ih (f + 1) (by omega) (by omega)
theorem t_pageMany {E : jEnv} {α : Nat → Nat} {σ : tS} {Q : Option Value → tS → Prop} {many : Nat} {wide high bl : Int} {G : Nat → Nat → Int} {P : Nat → Nat → Int} {rule : Int}  (hS : tSh many wide high bl G σ) (hO : shOK many wide high bl G) (hP : tPl P rule σ) (hN : plOK many P rule) (hq : Q (some (.int (zI (pgM P many)))) σ) : jX2_pageMany E α 0 [some (.ref (α 0)), none, none] [] σ Q := by
  refine J_iconst (zI 0) dX2_pageMany_0 rfl ?_
  refine J_istore_n dX2_pageMany_1 rfl (by decide) _ rfl ?_
  refine J_iconst (zI 0) dX2_pageMany_2 rfl ?_
  refine J_istore_n dX2_pageMany_3 rfl (by decide) _ rfl ?_
  exact tl_pageMany hS hO hP hN hq _ 0 (by omega) (Nat.lt_succ_self _)
theorem t_isPage {E : jEnv} {α : Nat → Nat} {σ : tS} {Q : Option Value → tS → Prop} {many : Nat} {wide high bl : Int} {G : Nat → Nat → Int} {P : Nat → Nat → Int} {rule : Int} {v : Int} (hS : tSh many wide high bl G σ) (hO : shOK many wide high bl G) (hP : tPl P rule σ) (hN : plOK many P rule) (rv : zR v) (h1 : 0 ≤ v ∧ v < pgM P many → Q (some (.int (zI 1))) σ) (h0 : ¬ (0 ≤ v ∧ v < pgM P many) → Q (some (.int (zI 0))) σ) : jX2_isPage E α 0 [some (.ref (α 0)), some (.int (zI (v)))] [] σ Q := by
  have := hO.s
  have := pgM_b hN many (Nat.le_refl _)
  refine J_iload_n dX2_isPage_0 rfl ?_
  refine J_iconst (zI 0) dX2_isPage_1 rfl ?_
  refine J_aload_n dX2_isPage_2 rfl ?_
  refine TC_X2_pageMany (by decide) (Nat.le_of_ble_eq_true rfl) dX2_isPage_3 ?_
  refine t_pageMany hS hO hP hN  ?_
  refine J_ri ?_
  refine J_iconst (zI 1) dX2_isPage_6 rfl ?_
  refine J_isub_z dX2_isPage_7 ?_
  refine TC_X2_in (by decide) (Nat.le_of_ble_eq_true rfl) dX2_isPage_8 ?_
  refine t_in (by unfold zR at *; omega) (by unfold zR at *; omega) (by unfold zR at *; omega) (fun b8 => ?_) (fun b8 => ?_)
  · refine J_ri ?_
    exact J_zret rfl dX2_isPage_11 rfl (by first | exact h1 (by omega) | exact h0 (by omega))
  · refine J_ri ?_
    exact J_zret rfl dX2_isPage_11 rfl (by first | exact h1 (by omega) | exact h0 (by omega))
def tGr (wide high : Int) (g : Int → Int → Int) (σ : tS) : Prop := ∀ i j : Int, 0 ≤ i → i < wide → 0 ≤ j → j < high → σ.2.1 26 (16 * j + i).toNat = zI (g i j) ∧ -9 ≤ g i j ∧ g i j ≤ 8
theorem tl_isFree46 {E : jEnv} {α : Nat → Nat} {σ : tS} {Q : Option Value → tS → Prop} {many : Nat} {wide high bl : Int} {G : Nat → Nat → Int} {g : Int → Int → Int} {x y w h : Int} {j : Int}  (hS : tSh many wide high bl G σ) (hO : shOK many wide high bl G) (hG : tGr wide high g σ) (rx : -20 ≤ x ∧ x ≤ 40) (ry : -20 ≤ y ∧ y ≤ 40) (rw : 0 ≤ w ∧ w ≤ 40) (rh : 0 ≤ h ∧ h ≤ 40) (q1 : frB wide high g x y w h → Q (some (.int (zI 1))) σ) (q0 : ¬ frB wide high g x y w h → Q (some (.int (zI 0))) σ) (hx0 : 0 ≤ x) (hy0 : 0 ≤ y) (hxw : x + w ≤ wide) (hyh : y + h ≤ high) (hj1 : y ≤ j) (hj2 : j < y + h) (hk : (∀ i, x ≤ i → i < x + w → g i j = -9) → jX2_isFree E α 34 [some (.ref (α 0)), some (.int (zI x)), some (.int (zI y)), some (.int (zI w)), some (.int (zI h)), some (.int (zI (j + 1))), none] [] σ Q) : ∀ (n : Nat) (i : Int), x ≤ i → i ≤ x + w → (∀ i', x ≤ i' → i' < i → g i' j = -9) → (x + w - i).toNat < n → jX2_isFree E α 46 [some (.ref (α 0)), some (.int (zI (x))), some (.int (zI (y))), some (.int (zI (w))), some (.int (zI (h))), some (.int (zI (j))), some (.int (zI (i)))] [] σ Q := by
  intro n
  induction n with
  | zero => intro i h1 h2 h3 hn; exact absurd hn (Nat.not_lt_zero _)
  | succ n ih =>
    intro i h1 h2 h3 hn
    have := hO.s
    refine J_iload dX2_isFree_46 rfl ?_
    refine J_iload_n dX2_isFree_48 rfl ?_
    refine J_iload_n dX2_isFree_49 rfl ?_
    refine J_iadd_z dX2_isFree_50 ?_
    refine J_icmp_ge_z (tgt := 80) dX2_isFree_51 (by decide) (by unfold zR; omega) (by unfold zR; omega) (fun c51 => ?_) (fun c51 => ?_)
    · skip
      refine J_fg (L' := [some (.ref (α 0)), some (.int (zI x)), some (.int (zI y)), some (.int (zI w)), some (.int (zI h)), some (.int (zI j)), none]) (by repeat' constructor) ?_
      refine J_iinc_z ((j + 1)) (by omega) dX2_isFree_80 rfl rfl (by decide) _ rfl ?_
      refine J_goto (tgt := 34) dX2_isFree_83 (by decide) ?_
      exact hk (fun i' a b => h3 i' a (by omega))
    · skip
      have hg := hG i j (by omega) (by omega) (by omega) (by omega)
      refine J_aload_n dX2_isFree_54 rfl ?_
      refine TG_grid dX2_isFree_55 ?_
      refine J_bipush (zI 16) dX2_isFree_58 rfl ?_
      refine J_iload dX2_isFree_60 rfl ?_
      refine J_imul_z dX2_isFree_62 ?_
      refine J_iload dX2_isFree_63 rfl ?_
      refine J_iadd_z dX2_isFree_65 ?_
      refine TJ_iald 26 ((((16 * j) + i)).toNat) ⟨rfl, rfl, by decide⟩ (by omega) (show (((16 * j) + i)).toNat < 256 by omega) dX2_isFree_66 ?_
      refine J_top (zI (g i j)) (hg.1) ?_
      refine J_bipush (zI (-9)) dX2_isFree_67 rfl ?_
      refine J_icmp_eq_z (tgt := 74) dX2_isFree_69 (by decide) (by unfold zR; omega) (by unfold zR; omega) (fun c69 => ?_) (fun c69 => ?_)
      · skip
        refine J_iinc_z ((i + 1)) (by omega) dX2_isFree_74 rfl rfl (by decide) _ rfl ?_
        refine J_goto (tgt := 46) dX2_isFree_77 (by decide) ?_
        exact ih (i + 1) (by omega) (by omega) (fun i' a b => (Decidable.byCases (fun z : i' = i => by rw [z]; exact c69) (fun z => h3 i' a (by omega)))) (by omega)
      · skip
        refine J_iconst (zI 0) dX2_isFree_72 rfl ?_
        exact J_zret rfl dX2_isFree_73 rfl (by exact q0 (fun z => c69 (z.2.2.2.2 i j (by omega) (by omega) (by omega) (by omega))))
theorem tl_isFree34 {E : jEnv} {α : Nat → Nat} {σ : tS} {Q : Option Value → tS → Prop} {many : Nat} {wide high bl : Int} {G : Nat → Nat → Int} {g : Int → Int → Int} {x y w h : Int}  (hS : tSh many wide high bl G σ) (hO : shOK many wide high bl G) (hG : tGr wide high g σ) (rx : -20 ≤ x ∧ x ≤ 40) (ry : -20 ≤ y ∧ y ≤ 40) (rw : 0 ≤ w ∧ w ≤ 40) (rh : 0 ≤ h ∧ h ≤ 40) (q1 : frB wide high g x y w h → Q (some (.int (zI 1))) σ) (q0 : ¬ frB wide high g x y w h → Q (some (.int (zI 0))) σ) (hx0 : 0 ≤ x) (hy0 : 0 ≤ y) (hxw : x + w ≤ wide) (hyh : y + h ≤ high)  : ∀ (n : Nat) (j : Int), y ≤ j → j ≤ y + h → (∀ i j', x ≤ i → i < x + w → y ≤ j' → j' < j → g i j' = -9) → (y + h - j).toNat < n → jX2_isFree E α 34 [some (.ref (α 0)), some (.int (zI (x))), some (.int (zI (y))), some (.int (zI (w))), some (.int (zI (h))), some (.int (zI (j))), none] [] σ Q := by
  intro n
  induction n with
  | zero => intro j h1 h2 h3 hn; exact absurd hn (Nat.not_lt_zero _)
  | succ n ih =>
    intro j h1 h2 h3 hn
    have := hO.s
    refine J_iload dX2_isFree_34 rfl ?_
    refine J_iload_n dX2_isFree_36 rfl ?_
    refine J_iload dX2_isFree_37 rfl ?_
    refine J_iadd_z dX2_isFree_39 ?_
    refine J_icmp_ge_z (tgt := 86) dX2_isFree_40 (by decide) (by unfold zR; omega) (by unfold zR; omega) (fun c40 => ?_) (fun c40 => ?_)
    · skip
      refine J_iconst (zI 1) dX2_isFree_86 rfl ?_
      exact J_zret rfl dX2_isFree_87 rfl (by exact q1 ⟨by omega, by omega, by omega, by omega, fun i j' a b c d => h3 i j' a b c (by omega)⟩)
    · skip
      refine J_iload_n dX2_isFree_43 rfl ?_
      refine J_istore dX2_isFree_44 rfl (by decide) _ rfl ?_
      exact tl_isFree46 hS hO hG rx ry rw rh q1 q0 hx0 hy0 hxw hyh h1 (by omega) (fun hr => ih (j + 1) (by omega) (by omega) (fun i j' a b c d => (Decidable.byCases (fun z : j' = j => by rw [z]; exact hr i a b) (fun z => h3 i j' a b c (by omega)))) (by omega)) _ x (by omega) (by omega) (fun i' a b => absurd a (by omega)) (Nat.lt_succ_self _)
theorem t_isFree {E : jEnv} {α : Nat → Nat} {σ : tS} {Q : Option Value → tS → Prop} {many : Nat} {wide high bl : Int} {G : Nat → Nat → Int} {g : Int → Int → Int} {x y w h : Int}  (hS : tSh many wide high bl G σ) (hO : shOK many wide high bl G) (hG : tGr wide high g σ) (rx : -20 ≤ x ∧ x ≤ 40) (ry : -20 ≤ y ∧ y ≤ 40) (rw : 0 ≤ w ∧ w ≤ 40) (rh : 0 ≤ h ∧ h ≤ 40) (q1 : frB wide high g x y w h → Q (some (.int (zI 1))) σ) (q0 : ¬ frB wide high g x y w h → Q (some (.int (zI 0))) σ)  : jX2_isFree E α 0 [some (.ref (α 0)), some (.int (zI (x))), some (.int (zI (y))), some (.int (zI (w))), some (.int (zI (h))), none, none] [] σ Q := by
  have := hO.s
  refine J_iload_n dX2_isFree_0 rfl ?_
  refine J_if_lt_z (tgt := 29) dX2_isFree_1 (by decide) (by unfold zR; omega) (fun c1 => ?_) (fun c1 => ?_)
  · skip
    refine J_iconst (zI 0) dX2_isFree_29 rfl ?_
    exact J_zret rfl dX2_isFree_30 rfl (by exact q0 (fun z => by have := z.1; have := z.2.1; have := z.2.2.1; have := z.2.2.2.1; omega))
  · skip
    refine J_iload_n dX2_isFree_4 rfl ?_
    refine J_if_lt_z (tgt := 29) dX2_isFree_5 (by decide) (by unfold zR; omega) (fun c5 => ?_) (fun c5 => ?_)
    · skip
      refine J_iconst (zI 0) dX2_isFree_29 rfl ?_
      exact J_zret rfl dX2_isFree_30 rfl (by exact q0 (fun z => by have := z.1; have := z.2.1; have := z.2.2.1; have := z.2.2.2.1; omega))
    · skip
      refine J_iload_n dX2_isFree_8 rfl ?_
      refine J_iload_n dX2_isFree_9 rfl ?_
      refine J_iadd_z dX2_isFree_10 ?_
      refine J_aload_n dX2_isFree_11 rfl ?_
      refine TG_wide dX2_isFree_12 ?_
      refine J_top (zI (wide)) hS.2.1 ?_
      refine J_icmp_gt_z (tgt := 29) dX2_isFree_15 (by decide) (by unfold zR; omega) (by unfold zR; omega) (fun c15 => ?_) (fun c15 => ?_)
      · skip
        refine J_iconst (zI 0) dX2_isFree_29 rfl ?_
        exact J_zret rfl dX2_isFree_30 rfl (by exact q0 (fun z => by have := z.1; have := z.2.1; have := z.2.2.1; have := z.2.2.2.1; omega))
      · skip
        refine J_iload_n dX2_isFree_18 rfl ?_
        refine J_iload dX2_isFree_19 rfl ?_
        refine J_iadd_z dX2_isFree_21 ?_
        refine J_aload_n dX2_isFree_22 rfl ?_
        refine TG_high dX2_isFree_23 ?_
        refine J_top (zI (high)) hS.2.2.1 ?_
        refine J_icmp_le_z (tgt := 31) dX2_isFree_26 (by decide) (by unfold zR; omega) (by unfold zR; omega) (fun c26 => ?_) (fun c26 => ?_)
        · skip
          refine J_iload_n dX2_isFree_31 rfl ?_
          refine J_istore dX2_isFree_32 rfl (by decide) _ rfl ?_
          exact tl_isFree34 hS hO hG rx ry rw rh q1 q0 (by omega) (by omega) (by omega) (by omega) _ y (by omega) (by omega) (fun i j a b c d => absurd c (by omega)) (Nat.lt_succ_self _)
        · skip
          refine J_iconst (zI 0) dX2_isFree_29 rfl ?_
          exact J_zret rfl dX2_isFree_30 rfl (by exact q0 (fun z => by have := z.1; have := z.2.1; have := z.2.2.1; have := z.2.2.2.1; omega))
theorem t_isGreatest {E : jEnv} {α : Nat → Nat} {σ : tS} {Q : Option Value → tS → Prop} {many : Nat} {wide high bl : Int} {G : Nat → Nat → Int} {g : Int → Int → Int} {x y w h : Int}  (hS : tSh many wide high bl G σ) (hO : shOK many wide high bl G) (hG : tGr wide high g σ) (rx : 0 ≤ x ∧ x ≤ 16) (ry : 0 ≤ y ∧ y ≤ 16) (rw : 1 ≤ w ∧ w ≤ 16) (rh : 1 ≤ h ∧ h ≤ 16) (q1 : frG wide high g x y w h → Q (some (.int (zI 1))) σ) (q0 : ¬ frG wide high g x y w h → Q (some (.int (zI 0))) σ)  : jX2_isGreatest E α 0 [some (.ref (α 0)), some (.int (zI (x))), some (.int (zI (y))), some (.int (zI (w))), some (.int (zI (h)))] [] σ Q := by
  refine J_aload_n dX2_isGreatest_0 rfl ?_
  refine J_iload_n dX2_isGreatest_1 rfl ?_
  refine J_iconst (zI 1) dX2_isGreatest_2 rfl ?_
  refine J_isub_z dX2_isGreatest_3 ?_
  refine J_iload_n dX2_isGreatest_4 rfl ?_
  refine J_iconst (zI 1) dX2_isGreatest_5 rfl ?_
  refine J_iload dX2_isGreatest_6 rfl ?_
  refine TC_X2_isFree (by decide) (Nat.le_of_ble_eq_true rfl) dX2_isGreatest_8 ?_
  refine t_isFree hS hO hG (by omega) (by omega) (by omega) (by omega) (fun b8 => ?_) (fun b8 => ?_)
  · refine J_ri ?_
    refine J_if_ne_y (tgt := 59) dX2_isGreatest_11 (by decide) (by decide) ?_
    refine J_iconst (zI 0) dX2_isGreatest_59 rfl ?_
    exact J_zret rfl dX2_isGreatest_60 rfl (by first | exact q1 ⟨b8, b21, b35, b49⟩ | exact q0 (fun z => z.1 b8) | exact q0 (fun z => z.2.1 b21) | exact q0 (fun z => z.2.2.1 b35) | exact q0 (fun z => z.2.2.2 b49))
  · refine J_ri ?_
    refine J_if_ne_n (tgt := 59) dX2_isGreatest_11 (by decide) (by decide) ?_
    refine J_aload_n dX2_isGreatest_14 rfl ?_
    refine J_iload_n dX2_isGreatest_15 rfl ?_
    refine J_iload_n dX2_isGreatest_16 rfl ?_
    refine J_iconst (zI 1) dX2_isGreatest_17 rfl ?_
    refine J_isub_z dX2_isGreatest_18 ?_
    refine J_iload_n dX2_isGreatest_19 rfl ?_
    refine J_iconst (zI 1) dX2_isGreatest_20 rfl ?_
    refine TC_X2_isFree (by decide) (Nat.le_of_ble_eq_true rfl) dX2_isGreatest_21 ?_
    refine t_isFree hS hO hG (by omega) (by omega) (by omega) (by omega) (fun b21 => ?_) (fun b21 => ?_)
    · refine J_ri ?_
      refine J_if_ne_y (tgt := 59) dX2_isGreatest_24 (by decide) (by decide) ?_
      refine J_iconst (zI 0) dX2_isGreatest_59 rfl ?_
      exact J_zret rfl dX2_isGreatest_60 rfl (by first | exact q1 ⟨b8, b21, b35, b49⟩ | exact q0 (fun z => z.1 b8) | exact q0 (fun z => z.2.1 b21) | exact q0 (fun z => z.2.2.1 b35) | exact q0 (fun z => z.2.2.2 b49))
    · refine J_ri ?_
      refine J_if_ne_n (tgt := 59) dX2_isGreatest_24 (by decide) (by decide) ?_
      refine J_aload_n dX2_isGreatest_27 rfl ?_
      refine J_iload_n dX2_isGreatest_28 rfl ?_
      refine J_iload_n dX2_isGreatest_29 rfl ?_
      refine J_iadd_z dX2_isGreatest_30 ?_
      refine J_iload_n dX2_isGreatest_31 rfl ?_
      refine J_iconst (zI 1) dX2_isGreatest_32 rfl ?_
      refine J_iload dX2_isGreatest_33 rfl ?_
      refine TC_X2_isFree (by decide) (Nat.le_of_ble_eq_true rfl) dX2_isGreatest_35 ?_
      refine t_isFree hS hO hG (by omega) (by omega) (by omega) (by omega) (fun b35 => ?_) (fun b35 => ?_)
      · refine J_ri ?_
        refine J_if_ne_y (tgt := 59) dX2_isGreatest_38 (by decide) (by decide) ?_
        refine J_iconst (zI 0) dX2_isGreatest_59 rfl ?_
        exact J_zret rfl dX2_isGreatest_60 rfl (by first | exact q1 ⟨b8, b21, b35, b49⟩ | exact q0 (fun z => z.1 b8) | exact q0 (fun z => z.2.1 b21) | exact q0 (fun z => z.2.2.1 b35) | exact q0 (fun z => z.2.2.2 b49))
      · refine J_ri ?_
        refine J_if_ne_n (tgt := 59) dX2_isGreatest_38 (by decide) (by decide) ?_
        refine J_aload_n dX2_isGreatest_41 rfl ?_
        refine J_iload_n dX2_isGreatest_42 rfl ?_
        refine J_iload_n dX2_isGreatest_43 rfl ?_
        refine J_iload dX2_isGreatest_44 rfl ?_
        refine J_iadd_z dX2_isGreatest_46 ?_
        refine J_iload_n dX2_isGreatest_47 rfl ?_
        refine J_iconst (zI 1) dX2_isGreatest_48 rfl ?_
        refine TC_X2_isFree (by decide) (Nat.le_of_ble_eq_true rfl) dX2_isGreatest_49 ?_
        refine t_isFree hS hO hG (by omega) (by omega) (by omega) (by omega) (fun b49 => ?_) (fun b49 => ?_)
        · refine J_ri ?_
          refine J_if_ne_y (tgt := 59) dX2_isGreatest_52 (by decide) (by decide) ?_
          refine J_iconst (zI 0) dX2_isGreatest_59 rfl ?_
          exact J_zret rfl dX2_isGreatest_60 rfl (by first | exact q1 ⟨b8, b21, b35, b49⟩ | exact q0 (fun z => z.1 b8) | exact q0 (fun z => z.2.1 b21) | exact q0 (fun z => z.2.2.1 b35) | exact q0 (fun z => z.2.2.2 b49))
        · refine J_ri ?_
          refine J_if_ne_n (tgt := 59) dX2_isGreatest_52 (by decide) (by decide) ?_
          refine J_iconst (zI 1) dX2_isGreatest_55 rfl ?_
          refine J_goto (tgt := 60) dX2_isGreatest_56 (by decide) ?_
          exact J_zret rfl dX2_isGreatest_60 rfl (by first | exact q1 ⟨b8, b21, b35, b49⟩ | exact q0 (fun z => z.1 b8) | exact q0 (fun z => z.2.1 b21) | exact q0 (fun z => z.2.2.1 b35) | exact q0 (fun z => z.2.2.2 b49))
