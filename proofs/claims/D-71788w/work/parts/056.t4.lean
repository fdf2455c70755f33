set_option maxRecDepth 100000
/-! the twin: laying the grid, the free rectangles -/
def tG16 (c : Int → Int → Int) (σ : tS) : Prop := ∀ i j : Int, 0 ≤ i → i < 16 → 0 ≤ j → j < 16 → σ.2.1 26 (16 * j + i).toNat = zI (c i j)
theorem tG16.to {c c' : Int → Int → Int} {σ : tS} (h : tG16 c σ) (e : ∀ i j, c i j = c' i j) : tG16 c' σ := fun i j a b p q => (h i j a b p q).trans (by rw [e])
theorem tl_layGrid2 {E : jEnv} {α : Nat → Nat} {σ : tS} {Q : Option Value → tS → Prop} {page : Int} (hk : ∀ σ1, tEq [] [26] σ σ1 → tG16 (fun _ _ => -9) σ1 → jX2_layGrid E α 23 [some (.ref (α 0)), some (.int (zI (page))), none, none, none, none] [] σ1 Q) : ∀ (n : Nat) (k : Nat) (σ1 : tS), k ≤ 256 → tEq [] [26] σ σ1 → (∀ k', k' < k → σ1.2.1 26 k' = zI (-9)) → 256 - k < n → jX2_layGrid E α 2 [some (.ref (α 0)), some (.int (zI (page))), some (.int (zI (k : Nat))), none, none, none] [] σ1 Q := by
  intro n
  induction n with
  | zero => intro k σ1 h1 h2 h3 hn; exact absurd hn (Nat.not_lt_zero _)
  | succ n ih =>
    intro k σ1 h1 h2 h3 hn
    refine J_iload_n dX2_layGrid_2 rfl ?_
    refine J_sipush (zI 256) dX2_layGrid_3 rfl ?_
    refine J_icmp_ge_z (tgt := 23) dX2_layGrid_6 (by decide) (by unfold zR; omega) (by unfold zR; omega) (fun c6 => ?_) (fun c6 => ?_)
    · skip
      refine J_fg (L' := [some (.ref (α 0)), some (.int (zI (page))), none, none, none, none]) (by repeat' constructor) ?_
      exact hk σ1 h2 (fun i j a b c d => h3 _ (by omega))
    · skip
      refine J_aload_n dX2_layGrid_9 rfl ?_
      refine TG_grid dX2_layGrid_10 ?_
      refine J_iload_n dX2_layGrid_13 rfl ?_
      refine J_bipush (zI (-9)) dX2_layGrid_14 rfl ?_
      refine TJ_iast 26 (k) ⟨rfl, rfl, by decide⟩ (by omega) (show k < 256 by omega) dX2_layGrid_16 ?_
      refine J_iinc_z ((((k + 1)) : Nat) : Int) (by omega) dX2_layGrid_17 rfl rfl (by decide) _ rfl ?_
      refine J_goto (tgt := 2) dX2_layGrid_20 (by decide) ?_
      exact ih (k + 1) _ (by omega) (h2.sA (by decide)) (fill_step h3) (by omega)
theorem tl_layGrid75 {E : jEnv} {α : Nat → Nat} {σ : tS} {Q : Option Value → tS → Prop} {many : Nat} {wide high bl : Int} {G : Nat → Nat → Int} {P : Nat → Nat → Int} {rule : Int} {page : Int} {f : Nat} {y : Int}  (hS : tSh many wide high bl G σ) (hO : shOK many wide high bl G) (hP : tPl P rule σ) (hN : plOK many P rule) (hV : plV many wide high bl G P) (hf : f < many) (hpg : P f 0 = page) (rp : 0 ≤ page ∧ page ≤ 100) (hy : 0 ≤ y) (hy2 : y < mNY bl G f (P f 3)) (hk : ∀ σ1, tEq [] [26] σ σ1 → tG16 (gP bl G P page f (y + 1) 0) σ1 → jX2_layGrid E α 61 [some (.ref (α 0)), some (.int (zI (page))), some (.int (zI (f : Nat))), some (.int (zI (P f 3))), some (.int (zI (y + 1))), none] [] σ1 Q) : ∀ (n : Nat) (x : Int) (σ1 : tS), 0 ≤ x → x ≤ mNX bl G f (P f 3) → tEq [] [26] σ σ1 → tG16 (gP bl G P page f y x) σ1 → (mNX bl G f (P f 3) - x).toNat < n → jX2_layGrid E α 75 [some (.ref (α 0)), some (.int (zI (page))), some (.int (zI (f : Nat))), some (.int (zI (P f 3))), some (.int (zI (y))), some (.int (zI (x)))] [] σ1 Q := by
  intro n
  induction n with
  | zero => intro x σ1 h1 h2 h3 h4 hn; exact absurd hn (Nat.not_lt_zero _)
  | succ n ih =>
    intro x σ1 h1 h2 h3 h4 hn
    have := hO.s
    have := hO.g hf
    have := mNX_b hO hf (P f 3)
    have := mNY_b hO hf (P f 3)
    have := hN.1 f hf
    have := hV f hf (by omega)
    have hS := hS.eq h3 (by decide) (by decide) (by decide) (by decide) (by decide)
    have hP := hP.eq h3 (by decide)
    refine J_iload dX2_layGrid_75 rfl ?_
    refine J_aload_n dX2_layGrid_77 rfl ?_
    refine J_iload_n dX2_layGrid_78 rfl ?_
    refine J_iload_n dX2_layGrid_79 rfl ?_
    refine TC_X2_needX (by decide) (Nat.le_of_ble_eq_true rfl) dX2_layGrid_80 ?_
    refine t_needX hS hO (by omega) (by omega) ?_
    refine J_ri ?_
    refine J_icmp_ge_z (tgt := 128) dX2_layGrid_83 (by decide) (by unfold zR; omega) (by unfold zR; omega) (fun c83 => ?_) (fun c83 => ?_)
    · skip
      refine J_fg (L' := [some (.ref (α 0)), some (.int (zI (page))), some (.int (zI (f : Nat))), some (.int (zI (P f 3))), some (.int (zI (y))), none]) (by repeat' constructor) ?_
      refine J_iinc_z ((y + 1)) (by omega) dX2_layGrid_128 rfl rfl (by decide) _ rfl ?_
      refine J_goto (tgt := 61) dX2_layGrid_131 (by decide) ?_
      exact hk σ1 h3 (h4.to (fun i j => gP_row (by omega)))
    · skip
      refine J_aload_n dX2_layGrid_86 rfl ?_
      refine TG_grid dX2_layGrid_87 ?_
      refine J_bipush (zI 16) dX2_layGrid_90 rfl ?_
      refine J_aload_n dX2_layGrid_92 rfl ?_
      refine TG_now dX2_layGrid_93 ?_
      refine J_iconst (zI 4) dX2_layGrid_96 rfl ?_
      refine J_iload_n dX2_layGrid_97 rfl ?_
      refine J_imul_z dX2_layGrid_98 ?_
      refine J_iconst (zI 2) dX2_layGrid_99 rfl ?_
      refine J_iadd_z dX2_layGrid_100 ?_
      refine TJ_iald 23 (((4 * f) + 2)) ⟨rfl, rfl, by decide⟩ (by omega) (show ((4 * f) + 2) < 33 by omega) dX2_layGrid_101 ?_
      refine J_top (zI (P f 2)) (hP.1 f 2 (by omega) (by decide)) ?_
      refine J_iload dX2_layGrid_102 rfl ?_
      refine J_iadd_z dX2_layGrid_104 ?_
      refine J_imul_z dX2_layGrid_105 ?_
      refine J_aload_n dX2_layGrid_106 rfl ?_
      refine TG_now dX2_layGrid_107 ?_
      refine J_iconst (zI 4) dX2_layGrid_110 rfl ?_
      refine J_iload_n dX2_layGrid_111 rfl ?_
      refine J_imul_z dX2_layGrid_112 ?_
      refine J_iconst (zI 1) dX2_layGrid_113 rfl ?_
      refine J_iadd_z dX2_layGrid_114 ?_
      refine TJ_iald 23 (((4 * f) + 1)) ⟨rfl, rfl, by decide⟩ (by omega) (show ((4 * f) + 1) < 33 by omega) dX2_layGrid_115 ?_
      refine J_top (zI (P f 1)) (hP.1 f 1 (by omega) (by decide)) ?_
      refine J_iadd_z dX2_layGrid_116 ?_
      refine J_iload dX2_layGrid_117 rfl ?_
      refine J_iadd_z dX2_layGrid_119 ?_
      refine J_iload_n dX2_layGrid_120 rfl ?_
      refine TJ_iast 26 ((16 * (P f 2 + y) + (P f 1 + x)).toNat) ⟨rfl, rfl, by decide⟩ (by omega) (show (16 * (P f 2 + y) + (P f 1 + x)).toNat < 256 by omega) dX2_layGrid_121 ?_
      refine J_iinc_z ((x + 1)) (by omega) dX2_layGrid_122 rfl rfl (by decide) _ rfl ?_
      refine J_goto (tgt := 75) dX2_layGrid_125 (by decide) ?_
      exact ih (x + 1) _ (by omega) (by omega) (h3.sA (by decide)) (grid_put h4 (by omega) (by omega) (gP_at (by omega) (by omega) (by omega)) (fun i j z => gP_ne z)) (by omega)
theorem tl_layGrid61 {E : jEnv} {α : Nat → Nat} {σ : tS} {Q : Option Value → tS → Prop} {many : Nat} {wide high bl : Int} {G : Nat → Nat → Int} {P : Nat → Nat → Int} {rule : Int} {page : Int} {f : Nat}  (hS : tSh many wide high bl G σ) (hO : shOK many wide high bl G) (hP : tPl P rule σ) (hN : plOK many P rule) (hV : plV many wide high bl G P) (hf : f < many) (hpg : P f 0 = page) (rp : 0 ≤ page ∧ page ≤ 100) (hk : ∀ σ1, tEq [] [26] σ σ1 → tG16 (gO bl G P page (f + 1)) σ1 → jX2_layGrid E α 25 [some (.ref (α 0)), some (.int (zI (page))), some (.int (zI ((f + 1 : Nat)))), none, none, none] [] σ1 Q) : ∀ (n : Nat) (y : Int) (σ1 : tS), 0 ≤ y → y ≤ mNY bl G f (P f 3) → tEq [] [26] σ σ1 → tG16 (gP bl G P page f y 0) σ1 → (mNY bl G f (P f 3) - y).toNat < n → jX2_layGrid E α 61 [some (.ref (α 0)), some (.int (zI (page))), some (.int (zI (f : Nat))), some (.int (zI (P f 3))), some (.int (zI (y))), none] [] σ1 Q := by
  intro n
  induction n with
  | zero => intro y σ1 h1 h2 h3 h4 hn; exact absurd hn (Nat.not_lt_zero _)
  | succ n ih =>
    intro y σ1 h1 h2 h3 h4 hn
    have := hO.s
    have := hO.g hf
    have := mNX_b hO hf (P f 3)
    have := mNY_b hO hf (P f 3)
    have := hN.1 f hf
    have := hV f hf (by omega)
    have hS0 := hS
    have hP0 := hP
    have hS := hS.eq h3 (by decide) (by decide) (by decide) (by decide) (by decide)
    have hP := hP.eq h3 (by decide)
    refine J_iload dX2_layGrid_61 rfl ?_
    refine J_aload_n dX2_layGrid_63 rfl ?_
    refine J_iload_n dX2_layGrid_64 rfl ?_
    refine J_iload_n dX2_layGrid_65 rfl ?_
    refine TC_X2_needY (by decide) (Nat.le_of_ble_eq_true rfl) dX2_layGrid_66 ?_
    refine t_needY hS hO (by omega) (by omega) ?_
    refine J_ri ?_
    refine J_icmp_ge_z (tgt := 134) dX2_layGrid_69 (by decide) (by unfold zR; omega) (by unfold zR; omega) (fun c69 => ?_) (fun c69 => ?_)
    · skip
      refine J_fg (L' := [some (.ref (α 0)), some (.int (zI (page))), some (.int (zI (f : Nat))), none, none, none]) (by repeat' constructor) ?_
      refine J_iinc_z ((((f + 1)) : Nat) : Int) (by omega) dX2_layGrid_134 rfl rfl (by decide) _ rfl ?_
      refine J_goto (tgt := 25) dX2_layGrid_137 (by decide) ?_
      exact hk σ1 h3 (h4.to (fun i j => gP_end hpg (by omega)))
    · skip
      refine J_iconst (zI 0) dX2_layGrid_72 rfl ?_
      refine J_istore dX2_layGrid_73 rfl (by decide) _ rfl ?_
      exact tl_layGrid75 hS0 hO hP0 hN hV hf hpg rp h1 (by omega) (fun σ2 e2 g2 => ih (y + 1) σ2 (by omega) (by omega) e2 g2 (by omega)) _ 0 σ1 (by omega) (by omega) h3 h4 (Nat.lt_succ_self _)
theorem tl_layGrid25 {E : jEnv} {α : Nat → Nat} {σ : tS} {Q : Option Value → tS → Prop} {many : Nat} {wide high bl : Int} {G : Nat → Nat → Int} {P : Nat → Nat → Int} {rule : Int} {page : Int}  (hS : tSh many wide high bl G σ) (hO : shOK many wide high bl G) (hP : tPl P rule σ) (hN : plOK many P rule) (hV : plV many wide high bl G P) (rp : 0 ≤ page ∧ page ≤ 100) (hq : ∀ σ1, tEq [] [26] σ σ1 → tG16 (gO bl G P page many) σ1 → Q none σ1) : ∀ (n : Nat) (f : Nat) (σ1 : tS), f ≤ many → tEq [] [26] σ σ1 → tG16 (gO bl G P page f) σ1 → many - f < n → jX2_layGrid E α 25 [some (.ref (α 0)), some (.int (zI (page))), some (.int (zI (f : Nat))), none, none, none] [] σ1 Q := by
  intro n
  induction n with
  | zero => intro f σ1 h1 h2 h3 hn; exact absurd hn (Nat.not_lt_zero _)
  | succ n ih =>
    intro f σ1 h1 h2 h3 hn
    have := hO.s
    have hS0 := hS
    have hP0 := hP
    have hS := hS.eq h2 (by decide) (by decide) (by decide) (by decide) (by decide)
    have hP := hP.eq h2 (by decide)
    refine J_iload_n dX2_layGrid_25 rfl ?_
    refine J_aload_n dX2_layGrid_26 rfl ?_
    refine TG_frameMany dX2_layGrid_27 ?_
    refine J_top (zI (many)) hS.1 ?_
    refine J_icmp_ge_z (tgt := 140) dX2_layGrid_30 (by decide) (by unfold zR; omega) (by unfold zR; omega) (fun c30 => ?_) (fun c30 => ?_)
    · skip
      obtain rfl : f = many := by omega
      exact J_vret rfl dX2_layGrid_140 (by exact hq σ1 h2 h3)
    · skip
      have := hN.1 f (by omega)
      refine J_aload_n dX2_layGrid_33 rfl ?_
      refine TG_now dX2_layGrid_34 ?_
      refine J_iconst (zI 4) dX2_layGrid_37 rfl ?_
      refine J_iload_n dX2_layGrid_38 rfl ?_
      refine J_imul_z dX2_layGrid_39 ?_
      refine J_iconst (zI 0) dX2_layGrid_40 rfl ?_
      refine J_iadd_z dX2_layGrid_41 ?_
      refine TJ_iald 23 (((4 * f) + 0)) ⟨rfl, rfl, by decide⟩ (by omega) (show ((4 * f) + 0) < 33 by omega) dX2_layGrid_42 ?_
      refine J_top (zI (P f 0)) (hP.1 f 0 (by omega) (by decide)) ?_
      refine J_iload_n dX2_layGrid_43 rfl ?_
      refine J_icmp_ne_z (tgt := 134) dX2_layGrid_44 (by decide) (by unfold zR; omega) (by unfold zR; omega) (fun c44 => ?_) (fun c44 => ?_)
      · skip
        refine J_iinc_z ((((f + 1)) : Nat) : Int) (by omega) dX2_layGrid_134 rfl rfl (by decide) _ rfl ?_
        refine J_goto (tgt := 25) dX2_layGrid_137 (by decide) ?_
        exact ih (f + 1) σ1 (by omega) h2 (h3.to (fun i j => (gO_skip c44).symm)) (by omega)
      · skip
        refine J_aload_n dX2_layGrid_47 rfl ?_
        refine TG_now dX2_layGrid_48 ?_
        refine J_iconst (zI 4) dX2_layGrid_51 rfl ?_
        refine J_iload_n dX2_layGrid_52 rfl ?_
        refine J_imul_z dX2_layGrid_53 ?_
        refine J_iconst (zI 3) dX2_layGrid_54 rfl ?_
        refine J_iadd_z dX2_layGrid_55 ?_
        refine TJ_iald 23 (((4 * f) + 3)) ⟨rfl, rfl, by decide⟩ (by omega) (show ((4 * f) + 3) < 33 by omega) dX2_layGrid_56 ?_
        refine J_top (zI (P f 3)) (hP.1 f 3 (by omega) (by decide)) ?_
        refine J_istore_n dX2_layGrid_57 rfl (by decide) _ rfl ?_
        refine J_iconst (zI 0) dX2_layGrid_58 rfl ?_
        refine J_istore dX2_layGrid_59 rfl (by decide) _ rfl ?_
        exact tl_layGrid61 hS0 hO hP0 hN hV (by omega) c44 rp (fun σ2 e2 g2 => ih (f + 1) σ2 (by omega) e2 g2 (by omega)) _ 0 σ1 (by omega) (by have := mNY_b hO (f := f) (by omega) (P f 3); omega) h2 (h3.to (fun i j => gP_0.symm)) (Nat.lt_succ_self _)
theorem t_layGrid {E : jEnv} {α : Nat → Nat} {σ : tS} {Q : Option Value → tS → Prop} {many : Nat} {wide high bl : Int} {G : Nat → Nat → Int} {P : Nat → Nat → Int} {rule : Int} {page : Int}  (hS : tSh many wide high bl G σ) (hO : shOK many wide high bl G) (hP : tPl P rule σ) (hN : plOK many P rule) (hV : plV many wide high bl G P) (rp : 0 ≤ page ∧ page ≤ 100) (hq : ∀ σ1, tEq [] [26] σ σ1 → tG16 (gO bl G P page many) σ1 → Q none σ1) : jX2_layGrid E α 0 [some (.ref (α 0)), some (.int (zI (page))), none, none, none, none] [] σ Q := by
  refine J_iconst (zI 0) dX2_layGrid_0 rfl ?_
  refine J_istore_n dX2_layGrid_1 rfl (by decide) _ rfl ?_
  refine tl_layGrid2 (σ := σ) (fun σ1 e1 g1 => ?_) _ 0 σ (by omega) tEq.refl (fun k h => absurd h (by omega)) (Nat.lt_succ_self _)
  refine J_iconst (zI 0) dX2_layGrid_23 rfl ?_
  refine J_istore_n dX2_layGrid_24 rfl (by decide) _ rfl ?_
  exact tl_layGrid25 hS hO hP hN hV rp hq _ 0 σ1 (by omega) e1 g1 (Nat.lt_succ_self _)
