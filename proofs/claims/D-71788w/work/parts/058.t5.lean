set_option maxRecDepth 100000
/-! the twin: layFree -/
def tFr (l : List rct) (σ : tS) : Prop := σ.1 27 = zI l.length ∧ ∀ k, k < l.length → σ.2.1 28 k = zI (l.getD k (0, 0, 0, 0)).1 ∧ σ.2.1 29 k = zI (l.getD k (0, 0, 0, 0)).2.1 ∧ σ.2.1 30 k = zI (l.getD k (0, 0, 0, 0)).2.2.1 ∧ σ.2.1 31 k = zI (l.getD k (0, 0, 0, 0)).2.2.2
theorem tFr_nil (σ : tS) : tFr [] (setI σ 27 (zI 0)) := ⟨rfl, fun k h => absurd h (by simp)⟩
theorem tFr_push {l : List rct} {σ : tS} {x y w h : Int} (H : tFr l σ) : tFr (l ++ [(x, y, w, h)]) (setI (setA (setA (setA (setA σ 28 (upd (σ.2.1 28) l.length (zI x))) 29 (upd (σ.2.1 29) l.length (zI y))) 30 (upd (σ.2.1 30) l.length (zI w))) 31 (upd (σ.2.1 31) l.length (zI h))) 27 (zI ((l.length : Int) + 1))) := by
  refine ⟨by simp [setI], fun k hk => ?_⟩
  have hk' : k < l.length + 1 := by simpa using hk
  by_cases z : k = l.length
  · subst z
    simp [setI, setA, upd]
  · have h1 := H.2 k (by omega)
    have h2 : (l ++ [(x, y, w, h)]).getD k (0, 0, 0, 0) = l.getD k (0, 0, 0, 0) := by
      rw [List.getD_eq_getElem?_getD, List.getD_eq_getElem?_getD, List.getElem?_append_left (by omega)]
    rw [h2]
    simpa [setI, setA, upd, z] using h1
theorem tG16.gr {wide high : Int} {bl : Int} {G P : Nat → Nat → Int} {page : Int} {many : Nat} {σ : tS} (h : tG16 (gO bl G P page many) σ) (hm : many ≤ 8) (h1 : wide ≤ 16) (h2 : high ≤ 16) : tGr wide high (gO bl G P page many) σ := fun i j a b c d => ⟨h i j a (by omega) c (by omega), by have := gO_b bl G P page i j many; omega⟩
theorem frB_le {wide high : Int} {g : Int → Int → Int} {x y w h h' : Int} (N : ¬ frB wide high g x y w (h + 1)) (K : frB wide high g x y (w + 1) h') : h' ≤ h := by
  by_cases z : h < h'
  · exact absurd (K.sub (by omega) (by omega)) N
  · omega
theorem tFr.eq {l : List rct} {σ σ' : tS} (h : tFr l σ) {I A : List Nat} (e : tEq I A σ σ') (h1 : 27 ∉ I) (h2 : 28 ∉ A) (h3 : 29 ∉ A) (h4 : 30 ∉ A) (h5 : 31 ∉ A) : tFr l σ' := ⟨(e.1 _ h1).trans h.1, fun k hk => by rw [e.2.1 _ h2, e.2.1 _ h3, e.2.1 _ h4, e.2.1 _ h5]; exact h.2 k hk⟩

theorem tl_layFree56 {E : jEnv} {α : Nat → Nat} {σ : tS} {Q : Option Value → tS → Prop} {many : Nat} {wide high bl : Int} {G : Nat → Nat → Int} {g : Int → Int → Int} {page x y w most : Int} (hS : tSh many wide high bl G σ) (hO : shOK many wide high bl G) (hG : tGr wide high g σ) (rx : 0 ≤ x ∧ x < wide) (ry : 0 ≤ y ∧ y < high) (rw : 1 ≤ w ∧ w ≤ 16) (hm : 1 ≤ most ∧ most ≤ high - y) (hmo : ∀ h', frB wide high g x y w h' → h' ≤ most) (hk : ∀ h, 1 ≤ h → h ≤ most → frB wide high g x y w h → ¬ frB wide high g x y w (h + 1) → jX2_layFree E α 84 [some (.ref (α 0)), some (.int (zI (page))), some (.int (zI (y))), some (.int (zI (x))), some (.int (zI (most))), some (.int (zI (w))), some (.int (zI (h)))] [] σ Q) : ∀ (n : Nat) (h : Int), 1 ≤ h → h ≤ most → frB wide high g x y w h → (most - h).toNat < n → jX2_layFree E α 56 [some (.ref (α 0)), some (.int (zI (page))), some (.int (zI (y))), some (.int (zI (x))), some (.int (zI (most))), some (.int (zI (w))), some (.int (zI (h)))] [] σ Q := by
  intro n
  induction n with
  | zero => intro h h1 h2 h3 hn; exact absurd hn (Nat.not_lt_zero _)
  | succ n ih =>
    intro h h1 h2 h3 hn
    have := hO.s
    refine J_iload dX2_layFree_56 rfl ?_
    refine J_iload dX2_layFree_58 rfl ?_
    refine J_icmp_ge_z (tgt := 84) dX2_layFree_60 (by decide) (by unfold zR; omega) (by unfold zR; omega) (fun c60 => ?_) (fun c60 => ?_)
    · skip
      first | exact hk h h1 h2 h3 (fun z => b72 (z.low (by omega) (by omega))) | exact hk h h1 h2 h3 (fun z => by have := hmo _ z; omega)
    · skip
      refine J_aload_n dX2_layFree_63 rfl ?_
      refine J_iload_n dX2_layFree_64 rfl ?_
      refine J_iload_n dX2_layFree_65 rfl ?_
      refine J_iload dX2_layFree_66 rfl ?_
      refine J_iadd_z dX2_layFree_68 ?_
      refine J_iload dX2_layFree_69 rfl ?_
      refine J_iconst (zI 1) dX2_layFree_71 rfl ?_
      refine TC_X2_isFree (by decide) (Nat.le_of_ble_eq_true rfl) dX2_layFree_72 ?_
      refine t_isFree hS hO hG (by omega) (by omega) (by omega) (by omega) (fun b72 => ?_) (fun b72 => ?_)
      · refine J_ri ?_
        refine J_if_eq_n (tgt := 84) dX2_layFree_75 (by decide) (by decide) ?_
        refine J_iinc_z ((h + 1)) (by omega) dX2_layFree_78 rfl rfl (by decide) _ rfl ?_
        refine J_goto (tgt := 56) dX2_layFree_81 (by decide) ?_
        exact ih (h + 1) (by omega) (by omega) (h3.row b72) (by omega)
      · refine J_ri ?_
        refine J_if_eq_y (tgt := 84) dX2_layFree_75 (by decide) (by decide) ?_
        first | exact hk h h1 h2 h3 (fun z => b72 (z.low (by omega) (by omega))) | exact hk h h1 h2 h3 (fun z => by have := hmo _ z; omega)
theorem tl_layFree41 {E : jEnv} {α : Nat → Nat} {σ : tS} {Q : Option Value → tS → Prop} {many : Nat} {wide high bl : Int} {G : Nat → Nat → Int} {P : Nat → Nat → Int} {rule : Int} {page x y : Int} (hS : tSh many wide high bl G σ) (hO : shOK many wide high bl G) (hP : tPl P rule σ) (hN : plOK many P rule) (hV : plV many wide high bl G P) (rp : 0 ≤ page ∧ page ≤ 100) (rx : 0 ≤ x ∧ x < wide) (ry : 0 ≤ y ∧ y < high) (hk : ∀ σ1 l, tEq [27] [26, 28, 29, 30, 31] σ σ1 → tG16 (gO bl G P page many) σ1 → tFr l σ1 → frI wide high (gO bl G P page many) l y (x + 1) 1 → jX2_layFree E α 22 [some (.ref (α 0)), some (.int (zI (page))), some (.int (zI (y))), some (.int (zI (x + 1))), none, none, none] [] σ1 Q) : ∀ (n : Nat) (w most : Int) (l : List rct) (σ1 : tS), 1 ≤ w → w ≤ 17 → 1 ≤ most ∧ most ≤ high - y → (∀ h', frB wide high (gO bl G P page many) x y w h' → h' ≤ most) → tEq [27] [26, 28, 29, 30, 31] σ σ1 → tG16 (gO bl G P page many) σ1 → tFr l σ1 → frI wide high (gO bl G P page many) l y x w → (17 - w).toNat < n → jX2_layFree E α 41 [some (.ref (α 0)), some (.int (zI (page))), some (.int (zI (y))), some (.int (zI (x))), some (.int (zI (most))), some (.int (zI (w))), none] [] σ1 Q := by
  intro n
  induction n with
  | zero => intro w most l σ1 h1 h2 h3 h4 h5 h6 h7 h8 hn; exact absurd hn (Nat.not_lt_zero _)
  | succ n ih =>
    intro w most l σ1 h1 h2 h3 h4 h5 h6 h7 h8 hn
    have := hO.s
    have hS := hS.eq h5 (by decide) (by decide) (by decide) (by decide) (by decide)
    have hG : tGr wide high (gO bl G P page many) σ1 := h6.gr (by omega) (by omega) (by omega)
    have hF := h7
    refine J_aload_n dX2_layFree_41 rfl ?_
    refine J_iload_n dX2_layFree_42 rfl ?_
    refine J_iload_n dX2_layFree_43 rfl ?_
    refine J_iload dX2_layFree_44 rfl ?_
    refine J_iconst (zI 1) dX2_layFree_46 rfl ?_
    refine TC_X2_isFree (by decide) (Nat.le_of_ble_eq_true rfl) dX2_layFree_47 ?_
    refine t_isFree hS hO hG (by omega) (by omega) (by omega) (by omega) (fun b47 => ?_) (fun b47 => ?_)
    · refine J_ri ?_
      have hw : x + w ≤ wide := b47.2.2.1
      refine J_if_eq_n (tgt := 159) dX2_layFree_50 (by decide) (by decide) ?_
      refine J_iconst (zI 1) dX2_layFree_53 rfl ?_
      refine J_istore dX2_layFree_54 rfl (by decide) _ rfl ?_
      refine tl_layFree56 hS hO hG (by omega) (by omega) (by omega) h3 h4 (fun h k1 k2 k3 k4 => ?_) _ 1 (by omega) (by omega) b47 (Nat.lt_succ_self _)
      refine J_iload dX2_layFree_84 rfl ?_
      refine J_istore dX2_layFree_86 rfl (by decide) _ rfl ?_
      refine J_aload_n dX2_layFree_88 rfl ?_
      refine J_iload_n dX2_layFree_89 rfl ?_
      refine J_iload_n dX2_layFree_90 rfl ?_
      refine J_iload dX2_layFree_91 rfl ?_
      refine J_iload dX2_layFree_93 rfl ?_
      refine TC_X2_isGreatest (by decide) (Nat.le_of_ble_eq_true rfl) dX2_layFree_95 ?_
      refine t_isGreatest hS hO hG (by omega) (by omega) (by omega) (by omega) (fun b95 => ?_) (fun b95 => ?_)
      · refine J_ri ?_
        refine J_if_eq_n (tgt := 153) dX2_layFree_98 (by decide) (by decide) ?_
        have := h8.2.2
        refine J_aload_n dX2_layFree_101 rfl ?_
        refine TG_freeX dX2_layFree_102 ?_
        refine J_aload_n dX2_layFree_105 rfl ?_
        refine TG_freeMany dX2_layFree_106 ?_
        refine J_top (zI (l.length)) hF.1 ?_
        refine J_iload_n dX2_layFree_109 rfl ?_
        refine TJ_iast 28 (l.length) ⟨rfl, rfl, by decide⟩ (by omega) (show l.length < 4096 by omega) dX2_layFree_110 ?_
        refine J_aload_n dX2_layFree_111 rfl ?_
        refine TG_freeY dX2_layFree_112 ?_
        refine J_aload_n dX2_layFree_115 rfl ?_
        refine TG_freeMany dX2_layFree_116 ?_
        refine J_top (zI (l.length)) hF.1 ?_
        refine J_iload_n dX2_layFree_119 rfl ?_
        refine TJ_iast 29 (l.length) ⟨rfl, rfl, by decide⟩ (by omega) (show l.length < 4096 by omega) dX2_layFree_120 ?_
        refine J_aload_n dX2_layFree_121 rfl ?_
        refine TG_freeW dX2_layFree_122 ?_
        refine J_aload_n dX2_layFree_125 rfl ?_
        refine TG_freeMany dX2_layFree_126 ?_
        refine J_top (zI (l.length)) hF.1 ?_
        refine J_iload dX2_layFree_129 rfl ?_
        refine TJ_iast 30 (l.length) ⟨rfl, rfl, by decide⟩ (by omega) (show l.length < 4096 by omega) dX2_layFree_131 ?_
        refine J_aload_n dX2_layFree_132 rfl ?_
        refine TG_freeH dX2_layFree_133 ?_
        refine J_aload_n dX2_layFree_136 rfl ?_
        refine TG_freeMany dX2_layFree_137 ?_
        refine J_top (zI (l.length)) hF.1 ?_
        refine J_iload dX2_layFree_140 rfl ?_
        refine TJ_iast 31 (l.length) ⟨rfl, rfl, by decide⟩ (by omega) (show l.length < 4096 by omega) dX2_layFree_142 ?_
        refine J_aload_n dX2_layFree_143 rfl ?_
        refine J_dup dX2_layFree_144 rfl ?_
        refine TG_freeMany dX2_layFree_145 ?_
        refine J_top (zI (l.length)) hF.1 ?_
        refine J_iconst (zI 1) dX2_layFree_148 rfl ?_
        refine J_iadd_z dX2_layFree_149 ?_
        refine TP_freeMany dX2_layFree_150 ?_
        refine J_iinc_z ((w + 1)) (by omega) dX2_layFree_153 rfl rfl (by decide) _ rfl ?_
        refine J_goto (tgt := 41) dX2_layFree_156 (by decide) ?_
        refine J_fg (L' := [some (.ref (α 0)), some (.int (zI (page))), some (.int (zI (y))), some (.int (zI (x))), some (.int (zI (h))), some (.int (zI (w + 1))), none]) (by repeat' constructor) ?_
        first | exact ih (w + 1) h l _ (by omega) (by omega) (by omega) (fun h' z => frB_le k4 z) (by exact h5) (by exact h6) (by exact h7) (h8.skip k3 k1 k4 b95) (by omega) | exact ih (w + 1) h (l ++ [(x, y, w, h)]) _ (by omega) (by omega) (by omega) (fun h' z => frB_le k4 z) (by exact ((((h5.sA (by decide)).sA (by decide)).sA (by decide)).sA (by decide)).sI (by decide)) (by exact h6) (by exact tFr_push h7) (h8.push h1 k3 k1 k4 b95) (by omega)
      · refine J_ri ?_
        refine J_if_eq_y (tgt := 153) dX2_layFree_98 (by decide) (by decide) ?_
        refine J_iinc_z ((w + 1)) (by omega) dX2_layFree_153 rfl rfl (by decide) _ rfl ?_
        refine J_goto (tgt := 41) dX2_layFree_156 (by decide) ?_
        refine J_fg (L' := [some (.ref (α 0)), some (.int (zI (page))), some (.int (zI (y))), some (.int (zI (x))), some (.int (zI (h))), some (.int (zI (w + 1))), none]) (by repeat' constructor) ?_
        first | exact ih (w + 1) h l _ (by omega) (by omega) (by omega) (fun h' z => frB_le k4 z) (by exact h5) (by exact h6) (by exact h7) (h8.skip k3 k1 k4 b95) (by omega) | exact ih (w + 1) h (l ++ [(x, y, w, h)]) _ (by omega) (by omega) (by omega) (fun h' z => frB_le k4 z) (by exact ((((h5.sA (by decide)).sA (by decide)).sA (by decide)).sA (by decide)).sI (by decide)) (by exact h6) (by exact tFr_push h7) (h8.push h1 k3 k1 k4 b95) (by omega)
    · refine J_ri ?_
      refine J_fg (L' := [some (.ref (α 0)), some (.int (zI (page))), some (.int (zI (y))), some (.int (zI (x))), none, none, none]) (by repeat' constructor) ?_
      refine J_if_eq_y (tgt := 159) dX2_layFree_50 (by decide) (by decide) ?_
      refine J_iinc_z ((x + 1)) (by omega) dX2_layFree_159 rfl rfl (by decide) _ rfl ?_
      refine J_goto (tgt := 22) dX2_layFree_162 (by decide) ?_
      exact hk σ1 l h5 h6 h7 (h8.endw h1 h2 b47)
theorem tl_layFree22 {E : jEnv} {α : Nat → Nat} {σ : tS} {Q : Option Value → tS → Prop} {many : Nat} {wide high bl : Int} {G : Nat → Nat → Int} {P : Nat → Nat → Int} {rule : Int} {page y : Int} (hS : tSh many wide high bl G σ) (hO : shOK many wide high bl G) (hP : tPl P rule σ) (hN : plOK many P rule) (hV : plV many wide high bl G P) (rp : 0 ≤ page ∧ page ≤ 100) (ry : 0 ≤ y ∧ y < high) (hk : ∀ σ1 l, tEq [27] [26, 28, 29, 30, 31] σ σ1 → tG16 (gO bl G P page many) σ1 → tFr l σ1 → frI wide high (gO bl G P page many) l (y + 1) 0 1 → jX2_layFree E α 12 [some (.ref (α 0)), some (.int (zI (page))), some (.int (zI (y + 1))), none, none, none, none] [] σ1 Q) : ∀ (n : Nat) (x : Int) (l : List rct) (σ1 : tS), 0 ≤ x → x ≤ wide → tEq [27] [26, 28, 29, 30, 31] σ σ1 → tG16 (gO bl G P page many) σ1 → tFr l σ1 → frI wide high (gO bl G P page many) l y x 1 → (wide - x).toNat < n → jX2_layFree E α 22 [some (.ref (α 0)), some (.int (zI (page))), some (.int (zI (y))), some (.int (zI (x))), none, none, none] [] σ1 Q := by
  intro n
  induction n with
  | zero => intro x l σ1 h1 h2 h3 h4 h5 h6 hn; exact absurd hn (Nat.not_lt_zero _)
  | succ n ih =>
    intro x l σ1 h1 h2 h3 h4 h5 h6 hn
    have := hO.s
    have hS0 := hS
    have hS := hS.eq h3 (by decide) (by decide) (by decide) (by decide) (by decide)
    refine J_iload_n dX2_layFree_22 rfl ?_
    refine J_aload_n dX2_layFree_23 rfl ?_
    refine TG_wide dX2_layFree_24 ?_
    refine J_top (zI (wide)) hS.2.1 ?_
    refine J_icmp_ge_z (tgt := 165) dX2_layFree_27 (by decide) (by unfold zR; omega) (by unfold zR; omega) (fun c27 => ?_) (fun c27 => ?_)
    · skip
      refine J_fg (L' := [some (.ref (α 0)), some (.int (zI (page))), some (.int (zI (y))), none, none, none, none]) (by repeat' constructor) ?_
      refine J_iinc_z ((y + 1)) (by omega) dX2_layFree_165 rfl rfl (by decide) _ rfl ?_
      refine J_goto (tgt := 12) dX2_layFree_168 (by decide) ?_
      exact hk σ1 l h3 h4 h5 (h6.endx (by omega) (by omega))
    · skip
      refine J_aload_n dX2_layFree_30 rfl ?_
      refine TG_high dX2_layFree_31 ?_
      refine J_top (zI (high)) hS.2.2.1 ?_
      refine J_iload_n dX2_layFree_34 rfl ?_
      refine J_isub_z dX2_layFree_35 ?_
      refine J_istore dX2_layFree_36 rfl (by decide) _ rfl ?_
      refine J_iconst (zI 1) dX2_layFree_38 rfl ?_
      refine J_istore dX2_layFree_39 rfl (by decide) _ rfl ?_
      exact tl_layFree41 hS0 hO hP hN hV rp (by omega) (by omega) (fun σ2 l2 e2 g2 f2 i2 => ih (x + 1) l2 σ2 (by omega) (by omega) e2 g2 f2 i2 (by omega)) _ 1 (high - y) l σ1 (by omega) (by omega) (by omega) (fun h z => by have := z.2.2.2.1; omega) h3 h4 h5 h6 (Nat.lt_succ_self _)
theorem tl_layFree12 {E : jEnv} {α : Nat → Nat} {σ : tS} {Q : Option Value → tS → Prop} {many : Nat} {wide high bl : Int} {G : Nat → Nat → Int} {P : Nat → Nat → Int} {rule : Int} {page : Int} (hS : tSh many wide high bl G σ) (hO : shOK many wide high bl G) (hP : tPl P rule σ) (hN : plOK many P rule) (hV : plV many wide high bl G P) (rp : 0 ≤ page ∧ page ≤ 100) (hq : ∀ σ1 l, tEq [27] [26, 28, 29, 30, 31] σ σ1 → tFr l σ1 → frOK wide high (gO bl G P page many) l → Q none σ1) : ∀ (n : Nat) (y : Int) (l : List rct) (σ1 : tS), 0 ≤ y → y ≤ high → tEq [27] [26, 28, 29, 30, 31] σ σ1 → tG16 (gO bl G P page many) σ1 → tFr l σ1 → frI wide high (gO bl G P page many) l y 0 1 → (high - y).toNat < n → jX2_layFree E α 12 [some (.ref (α 0)), some (.int (zI (page))), some (.int (zI (y))), none, none, none, none] [] σ1 Q := by
  intro n
  induction n with
  | zero => intro y l σ1 h1 h2 h3 h4 h5 h6 hn; exact absurd hn (Nat.not_lt_zero _)
  | succ n ih =>
    intro y l σ1 h1 h2 h3 h4 h5 h6 hn
    have := hO.s
    have hS0 := hS
    have hS := hS.eq h3 (by decide) (by decide) (by decide) (by decide) (by decide)
    refine J_iload_n dX2_layFree_12 rfl ?_
    refine J_aload_n dX2_layFree_13 rfl ?_
    refine TG_high dX2_layFree_14 ?_
    refine J_top (zI (high)) hS.2.2.1 ?_
    refine J_icmp_ge_z (tgt := 171) dX2_layFree_17 (by decide) (by unfold zR; omega) (by unfold zR; omega) (fun c17 => ?_) (fun c17 => ?_)
    · skip
      exact J_vret rfl dX2_layFree_171 (by exact hq σ1 l h3 h5 (h6.endy (by omega) (by omega)))
    · skip
      refine J_iconst (zI 0) dX2_layFree_20 rfl ?_
      refine J_istore_n dX2_layFree_21 rfl (by decide) _ rfl ?_
      exact tl_layFree22 hS0 hO hP hN hV rp (by omega) (fun σ2 l2 e2 g2 f2 i2 => ih (y + 1) l2 σ2 (by omega) (by omega) e2 g2 f2 i2 (by omega)) _ 0 l σ1 (by omega) (by omega) h3 h4 h5 h6 (Nat.lt_succ_self _)
theorem t_layFree {E : jEnv} {α : Nat → Nat} {σ : tS} {Q : Option Value → tS → Prop} {many : Nat} {wide high bl : Int} {G : Nat → Nat → Int} {P : Nat → Nat → Int} {rule : Int} {page : Int} (hS : tSh many wide high bl G σ) (hO : shOK many wide high bl G) (hP : tPl P rule σ) (hN : plOK many P rule) (hV : plV many wide high bl G P) (rp : 0 ≤ page ∧ page ≤ 100) (hq : ∀ σ1 l, tEq [27] [26, 28, 29, 30, 31] σ σ1 → tFr l σ1 → frOK wide high (gO bl G P page many) l → Q none σ1) : jX2_layFree E α 0 [some (.ref (α 0)), some (.int (zI (page))), none, none, none, none, none] [] σ Q := by
  have := hO.s
  refine J_aload_n dX2_layFree_0 rfl ?_
  refine J_iload_n dX2_layFree_1 rfl ?_
  refine TC_X2_layGrid (by decide) (Nat.le_of_ble_eq_true rfl) dX2_layFree_2 ?_
  refine t_layGrid hS hO hP hN hV rp (fun σ1 e1 g1 => ?_)
  refine J_rv ?_
  refine J_aload_n dX2_layFree_5 rfl ?_
  refine J_iconst (zI 0) dX2_layFree_6 rfl ?_
  refine TP_freeMany dX2_layFree_7 ?_
  refine J_iconst (zI 0) dX2_layFree_10 rfl ?_
  refine J_istore_n dX2_layFree_11 rfl (by decide) _ rfl ?_
  exact tl_layFree12 hS hO hP hN hV rp hq _ 0 [] _ (by omega) (by omega) ((e1.mono (by decide) (by decide)).sI (by decide)) g1 (tFr_nil σ1) frI.nil (Nat.lt_succ_self _)
