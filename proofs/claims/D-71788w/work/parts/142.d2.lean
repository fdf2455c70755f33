set_option maxRecDepth 100000
/-! the component: free rectangles -/
def cFn (b : Nat → rct) (σ : cS) : Prop := ∀ i, i < 512 → σ.a 21 i = zI (b i).1 ∧ σ.a 22 i = zI (b i).2.1 ∧ σ.a 23 i = zI (b i).2.2.1 ∧ σ.a 24 i = zI (b i).2.2.2
def upF (b : Nat → rct) (q : Nat) (r : rct) : Nat → rct := fun i => if i = q then r else b i
theorem upF_s {b : Nat → rct} {q : Nat} {r : rct} : upF b q r q = r := if_pos rfl
theorem upF_n {b : Nat → rct} {q i : Nat} {r : rct} (h : i ≠ q) : upF b q r i = b i := if_neg h
def cMove (σ : cS) (p q : Nat) : cS := cAr (cAr (cAr (cAr σ 21 (upd (σ.a 21) q (σ.a 21 p))) 22 (upd (σ.a 22) q (σ.a 22 p))) 23 (upd (σ.a 23) q (σ.a 23 p))) 24 (upd (σ.a 24) q (σ.a 24 p))
def cPsh (σ : cS) (n : Nat) (x y w h : Int) : cS := cI (cAr (cAr (cAr (cAr σ 21 (upd (σ.a 21) n (zI x))) 22 (upd (σ.a 22) n (zI y))) 23 (upd (σ.a 23) n (zI w))) 24 (upd (σ.a 24) n (zI h))) 20 (zI ((n : Int) + 1))
theorem cFn.move {b : Nat → rct} {σ : cS} (h : cFn b σ) {p : Nat} (hp : p < 512) (q : Nat) : cFn (upF b q (b p)) (cMove σ p q) := by
  intro i hi
  show upd (σ.a 21) q (σ.a 21 p) i = _ ∧ upd (σ.a 22) q (σ.a 22 p) i = _ ∧ upd (σ.a 23) q (σ.a 23 p) i = _ ∧ upd (σ.a 24) q (σ.a 24 p) i = _
  unfold upd upF
  by_cases z : i = q
  · simp only [if_pos z]; exact h p hp
  · simp only [if_neg z]; exact h i hi
theorem cFn.push {b : Nat → rct} {σ : cS} (h : cFn b σ) (n : Nat) (x y w e : Int) : cFn (upF b n (x, y, w, e)) (cPsh σ n x y w e) := by
  intro i hi
  show upd (σ.a 21) n (zI x) i = _ ∧ upd (σ.a 22) n (zI y) i = _ ∧ upd (σ.a 23) n (zI w) i = _ ∧ upd (σ.a 24) n (zI e) i = _
  unfold upd upF
  by_cases z : i = n
  · simp only [if_pos z]; exact ⟨trivial, trivial, trivial, trivial⟩
  · simp only [if_neg z]; exact h i hi
theorem cQ.move {I A : List Nat} {σ τ : cS} (h : cQ I A σ τ) {p q : Nat} (h1 : 21 ∈ A) (h2 : 22 ∈ A) (h3 : 23 ∈ A) (h4 : 24 ∈ A) : cQ I A σ (cMove τ p q) := (((h.sA h1).sA h2).sA h3).sA h4
theorem cQ.push {I A : List Nat} {σ τ : cS} (h : cQ I A σ τ) {n : Nat} {x y w e : Int} (h0 : 20 ∈ I) (h1 : 21 ∈ A) (h2 : 22 ∈ A) (h3 : 23 ∈ A) (h4 : 24 ∈ A) : cQ I A σ (cPsh τ n x y w e) := ((((h.sA h1).sA h2).sA h3).sA h4).sI h0
theorem cFn.ex (σ : cS) : cFn (fun i => ((σ.a 21 i).toInt, (σ.a 22 i).toInt, (σ.a 23 i).toInt, (σ.a 24 i).toInt)) σ := fun i _ => ⟨(Int32.ofInt_toInt _).symm, (Int32.ofInt_toInt _).symm, (Int32.ofInt_toInt _).symm, (Int32.ofInt_toInt _).symm⟩
theorem cFn.up {b : Nat → rct} {I A : List Nat} {σ σ' : cS} (h : cFn b σ) (e : cQ I A σ σ') (h1 : 21 ∉ A) (h2 : 22 ∉ A) (h3 : 23 ∉ A) (h4 : 24 ∉ A) : cFn b σ' := by
  intro i hi
  rw [e.1.2.1 21 h1, e.1.2.1 22 h2, e.1.2.1 23 h3, e.1.2.1 24 h4]
  exact h i hi
/-- the free rectangles are l -/
def cFl (l : List rct) (σ : cS) : Prop := σ.i 20 = zI (l.length : Nat) ∧ l.length ≤ 512 ∧ ∃ b, cFn b σ ∧ ∀ i, i < l.length → b i = l.getD i (0, 0, 0, 0)
abbrev rZ (r : rct) : Prop := 0 ≤ r.1 ∧ r.1 ≤ 16 ∧ 0 ≤ r.2.1 ∧ r.2.1 ≤ 16 ∧ 0 ≤ r.2.2.1 ∧ r.2.2.1 ≤ 16 ∧ 0 ≤ r.2.2.2 ∧ r.2.2.2 ≤ 16
theorem getD_app {l : List rct} {r : rct} {i : Nat} (h : i < l.length + 1) : (l ++ [r]).getD i (0, 0, 0, 0) = if i = l.length then r else l.getD i (0, 0, 0, 0) := by
  by_cases z : i = l.length
  · subst z
    rw [if_pos rfl, List.getD_eq_getElem?_getD, List.getElem?_append_right (Nat.le_refl _), Nat.sub_self]
    rfl
  · rw [if_neg z, List.getD_eq_getElem?_getD, List.getElem?_append_left (by omega), List.getD_eq_getElem?_getD]
theorem cFl.push {l : List rct} {σ : cS} (h : cFl l σ) (hl : l.length < 512) (x y w e : Int) : cFl (l ++ [(x, y, w, e)]) (cPsh σ l.length x y w e) := by
  obtain ⟨h1, h2, b, h3, h4⟩ := h
  refine ⟨?_, by simp; omega, _, h3.push l.length x y w e, fun i hi => ?_⟩
  · rw [List.length_append]; rfl
  · rw [List.length_append] at hi
    rw [getD_app hi]
    by_cases z : i = l.length
    · rw [if_pos z, z, upF_s]
    · rw [if_neg z, upF_n z]
      exact h4 i (by have : i < l.length + 1 := hi; omega)

theorem c_comesFree0 {E : jEnv} {α : Nat → Nat} {σ : cS} {Q : Option Value → cS → Prop} {x y w h : Int} {m : Nat} (rw_ : zR w) (rh_ : zR h) (hF : σ.i 20 = zI (m : Nat)) (hm : m < 512) (h1 : 0 < w ∧ 0 < h → Q none (cPsh σ m x y w h)) (h0 : ¬ (0 < w ∧ 0 < h) → Q none σ) : jX0_comesFree E α 0 [some (.ref (α 0)), some (.int (zI (x))), some (.int (zI (y))), some (.int (zI (w))), some (.int (zI (h)))] [] σ Q := by
  refine J_iload_n dX0_comesFree_0 rfl ?_
  refine J_if_le_z (tgt := 60) dX0_comesFree_1 (by decide) (by assumption) (fun c1 => ?_) (fun c1 => ?_)
  · skip
    exact J_vret rfl dX0_comesFree_60 (by first | exact h1 (by omega) | exact h0 (by omega))
  · skip
    refine J_iload dX0_comesFree_4 rfl ?_
    refine J_if_le_z (tgt := 60) dX0_comesFree_6 (by decide) (by assumption) (fun c6 => ?_) (fun c6 => ?_)
    · skip
      exact J_vret rfl dX0_comesFree_60 (by first | exact h1 (by omega) | exact h0 (by omega))
    · skip
      refine J_aload_n dX0_comesFree_9 rfl ?_
      refine CG_freeX dX0_comesFree_10 ?_
      refine J_aload_n dX0_comesFree_13 rfl ?_
      refine CG_freeMany dX0_comesFree_14 ?_
      refine J_top (zI (m)) hF ?_
      refine J_iload_n dX0_comesFree_17 rfl ?_
      refine CJ_iast 21 (m) ⟨rfl, by decide, by decide, by decide⟩ (by omega) (show m < 512 by omega) dX0_comesFree_18 ?_
      refine J_aload_n dX0_comesFree_19 rfl ?_
      refine CG_freeY dX0_comesFree_20 ?_
      refine J_aload_n dX0_comesFree_23 rfl ?_
      refine CG_freeMany dX0_comesFree_24 ?_
      refine J_top (zI (m)) hF ?_
      refine J_iload_n dX0_comesFree_27 rfl ?_
      refine CJ_iast 22 (m) ⟨rfl, by decide, by decide, by decide⟩ (by omega) (show m < 512 by omega) dX0_comesFree_28 ?_
      refine J_aload_n dX0_comesFree_29 rfl ?_
      refine CG_freeW dX0_comesFree_30 ?_
      refine J_aload_n dX0_comesFree_33 rfl ?_
      refine CG_freeMany dX0_comesFree_34 ?_
      refine J_top (zI (m)) hF ?_
      refine J_iload_n dX0_comesFree_37 rfl ?_
      refine CJ_iast 23 (m) ⟨rfl, by decide, by decide, by decide⟩ (by omega) (show m < 512 by omega) dX0_comesFree_38 ?_
      refine J_aload_n dX0_comesFree_39 rfl ?_
      refine CG_freeH dX0_comesFree_40 ?_
      refine J_aload_n dX0_comesFree_43 rfl ?_
      refine CG_freeMany dX0_comesFree_44 ?_
      refine J_top (zI (m)) hF ?_
      refine J_iload dX0_comesFree_47 rfl ?_
      refine CJ_iast 24 (m) ⟨rfl, by decide, by decide, by decide⟩ (by omega) (show m < 512 by omega) dX0_comesFree_49 ?_
      refine J_aload_n dX0_comesFree_50 rfl ?_
      refine J_dup dX0_comesFree_51 rfl ?_
      refine CG_freeMany dX0_comesFree_52 ?_
      refine J_top (zI (m)) hF ?_
      refine J_iconst (zI 1) dX0_comesFree_55 rfl ?_
      refine J_iadd_z dX0_comesFree_56 ?_
      refine CP_freeMany dX0_comesFree_57 ?_
      exact J_vret rfl dX0_comesFree_60 (by first | exact h1 (by omega) | exact h0 (by omega))
theorem c_comesFree {E : jEnv} {α : Nat → Nat} {σ : cS} {Q : Option Value → cS → Prop} {l : List rct} {x y w h : Int} (hl : cFl l σ) (hm : l.length < 512) (rw_ : zR w) (rh_ : zR h) (hq : ∀ σ', cFl (l ++ rAdd x y w h) σ' → cQ [20] [21, 22, 23, 24] σ σ' → Q none σ') : jX0_comesFree E α 0 [some (.ref (α 0)), some (.int (zI x)), some (.int (zI y)), some (.int (zI w)), some (.int (zI h))] [] σ Q := by
  refine c_comesFree0 rw_ rh_ hl.1 hm (fun z => hq _ ?_ (cQ.refl.push (by decide) (by decide) (by decide) (by decide) (by decide))) (fun z => hq _ ?_ cQ.refl)
  · unfold rAdd; rw [if_pos z]; exact hl.push hm x y w h
  · unfold rAdd; rw [if_neg z, List.append_nil]; exact hl
theorem c_movesFree {E : jEnv} {α : Nat → Nat} {σ : cS} {Q : Option Value → cS → Prop} {p q : Nat} (hp : p < 512) (hq : q < 512) (hQ : Q none (cMove σ p q)) : jX0_movesFree E α 0 [some (.ref (α 0)), some (.int (zI (p : Nat))), some (.int (zI (q : Nat)))] [] σ Q := by
  refine J_aload_n dX0_movesFree_0 rfl ?_
  refine CG_freeX dX0_movesFree_1 ?_
  refine J_iload_n dX0_movesFree_4 rfl ?_
  refine J_aload_n dX0_movesFree_5 rfl ?_
  refine CG_freeX dX0_movesFree_6 ?_
  refine J_iload_n dX0_movesFree_9 rfl ?_
  refine CJ_iald 21 (p) ⟨rfl, by decide, by decide, by decide⟩ (by omega) (show p < 512 by omega) dX0_movesFree_10 ?_
  refine CJ_iast 21 (q) ⟨rfl, by decide, by decide, by decide⟩ (by omega) (show q < 512 by omega) dX0_movesFree_11 ?_
  refine J_aload_n dX0_movesFree_12 rfl ?_
  refine CG_freeY dX0_movesFree_13 ?_
  refine J_iload_n dX0_movesFree_16 rfl ?_
  refine J_aload_n dX0_movesFree_17 rfl ?_
  refine CG_freeY dX0_movesFree_18 ?_
  refine J_iload_n dX0_movesFree_21 rfl ?_
  refine CJ_iald 22 (p) ⟨rfl, by decide, by decide, by decide⟩ (by omega) (show p < 512 by omega) dX0_movesFree_22 ?_
  refine CJ_iast 22 (q) ⟨rfl, by decide, by decide, by decide⟩ (by omega) (show q < 512 by omega) dX0_movesFree_23 ?_
  refine J_aload_n dX0_movesFree_24 rfl ?_
  refine CG_freeW dX0_movesFree_25 ?_
  refine J_iload_n dX0_movesFree_28 rfl ?_
  refine J_aload_n dX0_movesFree_29 rfl ?_
  refine CG_freeW dX0_movesFree_30 ?_
  refine J_iload_n dX0_movesFree_33 rfl ?_
  refine CJ_iald 23 (p) ⟨rfl, by decide, by decide, by decide⟩ (by omega) (show p < 512 by omega) dX0_movesFree_34 ?_
  refine CJ_iast 23 (q) ⟨rfl, by decide, by decide, by decide⟩ (by omega) (show q < 512 by omega) dX0_movesFree_35 ?_
  refine J_aload_n dX0_movesFree_36 rfl ?_
  refine CG_freeH dX0_movesFree_37 ?_
  refine J_iload_n dX0_movesFree_40 rfl ?_
  refine J_aload_n dX0_movesFree_41 rfl ?_
  refine CG_freeH dX0_movesFree_42 ?_
  refine J_iload_n dX0_movesFree_45 rfl ?_
  refine CJ_iald 24 (p) ⟨rfl, by decide, by decide, by decide⟩ (by omega) (show p < 512 by omega) dX0_movesFree_46 ?_
  refine CJ_iast 24 (q) ⟨rfl, by decide, by decide, by decide⟩ (by omega) (show q < 512 by omega) dX0_movesFree_47 ?_
  exact J_vret rfl dX0_movesFree_48 (by exact hQ)
theorem c_isWithin {E : jEnv} {α : Nat → Nat} {σ : cS} {Q : Option Value → cS → Prop} {b : Nat → rct} {p q : Nat} (hb : cFn b σ) (hp : p < 512) (hq : q < 512) (zp : rZ (b p)) (zq : rZ (b q)) (h1 : rIn (b p) (b q) → Q (some (.int (zI 1))) σ) (h0 : ¬ rIn (b p) (b q) → Q (some (.int (zI 0))) σ) : jX0_isWithin E α 0 [some (.ref (α 0)), some (.int (zI (p : Nat))), some (.int (zI (q : Nat)))] [] σ Q := by
  unfold rZ at zp zq
  refine J_aload_n dX0_isWithin_0 rfl ?_
  refine CG_freeX dX0_isWithin_1 ?_
  refine J_iload_n dX0_isWithin_4 rfl ?_
  refine CJ_iald 21 (p) ⟨rfl, by decide, by decide, by decide⟩ (by omega) (show p < 512 by omega) dX0_isWithin_5 ?_
  refine J_top (zI ((b p).1)) ((hb p hp).1) ?_
  refine J_aload_n dX0_isWithin_6 rfl ?_
  refine CG_freeX dX0_isWithin_7 ?_
  refine J_iload_n dX0_isWithin_10 rfl ?_
  refine CJ_iald 21 (q) ⟨rfl, by decide, by decide, by decide⟩ (by omega) (show q < 512 by omega) dX0_isWithin_11 ?_
  refine J_top (zI ((b q).1)) ((hb q hq).1) ?_
  refine J_icmp_lt_z (tgt := 92) dX0_isWithin_12 (by decide) (by unfold zR; omega) (by unfold zR; omega) (fun c12 => ?_) (fun c12 => ?_)
  · skip
    refine J_iconst (zI 0) dX0_isWithin_92 rfl ?_
    exact J_zret rfl dX0_isWithin_93 rfl (by first | exact h1 (by unfold rIn; omega) | exact h0 (by unfold rIn; omega))
  · skip
    refine J_aload_n dX0_isWithin_15 rfl ?_
    refine CG_freeY dX0_isWithin_16 ?_
    refine J_iload_n dX0_isWithin_19 rfl ?_
    refine CJ_iald 22 (p) ⟨rfl, by decide, by decide, by decide⟩ (by omega) (show p < 512 by omega) dX0_isWithin_20 ?_
    refine J_top (zI ((b p).2.1)) ((hb p hp).2.1) ?_
    refine J_aload_n dX0_isWithin_21 rfl ?_
    refine CG_freeY dX0_isWithin_22 ?_
    refine J_iload_n dX0_isWithin_25 rfl ?_
    refine CJ_iald 22 (q) ⟨rfl, by decide, by decide, by decide⟩ (by omega) (show q < 512 by omega) dX0_isWithin_26 ?_
    refine J_top (zI ((b q).2.1)) ((hb q hq).2.1) ?_
    refine J_icmp_lt_z (tgt := 92) dX0_isWithin_27 (by decide) (by unfold zR; omega) (by unfold zR; omega) (fun c27 => ?_) (fun c27 => ?_)
    · skip
      refine J_iconst (zI 0) dX0_isWithin_92 rfl ?_
      exact J_zret rfl dX0_isWithin_93 rfl (by first | exact h1 (by unfold rIn; omega) | exact h0 (by unfold rIn; omega))
    · skip
      refine J_aload_n dX0_isWithin_30 rfl ?_
      refine CG_freeX dX0_isWithin_31 ?_
      refine J_iload_n dX0_isWithin_34 rfl ?_
      refine CJ_iald 21 (p) ⟨rfl, by decide, by decide, by decide⟩ (by omega) (show p < 512 by omega) dX0_isWithin_35 ?_
      refine J_top (zI ((b p).1)) ((hb p hp).1) ?_
      refine J_aload_n dX0_isWithin_36 rfl ?_
      refine CG_freeW dX0_isWithin_37 ?_
      refine J_iload_n dX0_isWithin_40 rfl ?_
      refine CJ_iald 23 (p) ⟨rfl, by decide, by decide, by decide⟩ (by omega) (show p < 512 by omega) dX0_isWithin_41 ?_
      refine J_top (zI ((b p).2.2.1)) ((hb p hp).2.2.1) ?_
      refine J_iadd_z dX0_isWithin_42 ?_
      refine J_aload_n dX0_isWithin_43 rfl ?_
      refine CG_freeX dX0_isWithin_44 ?_
      refine J_iload_n dX0_isWithin_47 rfl ?_
      refine CJ_iald 21 (q) ⟨rfl, by decide, by decide, by decide⟩ (by omega) (show q < 512 by omega) dX0_isWithin_48 ?_
      refine J_top (zI ((b q).1)) ((hb q hq).1) ?_
      refine J_aload_n dX0_isWithin_49 rfl ?_
      refine CG_freeW dX0_isWithin_50 ?_
      refine J_iload_n dX0_isWithin_53 rfl ?_
      refine CJ_iald 23 (q) ⟨rfl, by decide, by decide, by decide⟩ (by omega) (show q < 512 by omega) dX0_isWithin_54 ?_
      refine J_top (zI ((b q).2.2.1)) ((hb q hq).2.2.1) ?_
      refine J_iadd_z dX0_isWithin_55 ?_
      refine J_icmp_gt_z (tgt := 92) dX0_isWithin_56 (by decide) (by unfold zR; omega) (by unfold zR; omega) (fun c56 => ?_) (fun c56 => ?_)
      · skip
        refine J_iconst (zI 0) dX0_isWithin_92 rfl ?_
        exact J_zret rfl dX0_isWithin_93 rfl (by first | exact h1 (by unfold rIn; omega) | exact h0 (by unfold rIn; omega))
      · skip
        refine J_aload_n dX0_isWithin_59 rfl ?_
        refine CG_freeY dX0_isWithin_60 ?_
        refine J_iload_n dX0_isWithin_63 rfl ?_
        refine CJ_iald 22 (p) ⟨rfl, by decide, by decide, by decide⟩ (by omega) (show p < 512 by omega) dX0_isWithin_64 ?_
        refine J_top (zI ((b p).2.1)) ((hb p hp).2.1) ?_
        refine J_aload_n dX0_isWithin_65 rfl ?_
        refine CG_freeH dX0_isWithin_66 ?_
        refine J_iload_n dX0_isWithin_69 rfl ?_
        refine CJ_iald 24 (p) ⟨rfl, by decide, by decide, by decide⟩ (by omega) (show p < 512 by omega) dX0_isWithin_70 ?_
        refine J_top (zI ((b p).2.2.2)) ((hb p hp).2.2.2) ?_
        refine J_iadd_z dX0_isWithin_71 ?_
        refine J_aload_n dX0_isWithin_72 rfl ?_
        refine CG_freeY dX0_isWithin_73 ?_
        refine J_iload_n dX0_isWithin_76 rfl ?_
        refine CJ_iald 22 (q) ⟨rfl, by decide, by decide, by decide⟩ (by omega) (show q < 512 by omega) dX0_isWithin_77 ?_
        refine J_top (zI ((b q).2.1)) ((hb q hq).2.1) ?_
        refine J_aload_n dX0_isWithin_78 rfl ?_
        refine CG_freeH dX0_isWithin_79 ?_
        refine J_iload_n dX0_isWithin_82 rfl ?_
        refine CJ_iald 24 (q) ⟨rfl, by decide, by decide, by decide⟩ (by omega) (show q < 512 by omega) dX0_isWithin_83 ?_
        refine J_top (zI ((b q).2.2.2)) ((hb q hq).2.2.2) ?_
        refine J_iadd_z dX0_isWithin_84 ?_
        refine J_icmp_gt_z (tgt := 92) dX0_isWithin_85 (by decide) (by unfold zR; omega) (by unfold zR; omega) (fun c85 => ?_) (fun c85 => ?_)
        · skip
          refine J_iconst (zI 0) dX0_isWithin_92 rfl ?_
          exact J_zret rfl dX0_isWithin_93 rfl (by first | exact h1 (by unfold rIn; omega) | exact h0 (by unfold rIn; omega))
        · skip
          refine J_iconst (zI 1) dX0_isWithin_88 rfl ?_
          refine J_goto (tgt := 93) dX0_isWithin_89 (by decide) ?_
          exact J_zret rfl dX0_isWithin_93 rfl (by first | exact h1 (by unfold rIn; omega) | exact h0 (by unfold rIn; omega))
theorem c_isAhead {E : jEnv} {α : Nat → Nat} {σ : cS} {Q : Option Value → cS → Prop} {b : Nat → rct} {p q : Nat} (hb : cFn b σ) (hp : p < 512) (hq : q < 512) (zp : rZ (b p)) (zq : rZ (b q)) (h1 : rAh (b p) (b q) → Q (some (.int (zI 1))) σ) (h0 : ¬ rAh (b p) (b q) → Q (some (.int (zI 0))) σ) : jX0_isAhead E α 0 [some (.ref (α 0)), some (.int (zI (p : Nat))), some (.int (zI (q : Nat)))] [] σ Q := by
  unfold rZ at zp zq
  refine J_aload_n dX0_isAhead_0 rfl ?_
  refine CG_freeY dX0_isAhead_1 ?_
  refine J_iload_n dX0_isAhead_4 rfl ?_
  refine CJ_iald 22 (p) ⟨rfl, by decide, by decide, by decide⟩ (by omega) (show p < 512 by omega) dX0_isAhead_5 ?_
  refine J_top (zI ((b p).2.1)) ((hb p hp).2.1) ?_
  refine J_aload_n dX0_isAhead_6 rfl ?_
  refine CG_freeY dX0_isAhead_7 ?_
  refine J_iload_n dX0_isAhead_10 rfl ?_
  refine CJ_iald 22 (q) ⟨rfl, by decide, by decide, by decide⟩ (by omega) (show q < 512 by omega) dX0_isAhead_11 ?_
  refine J_top (zI ((b q).2.1)) ((hb q hq).2.1) ?_
  refine J_icmp_eq_z (tgt := 36) dX0_isAhead_12 (by decide) (by unfold zR; omega) (by unfold zR; omega) (fun c12 => ?_) (fun c12 => ?_)
  · skip
    refine J_aload_n dX0_isAhead_36 rfl ?_
    refine CG_freeX dX0_isAhead_37 ?_
    refine J_iload_n dX0_isAhead_40 rfl ?_
    refine CJ_iald 21 (p) ⟨rfl, by decide, by decide, by decide⟩ (by omega) (show p < 512 by omega) dX0_isAhead_41 ?_
    refine J_top (zI ((b p).1)) ((hb p hp).1) ?_
    refine J_aload_n dX0_isAhead_42 rfl ?_
    refine CG_freeX dX0_isAhead_43 ?_
    refine J_iload_n dX0_isAhead_46 rfl ?_
    refine CJ_iald 21 (q) ⟨rfl, by decide, by decide, by decide⟩ (by omega) (show q < 512 by omega) dX0_isAhead_47 ?_
    refine J_top (zI ((b q).1)) ((hb q hq).1) ?_
    refine J_icmp_eq_z (tgt := 72) dX0_isAhead_48 (by decide) (by unfold zR; omega) (by unfold zR; omega) (fun c48 => ?_) (fun c48 => ?_)
    · skip
      refine J_aload_n dX0_isAhead_72 rfl ?_
      refine CG_freeW dX0_isAhead_73 ?_
      refine J_iload_n dX0_isAhead_76 rfl ?_
      refine CJ_iald 23 (p) ⟨rfl, by decide, by decide, by decide⟩ (by omega) (show p < 512 by omega) dX0_isAhead_77 ?_
      refine J_top (zI ((b p).2.2.1)) ((hb p hp).2.2.1) ?_
      refine J_aload_n dX0_isAhead_78 rfl ?_
      refine CG_freeW dX0_isAhead_79 ?_
      refine J_iload_n dX0_isAhead_82 rfl ?_
      refine CJ_iald 23 (q) ⟨rfl, by decide, by decide, by decide⟩ (by omega) (show q < 512 by omega) dX0_isAhead_83 ?_
      refine J_top (zI ((b q).2.2.1)) ((hb q hq).2.2.1) ?_
      refine J_icmp_eq_z (tgt := 110) dX0_isAhead_84 (by decide) (by unfold zR; omega) (by unfold zR; omega) (fun c84 => ?_) (fun c84 => ?_)
      · skip
        refine J_aload_n dX0_isAhead_110 rfl ?_
        refine CG_freeH dX0_isAhead_111 ?_
        refine J_iload_n dX0_isAhead_114 rfl ?_
        refine CJ_iald 24 (p) ⟨rfl, by decide, by decide, by decide⟩ (by omega) (show p < 512 by omega) dX0_isAhead_115 ?_
        refine J_top (zI ((b p).2.2.2)) ((hb p hp).2.2.2) ?_
        refine J_aload_n dX0_isAhead_116 rfl ?_
        refine CG_freeH dX0_isAhead_117 ?_
        refine J_iload_n dX0_isAhead_120 rfl ?_
        refine CJ_iald 24 (q) ⟨rfl, by decide, by decide, by decide⟩ (by omega) (show q < 512 by omega) dX0_isAhead_121 ?_
        refine J_top (zI ((b q).2.2.2)) ((hb q hq).2.2.2) ?_
        refine J_icmp_ge_z (tgt := 129) dX0_isAhead_122 (by decide) (by unfold zR; omega) (by unfold zR; omega) (fun c122 => ?_) (fun c122 => ?_)
        · skip
          refine J_iconst (zI 0) dX0_isAhead_129 rfl ?_
          exact J_zret rfl dX0_isAhead_130 rfl (by first | exact h1 (by rw [rAh_iff]; omega) | exact h0 (by rw [rAh_iff]; omega))
        · skip
          refine J_iconst (zI 1) dX0_isAhead_125 rfl ?_
          refine J_goto (tgt := 130) dX0_isAhead_126 (by decide) ?_
          exact J_zret rfl dX0_isAhead_130 rfl (by first | exact h1 (by rw [rAh_iff]; omega) | exact h0 (by rw [rAh_iff]; omega))
      · skip
        refine J_aload_n dX0_isAhead_87 rfl ?_
        refine CG_freeW dX0_isAhead_88 ?_
        refine J_iload_n dX0_isAhead_91 rfl ?_
        refine CJ_iald 23 (p) ⟨rfl, by decide, by decide, by decide⟩ (by omega) (show p < 512 by omega) dX0_isAhead_92 ?_
        refine J_top (zI ((b p).2.2.1)) ((hb p hp).2.2.1) ?_
        refine J_aload_n dX0_isAhead_93 rfl ?_
        refine CG_freeW dX0_isAhead_94 ?_
        refine J_iload_n dX0_isAhead_97 rfl ?_
        refine CJ_iald 23 (q) ⟨rfl, by decide, by decide, by decide⟩ (by omega) (show q < 512 by omega) dX0_isAhead_98 ?_
        refine J_top (zI ((b q).2.2.1)) ((hb q hq).2.2.1) ?_
        refine J_icmp_ge_z (tgt := 106) dX0_isAhead_99 (by decide) (by unfold zR; omega) (by unfold zR; omega) (fun c99 => ?_) (fun c99 => ?_)
        · skip
          refine J_iconst (zI 0) dX0_isAhead_106 rfl ?_
          refine J_goto (tgt := 130) dX0_isAhead_107 (by decide) ?_
          exact J_zret rfl dX0_isAhead_130 rfl (by first | exact h1 (by rw [rAh_iff]; omega) | exact h0 (by rw [rAh_iff]; omega))
        · skip
          refine J_iconst (zI 1) dX0_isAhead_102 rfl ?_
          refine J_goto (tgt := 130) dX0_isAhead_103 (by decide) ?_
          exact J_zret rfl dX0_isAhead_130 rfl (by first | exact h1 (by rw [rAh_iff]; omega) | exact h0 (by rw [rAh_iff]; omega))
    · skip
      refine J_aload_n dX0_isAhead_51 rfl ?_
      refine CG_freeX dX0_isAhead_52 ?_
      refine J_iload_n dX0_isAhead_55 rfl ?_
      refine CJ_iald 21 (p) ⟨rfl, by decide, by decide, by decide⟩ (by omega) (show p < 512 by omega) dX0_isAhead_56 ?_
      refine J_top (zI ((b p).1)) ((hb p hp).1) ?_
      refine J_aload_n dX0_isAhead_57 rfl ?_
      refine CG_freeX dX0_isAhead_58 ?_
      refine J_iload_n dX0_isAhead_61 rfl ?_
      refine CJ_iald 21 (q) ⟨rfl, by decide, by decide, by decide⟩ (by omega) (show q < 512 by omega) dX0_isAhead_62 ?_
      refine J_top (zI ((b q).1)) ((hb q hq).1) ?_
      refine J_icmp_ge_z (tgt := 70) dX0_isAhead_63 (by decide) (by unfold zR; omega) (by unfold zR; omega) (fun c63 => ?_) (fun c63 => ?_)
      · skip
        refine J_iconst (zI 0) dX0_isAhead_70 rfl ?_
        exact J_zret rfl dX0_isAhead_71 rfl (by first | exact h1 (by rw [rAh_iff]; omega) | exact h0 (by rw [rAh_iff]; omega))
      · skip
        refine J_iconst (zI 1) dX0_isAhead_66 rfl ?_
        refine J_goto (tgt := 71) dX0_isAhead_67 (by decide) ?_
        exact J_zret rfl dX0_isAhead_71 rfl (by first | exact h1 (by rw [rAh_iff]; omega) | exact h0 (by rw [rAh_iff]; omega))
  · skip
    refine J_aload_n dX0_isAhead_15 rfl ?_
    refine CG_freeY dX0_isAhead_16 ?_
    refine J_iload_n dX0_isAhead_19 rfl ?_
    refine CJ_iald 22 (p) ⟨rfl, by decide, by decide, by decide⟩ (by omega) (show p < 512 by omega) dX0_isAhead_20 ?_
    refine J_top (zI ((b p).2.1)) ((hb p hp).2.1) ?_
    refine J_aload_n dX0_isAhead_21 rfl ?_
    refine CG_freeY dX0_isAhead_22 ?_
    refine J_iload_n dX0_isAhead_25 rfl ?_
    refine CJ_iald 22 (q) ⟨rfl, by decide, by decide, by decide⟩ (by omega) (show q < 512 by omega) dX0_isAhead_26 ?_
    refine J_top (zI ((b q).2.1)) ((hb q hq).2.1) ?_
    refine J_icmp_ge_z (tgt := 34) dX0_isAhead_27 (by decide) (by unfold zR; omega) (by unfold zR; omega) (fun c27 => ?_) (fun c27 => ?_)
    · skip
      refine J_iconst (zI 0) dX0_isAhead_34 rfl ?_
      exact J_zret rfl dX0_isAhead_35 rfl (by first | exact h1 (by rw [rAh_iff]; omega) | exact h0 (by rw [rAh_iff]; omega))
    · skip
      refine J_iconst (zI 1) dX0_isAhead_30 rfl ?_
      refine J_goto (tgt := 35) dX0_isAhead_31 (by decide) ?_
      exact J_zret rfl dX0_isAhead_35 rfl (by first | exact h1 (by rw [rAh_iff]; omega) | exact h0 (by rw [rAh_iff]; omega))
noncomputable def kB (l : List rct) (i : Nat) : Int := @ite _ (rStays l i) (Classical.propDecidable _) 1 0
theorem kB_1 {l : List rct} {i : Nat} (h : rStays l i) : kB l i = 1 := if_pos h
theorem kB_0 {l : List rct} {i : Nat} (h : ¬ rStays l i) : kB l i = 0 := if_neg h
abbrev rGet (l : List rct) : Nat → rct := fun i => l.getD i (0, 0, 0, 0)
theorem getD_mem {l : List rct} {i : Nat} (h : i < l.length) : l.getD i (0, 0, 0, 0) ∈ l := by rw [getD_get h]; exact List.getElem_mem h
/-- what is said of those ahead of j -/
def sTo (l : List rct) (k j : Nat) : Prop := ∀ j', j' < j → j' = k ∨ ¬ rIn (rGet l k) (rGet l j') ∨ (rIn (rGet l j') (rGet l k) ∧ k < j')
theorem sTo_s {l : List rct} {k j : Nat} (h : sTo l k j) (hj : j = k ∨ ¬ rIn (rGet l k) (rGet l j) ∨ (rIn (rGet l j) (rGet l k) ∧ k < j)) : sTo l k (j + 1) := fun j' h' => by
  by_cases z : j' = j
  · subst z; exact hj
  · exact h j' (by omega)

theorem cl_prunes17 {E : jEnv} {α : Nat → Nat} {σ : cS} {Q : Option Value → cS → Prop} {l : List rct} {b : Nat → rct} {left : Int} {k : Nat} (hF : σ.i 20 = zI (l.length : Nat)) (hl : l.length ≤ 512) (hz : ∀ r ∈ l, rZ r) (hb : cFn b σ) (hbl : ∀ i, i < l.length → b i = rGet l i) (hkl : k < l.length) (hk : ∀ s : Int, (s = 1 ∧ rStays l k) ∨ (s = 0 ∧ ¬ rStays l k) → jX0_prunes E α 78 [some (.ref (α 0)), some (.int (zI left)), some (.int (zI (k : Nat))), some (.int (zI s)), none, none] [] σ Q)  : ∀ (n : Nat) (j : Nat) (s : Int), j ≤ l.length → (s = 1 ∧ sTo l k j) ∨ (s = 0 ∧ ¬ rStays l k) → l.length - j < n → jX0_prunes E α 17 [some (.ref (α 0)), some (.int (zI (left))), some (.int (zI (k : Nat))), some (.int (zI (s))), some (.int (zI (j : Nat))), none] [] σ Q := by
  intro n
  induction n with
  | zero => intro j s h1 h2 hn; exact absurd hn (Nat.not_lt_zero _)
  | succ n ih =>
    intro j s h1 h2 hn
    have hs1 : s = 1 → sTo l k j := fun e => by rcases h2 with z | z; exact z.2; omega
    have hs01 : s = 0 ∨ s = 1 := by omega
    refine J_iload dX0_prunes_17 rfl ?_
    refine J_aload_n dX0_prunes_19 rfl ?_
    refine CG_freeMany dX0_prunes_20 ?_
    refine J_top (zI (l.length)) hF ?_
    refine J_icmp_ge_z (tgt := 78) dX0_prunes_23 (by decide) (by unfold zR; omega) (by unfold zR; omega) (fun c23 => ?_) (fun c23 => ?_)
    · skip
      refine J_fg (L' := [some (.ref (α 0)), some (.int (zI left)), some (.int (zI (k : Nat))), some (.int (zI s)), none, none]) (by repeat' constructor) ?_
      refine hk s ?_
      rcases h2 with z | z
      · exact Or.inl ⟨z.1, fun j' hj => by first | exact z.2 j' (by omega) | omega⟩
      · exact Or.inr z
    · skip
      refine J_iload_n dX0_prunes_26 rfl ?_
      refine J_if_eq_z (tgt := 78) dX0_prunes_27 (by decide) (by unfold zR; omega) (fun c27 => ?_) (fun c27 => ?_)
      · skip
        refine J_fg (L' := [some (.ref (α 0)), some (.int (zI left)), some (.int (zI (k : Nat))), some (.int (zI s)), none, none]) (by repeat' constructor) ?_
        refine hk s ?_
        rcases h2 with z | z
        · exact Or.inl ⟨z.1, fun j' hj => by first | exact z.2 j' (by omega) | omega⟩
        · exact Or.inr z
      · skip
        have e1 : s = 1 := by omega
        refine J_aload_n dX0_prunes_30 rfl ?_
        refine J_iload dX0_prunes_31 rfl ?_
        refine J_iload_n dX0_prunes_33 rfl ?_
        refine CC_X0_isWithin (by decide) (by decide) (Nat.le_of_ble_eq_true rfl) dX0_prunes_34 ?_
        refine c_isWithin (b := b) (p := j) (q := k) hb (by omega) (by omega) (by rw [hbl _ (by omega)]; exact hz _ (getD_mem (by omega))) (by rw [hbl _ (by omega)]; exact hz _ (getD_mem (by omega)))  (fun b34 => ?_) (fun b34 => ?_)
        · refine J_ri ?_
          refine J_istore dX0_prunes_37 rfl (by decide) _ rfl ?_
          refine J_iload dX0_prunes_39 rfl ?_
          refine J_iload_n dX0_prunes_41 rfl ?_
          refine J_icmp_eq_z (tgt := 66) dX0_prunes_42 (by decide) (by unfold zR; omega) (by unfold zR; omega) (fun c42 => ?_) (fun c42 => ?_)
          · skip
            refine J_iconst (zI 1) dX0_prunes_66 rfl ?_
            refine J_goto (tgt := 71) dX0_prunes_67 (by decide) ?_
            refine J_istore_n dX0_prunes_71 rfl (by decide) _ rfl ?_
            refine J_iinc_z ((((j + 1)) : Nat) : Int) (by omega) dX0_prunes_72 rfl rfl (by decide) _ rfl ?_
            refine J_goto (tgt := 17) dX0_prunes_75 (by decide) ?_
            refine J_fg (L' := [some (.ref (α 0)), some (.int (zI left)), some (.int (zI (k : Nat))), some (.int (zI 1)), some (.int (zI ((j + 1 : Nat) : Int))), none]) (by repeat' constructor) ?_
            refine ih (j + 1) 1 (by omega) (Or.inl ⟨rfl, sTo_s (hs1 e1) ?_⟩) (by omega)
            simp only [hbl j (by omega), hbl k (by omega)] at *
            first | exact Or.inl (by omega) | exact Or.inr (Or.inl (by assumption)) | exact Or.inr (Or.inr ⟨by assumption, by omega⟩)
          · skip
            refine J_aload_n dX0_prunes_45 rfl ?_
            refine J_iload_n dX0_prunes_46 rfl ?_
            refine J_iload dX0_prunes_47 rfl ?_
            refine CC_X0_isWithin (by decide) (by decide) (Nat.le_of_ble_eq_true rfl) dX0_prunes_49 ?_
            refine c_isWithin (b := b) (p := k) (q := j) hb (by omega) (by omega) (by rw [hbl _ (by omega)]; exact hz _ (getD_mem (by omega))) (by rw [hbl _ (by omega)]; exact hz _ (getD_mem (by omega)))  (fun b49 => ?_) (fun b49 => ?_)
            · refine J_ri ?_
              refine J_if_eq_n (tgt := 66) dX0_prunes_52 (by decide) (by decide) ?_
              refine J_iload dX0_prunes_55 rfl ?_
              refine J_if_eq_n (tgt := 70) dX0_prunes_57 (by decide) (by decide) ?_
              refine J_iload dX0_prunes_60 rfl ?_
              refine J_iload_n dX0_prunes_62 rfl ?_
              refine J_icmp_le_z (tgt := 70) dX0_prunes_63 (by decide) (by unfold zR; omega) (by unfold zR; omega) (fun c63 => ?_) (fun c63 => ?_)
              · skip
                refine J_iconst (zI 0) dX0_prunes_70 rfl ?_
                refine J_istore_n dX0_prunes_71 rfl (by decide) _ rfl ?_
                refine J_iinc_z ((((j + 1)) : Nat) : Int) (by omega) dX0_prunes_72 rfl rfl (by decide) _ rfl ?_
                refine J_goto (tgt := 17) dX0_prunes_75 (by decide) ?_
                refine J_fg (L' := [some (.ref (α 0)), some (.int (zI left)), some (.int (zI (k : Nat))), some (.int (zI 0)), some (.int (zI ((j + 1 : Nat) : Int))), none]) (by repeat' constructor) ?_
                refine ih (j + 1) 0 (by omega) (Or.inr ⟨rfl, fun hst => ?_⟩) (by omega)
                simp only [hbl j (by omega), hbl k (by omega)] at *
                rcases hst j (by omega) with z | z | z
                · omega
                · exact z (by assumption)
                · first | (exact absurd z.1 (by assumption)) | omega
              · skip
                refine J_iconst (zI 1) dX0_prunes_66 rfl ?_
                refine J_goto (tgt := 71) dX0_prunes_67 (by decide) ?_
                refine J_istore_n dX0_prunes_71 rfl (by decide) _ rfl ?_
                refine J_iinc_z ((((j + 1)) : Nat) : Int) (by omega) dX0_prunes_72 rfl rfl (by decide) _ rfl ?_
                refine J_goto (tgt := 17) dX0_prunes_75 (by decide) ?_
                refine J_fg (L' := [some (.ref (α 0)), some (.int (zI left)), some (.int (zI (k : Nat))), some (.int (zI 1)), some (.int (zI ((j + 1 : Nat) : Int))), none]) (by repeat' constructor) ?_
                refine ih (j + 1) 1 (by omega) (Or.inl ⟨rfl, sTo_s (hs1 e1) ?_⟩) (by omega)
                simp only [hbl j (by omega), hbl k (by omega)] at *
                first | exact Or.inl (by omega) | exact Or.inr (Or.inl (by assumption)) | exact Or.inr (Or.inr ⟨by assumption, by omega⟩)
            · refine J_ri ?_
              refine J_if_eq_y (tgt := 66) dX0_prunes_52 (by decide) (by decide) ?_
              refine J_iconst (zI 1) dX0_prunes_66 rfl ?_
              refine J_goto (tgt := 71) dX0_prunes_67 (by decide) ?_
              refine J_istore_n dX0_prunes_71 rfl (by decide) _ rfl ?_
              refine J_iinc_z ((((j + 1)) : Nat) : Int) (by omega) dX0_prunes_72 rfl rfl (by decide) _ rfl ?_
              refine J_goto (tgt := 17) dX0_prunes_75 (by decide) ?_
              refine J_fg (L' := [some (.ref (α 0)), some (.int (zI left)), some (.int (zI (k : Nat))), some (.int (zI 1)), some (.int (zI ((j + 1 : Nat) : Int))), none]) (by repeat' constructor) ?_
              refine ih (j + 1) 1 (by omega) (Or.inl ⟨rfl, sTo_s (hs1 e1) ?_⟩) (by omega)
              simp only [hbl j (by omega), hbl k (by omega)] at *
              first | exact Or.inl (by omega) | exact Or.inr (Or.inl (by assumption)) | exact Or.inr (Or.inr ⟨by assumption, by omega⟩)
        · refine J_ri ?_
          refine J_istore dX0_prunes_37 rfl (by decide) _ rfl ?_
          refine J_iload dX0_prunes_39 rfl ?_
          refine J_iload_n dX0_prunes_41 rfl ?_
          refine J_icmp_eq_z (tgt := 66) dX0_prunes_42 (by decide) (by unfold zR; omega) (by unfold zR; omega) (fun c42 => ?_) (fun c42 => ?_)
          · skip
            refine J_iconst (zI 1) dX0_prunes_66 rfl ?_
            refine J_goto (tgt := 71) dX0_prunes_67 (by decide) ?_
            refine J_istore_n dX0_prunes_71 rfl (by decide) _ rfl ?_
            refine J_iinc_z ((((j + 1)) : Nat) : Int) (by omega) dX0_prunes_72 rfl rfl (by decide) _ rfl ?_
            refine J_goto (tgt := 17) dX0_prunes_75 (by decide) ?_
            refine J_fg (L' := [some (.ref (α 0)), some (.int (zI left)), some (.int (zI (k : Nat))), some (.int (zI 1)), some (.int (zI ((j + 1 : Nat) : Int))), none]) (by repeat' constructor) ?_
            refine ih (j + 1) 1 (by omega) (Or.inl ⟨rfl, sTo_s (hs1 e1) ?_⟩) (by omega)
            simp only [hbl j (by omega), hbl k (by omega)] at *
            first | exact Or.inl (by omega) | exact Or.inr (Or.inl (by assumption)) | exact Or.inr (Or.inr ⟨by assumption, by omega⟩)
          · skip
            refine J_aload_n dX0_prunes_45 rfl ?_
            refine J_iload_n dX0_prunes_46 rfl ?_
            refine J_iload dX0_prunes_47 rfl ?_
            refine CC_X0_isWithin (by decide) (by decide) (Nat.le_of_ble_eq_true rfl) dX0_prunes_49 ?_
            refine c_isWithin (b := b) (p := k) (q := j) hb (by omega) (by omega) (by rw [hbl _ (by omega)]; exact hz _ (getD_mem (by omega))) (by rw [hbl _ (by omega)]; exact hz _ (getD_mem (by omega)))  (fun b49 => ?_) (fun b49 => ?_)
            · refine J_ri ?_
              refine J_if_eq_n (tgt := 66) dX0_prunes_52 (by decide) (by decide) ?_
              refine J_iload dX0_prunes_55 rfl ?_
              refine J_if_eq_y (tgt := 70) dX0_prunes_57 (by decide) (by decide) ?_
              refine J_iconst (zI 0) dX0_prunes_70 rfl ?_
              refine J_istore_n dX0_prunes_71 rfl (by decide) _ rfl ?_
              refine J_iinc_z ((((j + 1)) : Nat) : Int) (by omega) dX0_prunes_72 rfl rfl (by decide) _ rfl ?_
              refine J_goto (tgt := 17) dX0_prunes_75 (by decide) ?_
              refine J_fg (L' := [some (.ref (α 0)), some (.int (zI left)), some (.int (zI (k : Nat))), some (.int (zI 0)), some (.int (zI ((j + 1 : Nat) : Int))), none]) (by repeat' constructor) ?_
              refine ih (j + 1) 0 (by omega) (Or.inr ⟨rfl, fun hst => ?_⟩) (by omega)
              simp only [hbl j (by omega), hbl k (by omega)] at *
              rcases hst j (by omega) with z | z | z
              · omega
              · exact z (by assumption)
              · first | (exact absurd z.1 (by assumption)) | omega
            · refine J_ri ?_
              refine J_if_eq_y (tgt := 66) dX0_prunes_52 (by decide) (by decide) ?_
              refine J_iconst (zI 1) dX0_prunes_66 rfl ?_
              refine J_goto (tgt := 71) dX0_prunes_67 (by decide) ?_
              refine J_istore_n dX0_prunes_71 rfl (by decide) _ rfl ?_
              refine J_iinc_z ((((j + 1)) : Nat) : Int) (by omega) dX0_prunes_72 rfl rfl (by decide) _ rfl ?_
              refine J_goto (tgt := 17) dX0_prunes_75 (by decide) ?_
              refine J_fg (L' := [some (.ref (α 0)), some (.int (zI left)), some (.int (zI (k : Nat))), some (.int (zI 1)), some (.int (zI ((j + 1 : Nat) : Int))), none]) (by repeat' constructor) ?_
              refine ih (j + 1) 1 (by omega) (Or.inl ⟨rfl, sTo_s (hs1 e1) ?_⟩) (by omega)
              simp only [hbl j (by omega), hbl k (by omega)] at *
              first | exact Or.inl (by omega) | exact Or.inr (Or.inl (by assumption)) | exact Or.inr (Or.inr ⟨by assumption, by omega⟩)
theorem cFl_b {l : List rct} {σ : cS} (h : cFl l σ) : ∃ b, cFn b σ ∧ ∀ i, i < l.length → b i = rGet l i := h.2.2
theorem cl_prunes4 {E : jEnv} {α : Nat → Nat} {σ : cS} {Q : Option Value → cS → Prop} {l : List rct} {b : Nat → rct}  (hF : σ.i 20 = zI (l.length : Nat)) (hl : l.length ≤ 512) (hz : ∀ r ∈ l, rZ r) (hb : cFn b σ) (hbl : ∀ i, i < l.length → b i = rGet l i) (hk : ∀ σ', cQ [] [25] σ σ' → (∀ i, i < l.length → σ'.a 25 i = zI (kB l i)) → jX0_prunes E α 91 [some (.ref (α 0)), some (.int (zI 0)), none, none, none, none] [] σ' Q)  : ∀ (n : Nat) (k : Nat) (σ1 : cS), k ≤ l.length → cQ [] [25] σ σ1 → σ1.i 20 = zI (l.length : Nat) → (∀ i, i < k → σ1.a 25 i = zI (kB l i)) → l.length - k < n → jX0_prunes E α 4 [some (.ref (α 0)), some (.int (zI 0)), some (.int (zI (k : Nat))), none, none, none] [] σ1 Q := by
  intro n
  induction n with
  | zero => intro k σ1 h1 h2 h3 h4 hn; exact absurd hn (Nat.not_lt_zero _)
  | succ n ih =>
    intro k σ1 h1 h2 h3 h4 hn
    refine J_iload_n dX0_prunes_4 rfl ?_
    refine J_aload_n dX0_prunes_5 rfl ?_
    refine CG_freeMany dX0_prunes_6 ?_
    refine J_top (zI (l.length)) h3 ?_
    refine J_icmp_ge_z (tgt := 91) dX0_prunes_9 (by decide) (by unfold zR; omega) (by unfold zR; omega) (fun c9 => ?_) (fun c9 => ?_)
    · skip
      refine J_fg (L' := [some (.ref (α 0)), some (.int (zI 0)), none, none, none, none]) (by repeat' constructor) ?_
      exact hk _ h2 (fun i hi => h4 i (by omega))
    · skip
      refine J_iconst (zI 1) dX0_prunes_12 rfl ?_
      refine J_istore_n dX0_prunes_13 rfl (by decide) _ rfl ?_
      refine J_iconst (zI 0) dX0_prunes_14 rfl ?_
      refine J_istore dX0_prunes_15 rfl (by decide) _ rfl ?_
      refine cl_prunes17 (b := b) h3 hl hz (hb.up h2 (by decide) (by decide) (by decide) (by decide)) hbl (by omega) (fun s hs => ?_) _ 0 1 (by omega) (Or.inl ⟨rfl, fun j' hj => by omega⟩) (Nat.lt_succ_self _)
      refine J_aload_n dX0_prunes_78 rfl ?_
      refine CG_keep0 dX0_prunes_79 ?_
      refine J_iload_n dX0_prunes_82 rfl ?_
      refine J_iload_n dX0_prunes_83 rfl ?_
      refine CJ_zast (k) (by omega) (by omega) (show k < 512 by omega) dX0_prunes_84 ?_
      refine J_iinc_z (((k + 1 : Nat)) : Int) (by omega) dX0_prunes_85 rfl rfl (by decide) _ rfl ?_
      refine J_goto (tgt := 4) dX0_prunes_88 (by decide) ?_
      refine J_fg (L' := [some (.ref (α 0)), some (.int (zI 0)), some (.int (zI ((k + 1 : Nat) : Int))), none, none, none]) (by repeat' constructor) ?_
      refine ih (k + 1) _ (by omega) (h2.sA (by decide)) h3 (fun i hi => ?_) (by omega)
      show upd (σ1.a 25) k (zI s) i = _
      unfold upd
      by_cases e : i = k
      · subst e
        rw [if_pos rfl]
        rcases hs with ⟨rfl, z⟩ | ⟨rfl, z⟩
        · rw [kB_1 z]
        · rw [kB_0 z]
      · rw [if_neg e]; exact h4 i (by omega)
theorem cl_prunes93 {E : jEnv} {α : Nat → Nat} {σ : cS} {Q : Option Value → cS → Prop} {l : List rct}  (hl : l.length ≤ 512) (hq : ∀ σ', cFl (rPr l l.length) σ' → cQ [20] [21, 22, 23, 24, 25] σ σ' → Q none σ')  : ∀ (n : Nat) (k : Nat) (σ1 : cS) (b : Nat → rct), k ≤ l.length → cQ [20] [21, 22, 23, 24, 25] σ σ1 → σ1.i 20 = zI (l.length : Nat) → (∀ i, i < l.length → σ1.a 25 i = zI (kB l i)) → cFn b σ1 → (∀ i, i < (rPr l k).length → b i = rGet (rPr l k) i) → (∀ i, k ≤ i → i < l.length → b i = rGet l i) → l.length - k < n → jX0_prunes E α 93 [some (.ref (α 0)), some (.int (zI ((rPr l k).length : Nat))), some (.int (zI (k : Nat))), none, none, none] [] σ1 Q := by
  intro n
  induction n with
  | zero => intro k σ1 b h1 h2 h3 h4 h5 h6 h7 hn; exact absurd hn (Nat.not_lt_zero _)
  | succ n ih =>
    intro k σ1 b h1 h2 h3 h4 h5 h6 h7 hn
    have hle := rPr_len (l := l) k
    refine J_iload_n dX0_prunes_93 rfl ?_
    refine J_aload_n dX0_prunes_94 rfl ?_
    refine CG_freeMany dX0_prunes_95 ?_
    refine J_top (zI (l.length)) h3 ?_
    refine J_icmp_ge_z (tgt := 125) dX0_prunes_98 (by decide) (by unfold zR; omega) (by unfold zR; omega) (fun c98 => ?_) (fun c98 => ?_)
    · skip
      refine J_aload_n dX0_prunes_125 rfl ?_
      refine J_iload_n dX0_prunes_126 rfl ?_
      refine CP_freeMany dX0_prunes_127 ?_
      refine J_vret rfl dX0_prunes_130 ?_
      have e : k = l.length := by omega
      subst e
      exact hq _ ⟨rfl, by omega, b, h5, h6⟩ (h2.sI (by decide))
    · skip
      refine J_aload_n dX0_prunes_101 rfl ?_
      refine CG_keep0 dX0_prunes_102 ?_
      refine J_iload_n dX0_prunes_105 rfl ?_
      refine CJ_zald (k) (by omega) (show k < 512 by omega) dX0_prunes_106 ?_
      refine J_top (zI (kB l k)) (h4 k (by omega)) ?_
      have hk01 : (rStays l k ∧ kB l k = 1) ∨ (¬ rStays l k ∧ kB l k = 0) := by
        rcases Classical.em (rStays l k) with z | z
        · exact Or.inl ⟨z, kB_1 z⟩
        · exact Or.inr ⟨z, kB_0 z⟩
      refine J_if_eq_z (tgt := 119) dX0_prunes_107 (by decide) (by unfold zR; omega) (fun c107 => ?_) (fun c107 => ?_)
      · skip
        have hst : ¬ rStays l k := by rcases hk01 with z | z; omega; exact z.1
        have er := rPr_n hst
        refine J_iinc_z ((((k + 1)) : Nat) : Int) (by omega) dX0_prunes_119 rfl rfl (by decide) _ rfl ?_
        refine J_goto (tgt := 93) dX0_prunes_122 (by decide) ?_
        refine J_fg (L' := [some (.ref (α 0)), some (.int (zI ((rPr l (k + 1)).length : Nat))), some (.int (zI ((k + 1 : Nat) : Int))), none, none, none]) (by rw [er]; repeat' constructor) ?_
        refine ih (k + 1) _ b (by omega) h2 h3 h4 h5 (fun i hi => by rw [er] at hi ⊢; exact h6 i hi) (fun i h h' => h7 i (by omega) h') (by omega)
      · skip
        have hst : rStays l k := by rcases hk01 with z | z; exact z.1; omega
        have er := rPr_y hst
        refine J_aload_n dX0_prunes_110 rfl ?_
        refine J_iload_n dX0_prunes_111 rfl ?_
        refine J_iload_n dX0_prunes_112 rfl ?_
        refine CC_X0_movesFree (by decide) (by decide) (Nat.le_of_ble_eq_true rfl) dX0_prunes_113 ?_
        refine c_movesFree (by omega) (by omega) ?_
        refine J_rv ?_
        refine J_iinc_z ((((rPr l k).length + 1) : Nat) : Int) (by omega) dX0_prunes_116 rfl rfl (by decide) _ rfl ?_
        refine J_iinc_z ((((k + 1)) : Nat) : Int) (by omega) dX0_prunes_119 rfl rfl (by decide) _ rfl ?_
        refine J_goto (tgt := 93) dX0_prunes_122 (by decide) ?_
        refine J_fg (L' := [some (.ref (α 0)), some (.int (zI ((rPr l (k + 1)).length : Nat))), some (.int (zI ((k + 1 : Nat) : Int))), none, none, none]) (by rw [er]; rw [List.length_append]; repeat' constructor) ?_
        refine ih (k + 1) _ _ (by omega) (h2.move (by decide) (by decide) (by decide) (by decide)) h3 h4 (h5.move (by omega) _) (fun i hi => ?_) (fun i h h' => ?_) (by omega)
        · rw [er] at hi ⊢
          rw [List.length_append] at hi
          show _ = List.getD _ _ _
          rw [getD_app hi]
          by_cases z : i = (rPr l k).length
          · rw [if_pos z, z, upF_s, h7 k (by omega) (by omega)]
          · rw [if_neg z, upF_n z]
            exact h6 i (by have : i < (rPr l k).length + 1 := hi; omega)
        · rw [upF_n (by omega)]
          exact h7 i (by omega) h'
theorem c_prunes {E : jEnv} {α : Nat → Nat} {σ : cS} {Q : Option Value → cS → Prop} {l : List rct}  (hl : cFl l σ) (hz : ∀ r ∈ l, rZ r) (hq : ∀ σ', cFl (rPr l l.length) σ' → cQ [20] [21, 22, 23, 24, 25] σ σ' → Q none σ')  : jX0_prunes E α 0 [some (.ref (α 0)), none, none, none, none, none] [] σ Q := by
  obtain ⟨hF, hlen, b, hb, hbl⟩ := hl
  refine J_iconst (zI 0) dX0_prunes_0 rfl ?_
  refine J_istore_n dX0_prunes_1 rfl (by decide) _ rfl ?_
  refine J_iconst (zI 0) dX0_prunes_2 rfl ?_
  refine J_istore_n dX0_prunes_3 rfl (by decide) _ rfl ?_
  refine cl_prunes4 (b := b) hF hlen hz hb hbl (fun σ2 e2 k2 => ?_) _ 0 σ (by omega) cQ.refl hF (fun i hi => by omega) (Nat.lt_succ_self _)
  refine J_iconst (zI 0) dX0_prunes_91 rfl ?_
  refine J_istore_n dX0_prunes_92 rfl (by decide) _ rfl ?_
  exact cl_prunes93 (l := l) hlen (fun σ3 f3 e3 => hq σ3 f3 e3) _ 0 σ2 b (by omega) (e2.mono (by decide) (by decide)) ((e2.1.1 20 (by decide)).trans hF) k2 (hb.up e2 (by decide) (by decide) (by decide) (by decide)) (fun i hi => by simp [rPr] at hi) (fun i _ h => hbl i h) (Nat.lt_succ_self _)
