set_option maxRecDepth 100000
/-! the twin: finding a page, setting, lifting -/
theorem tl_findsPage7 {E : jEnv} {α : Nat → Nat} {σ : tS} {Q : Option Value → tS → Prop} {many : Nat} {wide high bl : Int} {G : Nat → Nat → Int} {P : Nat → Nat → Int} {rule : Int} {f : Nat} (hS : tSh many wide high bl G σ) (hO : shOK many wide high bl G) (hP : tPl P rule σ) (hN : plOK many P rule) (hV : plV many wide high bl G P) (hf : f < many) (q1 : ∀ p, mPage many wide high bl G P rule f p → ∀ σ1, tEq [27, 32, 33, 34, 35] [26, 28, 29, 30, 31] σ σ1 → tFr (frL wide high (gO bl G P p many)) σ1 → tBe (mRoom many wide high bl G P rule f p) σ1 → frOK wide high (gO bl G P p many) (frL wide high (gO bl G P p many)) → Q (some (.int (zI p))) σ1) (q0 : mNoPage many wide high bl G P rule f → ∀ σ1, tEq [27, 32, 33, 34, 35] [26, 28, 29, 30, 31] σ σ1 → Q (some (.int (zI (-9)))) σ1)  : ∀ (n : Nat) (page : Int) (σ1 : tS), 0 ≤ page → page ≤ 8 → tEq [27, 32, 33, 34, 35] [26, 28, 29, 30, 31] σ σ1 → (∀ p, 0 ≤ p → p < page → (mRoom many wide high bl G P rule f p).1 = -9) → (8 - page).toNat < n → jX2_findsPage E α 7 [some (.ref (α 0)), some (.int (zI (f : Nat))), some (.int (zI (pgM P many))), some (.int (zI (page)))] [] σ1 Q := by
  intro n
  induction n with
  | zero => intro page σ1 h1 h2 h3 h4 hn; exact absurd hn (Nat.not_lt_zero _)
  | succ n ih =>
    intro page σ1 h1 h2 h3 h4 hn
    have := hO.s
    have := pgM_b hN many (Nat.le_refl _)
    have hS0 := hS
    have hP0 := hP
    have hS := hS.eq h3 (by decide) (by decide) (by decide) (by decide) (by decide)
    have hP := hP.eq h3 (by decide)
    refine J_iload_n dX2_findsPage_7 rfl ?_
    refine J_iload_n dX2_findsPage_8 rfl ?_
    refine J_icmp_gt_z (tgt := 46) dX2_findsPage_9 (by decide) (by unfold zR; omega) (by unfold zR; omega) (fun c9 => ?_) (fun c9 => ?_)
    · skip
      refine J_bipush (zI (-9)) dX2_findsPage_46 rfl ?_
      exact J_iret rfl dX2_findsPage_48 (by first | exact q0 (fun p a b c => h4 p a (by omega)) σ1 h3 | exact q1 page ⟨h1, by omega, by omega, b32, h4⟩ σ3 (h3.trans ((e2.mono (by decide) (by decide)).trans (e3.mono (by decide) (by decide)))) (F2.eq e3 (by decide) (by decide) (by decide) (by decide) (by decide)) B3 O2)
    · skip
      refine J_iload_n dX2_findsPage_12 rfl ?_
      refine J_bipush (zI 8) dX2_findsPage_13 rfl ?_
      refine J_icmp_ge_z (tgt := 46) dX2_findsPage_15 (by decide) (by unfold zR; omega) (by unfold zR; omega) (fun c15 => ?_) (fun c15 => ?_)
      · skip
        refine J_bipush (zI (-9)) dX2_findsPage_46 rfl ?_
        exact J_iret rfl dX2_findsPage_48 (by first | exact q0 (fun p a b c => h4 p a (by omega)) σ1 h3 | exact q1 page ⟨h1, by omega, by omega, b32, h4⟩ σ3 (h3.trans ((e2.mono (by decide) (by decide)).trans (e3.mono (by decide) (by decide)))) (F2.eq e3 (by decide) (by decide) (by decide) (by decide) (by decide)) B3 O2)
      · skip
        refine J_aload_n dX2_findsPage_18 rfl ?_
        refine J_iload_n dX2_findsPage_19 rfl ?_
        refine TC_X2_layFree (by decide) (Nat.le_of_ble_eq_true rfl) dX2_findsPage_20 ?_
        refine t_layFree hS hO hP hN hV (by omega) (fun σ2 l e2 F2 O2 => ?_)
        obtain rfl := frL_eq O2
        have hS := hS.eq e2 (by decide) (by decide) (by decide) (by decide) (by decide)
        have hP := hP.eq e2 (by decide)
        refine J_rv ?_
        refine J_aload_n dX2_findsPage_23 rfl ?_
        refine J_iload_n dX2_findsPage_24 rfl ?_
        refine J_aload_n dX2_findsPage_25 rfl ?_
        refine TG_now dX2_findsPage_26 ?_
        refine J_bipush (zI 32) dX2_findsPage_29 rfl ?_
        refine TJ_iald 23 (32) ⟨rfl, rfl, by decide⟩ (by omega) (show 32 < 33 by omega) dX2_findsPage_31 ?_
        refine J_top (zI (rule)) (hP.2) ?_
        refine TC_X2_findsRoom (by decide) (Nat.le_of_ble_eq_true rfl) dX2_findsPage_32 ?_
        refine t_findsRoom hS hO hf F2 (O2.ok (by omega) (by omega)) O2.2.2 hN.2  (fun b32 σ3 e3 B3 => ?_) (fun b32 σ3 e3 => ?_)
        · refine J_ri ?_
          refine J_if_eq_n (tgt := 40) dX2_findsPage_35 (by decide) (by decide) ?_
          refine J_iload_n dX2_findsPage_38 rfl ?_
          exact J_iret rfl dX2_findsPage_39 (by first | exact q0 (fun p a b c => h4 p a (by omega)) σ1 h3 | exact q1 page ⟨h1, by omega, by omega, b32, h4⟩ σ3 (h3.trans ((e2.mono (by decide) (by decide)).trans (e3.mono (by decide) (by decide)))) (F2.eq e3 (by decide) (by decide) (by decide) (by decide) (by decide)) B3 O2)
        · refine J_ri ?_
          refine J_if_eq_y (tgt := 40) dX2_findsPage_35 (by decide) (by decide) ?_
          refine J_iinc_z ((page + 1)) (by omega) dX2_findsPage_40 rfl rfl (by decide) _ rfl ?_
          refine J_goto (tgt := 7) dX2_findsPage_43 (by decide) ?_
          exact ih (page + 1) σ3 (by omega) (by omega) (h3.trans ((e2.mono (by decide) (by decide)).trans (e3.mono (by decide) (by decide)))) (fun p a b => (Decidable.byCases (fun z : p = page => by rw [z]; exact b32) (fun z => h4 p a (by omega)))) (by omega)
theorem t_findsPage {E : jEnv} {α : Nat → Nat} {σ : tS} {Q : Option Value → tS → Prop} {many : Nat} {wide high bl : Int} {G : Nat → Nat → Int} {P : Nat → Nat → Int} {rule : Int} {f : Nat} (hS : tSh many wide high bl G σ) (hO : shOK many wide high bl G) (hP : tPl P rule σ) (hN : plOK many P rule) (hV : plV many wide high bl G P) (hf : f < many) (q1 : ∀ p, mPage many wide high bl G P rule f p → ∀ σ1, tEq [27, 32, 33, 34, 35] [26, 28, 29, 30, 31] σ σ1 → tFr (frL wide high (gO bl G P p many)) σ1 → tBe (mRoom many wide high bl G P rule f p) σ1 → frOK wide high (gO bl G P p many) (frL wide high (gO bl G P p many)) → Q (some (.int (zI p))) σ1) (q0 : mNoPage many wide high bl G P rule f → ∀ σ1, tEq [27, 32, 33, 34, 35] [26, 28, 29, 30, 31] σ σ1 → Q (some (.int (zI (-9)))) σ1)  : jX2_findsPage E α 0 [some (.ref (α 0)), some (.int (zI (f : Nat))), none, none] [] σ Q := by
  refine J_aload_n dX2_findsPage_0 rfl ?_
  refine TC_X2_pageMany (by decide) (Nat.le_of_ble_eq_true rfl) dX2_findsPage_1 ?_
  refine t_pageMany hS hO hP hN  ?_
  refine J_ri ?_
  refine J_istore_n dX2_findsPage_4 rfl (by decide) _ rfl ?_
  refine J_iconst (zI 0) dX2_findsPage_5 rfl ?_
  refine J_istore_n dX2_findsPage_6 rfl (by decide) _ rfl ?_
  exact tl_findsPage7 hS hO hP hN hV hf q1 q0 _ 0 σ (by omega) (by omega) tEq.refl (fun p a b => absurd b (by omega)) (Nat.lt_succ_self _)
theorem tPl_set {P : Nat → Nat → Int} {rule : Int} {σ σ1 : tS} {f : Nat} {a b c d : Int} (H : tPl P rule σ) (hf : f < 8) (e : σ1.2.1 23 = upd (upd (upd (upd (σ.2.1 23) (4 * f + 0) (zI a)) (4 * f + 1) (zI b)) (4 * f + 2) (zI c)) (4 * f + 3) (zI d)) : tPl (setP P f a b c d) rule σ1 := by
  refine ⟨fun g k hg hk => ?_, ?_⟩
  · rw [e]
    by_cases z : g = f
    · subst z
      match k, hk with
      | 0, _ => rw [upd_n (by omega), upd_n (by omega), upd_n (by omega), upd_s]; simp [setP]
      | 1, _ => rw [upd_n (by omega), upd_n (by omega), upd_s]; simp [setP]
      | 2, _ => rw [upd_n (by omega), upd_s]; simp [setP]
      | 3, _ => rw [upd_s]; simp [setP]
    · rw [upd_n (by omega), upd_n (by omega), upd_n (by omega), upd_n (by omega), H.1 g k hg hk]
      simp [setP, z]
  · rw [e, upd_n (by omega), upd_n (by omega), upd_n (by omega), upd_n (by omega)]
    exact H.2
theorem t_lifts {E : jEnv} {α : Nat → Nat} {σ : tS} {Q : Option Value → tS → Prop} {P : Nat → Nat → Int} {rule : Int} {f : Nat} (hP : tPl P rule σ) (hf : f < 8) (hq : ∀ σ1, tEq [] [23] σ σ1 → tPl (setP P f (-1) 0 0 0) rule σ1 → Q none σ1) : jX2_lifts E α 0 [some (.ref (α 0)), some (.int (zI (f : Nat)))] [] σ Q := by
  refine J_aload_n dX2_lifts_0 rfl ?_
  refine TG_now dX2_lifts_1 ?_
  refine J_iconst (zI 4) dX2_lifts_4 rfl ?_
  refine J_iload_n dX2_lifts_5 rfl ?_
  refine J_imul_z dX2_lifts_6 ?_
  refine J_iconst (zI 0) dX2_lifts_7 rfl ?_
  refine J_iadd_z dX2_lifts_8 ?_
  refine J_iconst (zI (-1)) dX2_lifts_9 rfl ?_
  refine TJ_iast 23 (((4 * f) + 0)) ⟨rfl, rfl, by decide⟩ (by omega) (show ((4 * f) + 0) < 33 by omega) dX2_lifts_10 ?_
  refine J_aload_n dX2_lifts_11 rfl ?_
  refine TG_now dX2_lifts_12 ?_
  refine J_iconst (zI 4) dX2_lifts_15 rfl ?_
  refine J_iload_n dX2_lifts_16 rfl ?_
  refine J_imul_z dX2_lifts_17 ?_
  refine J_iconst (zI 1) dX2_lifts_18 rfl ?_
  refine J_iadd_z dX2_lifts_19 ?_
  refine J_iconst (zI 0) dX2_lifts_20 rfl ?_
  refine TJ_iast 23 (((4 * f) + 1)) ⟨rfl, rfl, by decide⟩ (by omega) (show ((4 * f) + 1) < 33 by omega) dX2_lifts_21 ?_
  refine J_aload_n dX2_lifts_22 rfl ?_
  refine TG_now dX2_lifts_23 ?_
  refine J_iconst (zI 4) dX2_lifts_26 rfl ?_
  refine J_iload_n dX2_lifts_27 rfl ?_
  refine J_imul_z dX2_lifts_28 ?_
  refine J_iconst (zI 2) dX2_lifts_29 rfl ?_
  refine J_iadd_z dX2_lifts_30 ?_
  refine J_iconst (zI 0) dX2_lifts_31 rfl ?_
  refine TJ_iast 23 (((4 * f) + 2)) ⟨rfl, rfl, by decide⟩ (by omega) (show ((4 * f) + 2) < 33 by omega) dX2_lifts_32 ?_
  refine J_aload_n dX2_lifts_33 rfl ?_
  refine TG_now dX2_lifts_34 ?_
  refine J_iconst (zI 4) dX2_lifts_37 rfl ?_
  refine J_iload_n dX2_lifts_38 rfl ?_
  refine J_imul_z dX2_lifts_39 ?_
  refine J_iconst (zI 3) dX2_lifts_40 rfl ?_
  refine J_iadd_z dX2_lifts_41 ?_
  refine J_iconst (zI 0) dX2_lifts_42 rfl ?_
  refine TJ_iast 23 (((4 * f) + 3)) ⟨rfl, rfl, by decide⟩ (by omega) (show ((4 * f) + 3) < 33 by omega) dX2_lifts_43 ?_
  exact J_vret rfl dX2_lifts_44 (by exact hq _ ((((tEq.refl.sA (by decide)).sA (by decide)).sA (by decide)).sA (by decide)) (tPl_set hP hf rfl))
theorem t_sets {E : jEnv} {α : Nat → Nat} {σ : tS} {Q : Option Value → tS → Prop} {P : Nat → Nat → Int} {rule : Int} {f k : Nat} {page t : Int} {r : rct} (hP : tPl P rule σ) (hf : f < 8) (hk : k < 4096) (hA : σ.1 32 = zI k) (hT : σ.1 33 = zI t) (hR : tRc k r σ) (hq : ∀ σ1, tEq [] [23] σ σ1 → tPl (setP P f page r.1 r.2.1 t) rule σ1 → Q none σ1) : jX2_sets E α 0 [some (.ref (α 0)), some (.int (zI (f : Nat))), some (.int (zI (page)))] [] σ Q := by
  refine J_aload_n dX2_sets_0 rfl ?_
  refine TG_now dX2_sets_1 ?_
  refine J_iconst (zI 4) dX2_sets_4 rfl ?_
  refine J_iload_n dX2_sets_5 rfl ?_
  refine J_imul_z dX2_sets_6 ?_
  refine J_iconst (zI 0) dX2_sets_7 rfl ?_
  refine J_iadd_z dX2_sets_8 ?_
  refine J_iload_n dX2_sets_9 rfl ?_
  refine TJ_iast 23 (((4 * f) + 0)) ⟨rfl, rfl, by decide⟩ (by omega) (show ((4 * f) + 0) < 33 by omega) dX2_sets_10 ?_
  refine J_aload_n dX2_sets_11 rfl ?_
  refine TG_now dX2_sets_12 ?_
  refine J_iconst (zI 4) dX2_sets_15 rfl ?_
  refine J_iload_n dX2_sets_16 rfl ?_
  refine J_imul_z dX2_sets_17 ?_
  refine J_iconst (zI 1) dX2_sets_18 rfl ?_
  refine J_iadd_z dX2_sets_19 ?_
  refine J_aload_n dX2_sets_20 rfl ?_
  refine TG_freeX dX2_sets_21 ?_
  refine J_aload_n dX2_sets_24 rfl ?_
  refine TG_bestAt dX2_sets_25 ?_
  refine J_top (zI (k)) hA ?_
  refine TJ_iald 28 (k) ⟨rfl, rfl, by decide⟩ (by omega) (show k < 4096 by omega) dX2_sets_28 ?_
  refine J_top (zI (r.1)) (hR.1) ?_
  refine TJ_iast 23 (((4 * f) + 1)) ⟨rfl, rfl, by decide⟩ (by omega) (show ((4 * f) + 1) < 33 by omega) dX2_sets_29 ?_
  refine J_aload_n dX2_sets_30 rfl ?_
  refine TG_now dX2_sets_31 ?_
  refine J_iconst (zI 4) dX2_sets_34 rfl ?_
  refine J_iload_n dX2_sets_35 rfl ?_
  refine J_imul_z dX2_sets_36 ?_
  refine J_iconst (zI 2) dX2_sets_37 rfl ?_
  refine J_iadd_z dX2_sets_38 ?_
  refine J_aload_n dX2_sets_39 rfl ?_
  refine TG_freeY dX2_sets_40 ?_
  refine J_aload_n dX2_sets_43 rfl ?_
  refine TG_bestAt dX2_sets_44 ?_
  refine J_top (zI (k)) hA ?_
  refine TJ_iald 29 (k) ⟨rfl, rfl, by decide⟩ (by omega) (show k < 4096 by omega) dX2_sets_47 ?_
  refine J_top (zI (r.2.1)) (hR.2.1) ?_
  refine TJ_iast 23 (((4 * f) + 2)) ⟨rfl, rfl, by decide⟩ (by omega) (show ((4 * f) + 2) < 33 by omega) dX2_sets_48 ?_
  refine J_aload_n dX2_sets_49 rfl ?_
  refine TG_now dX2_sets_50 ?_
  refine J_iconst (zI 4) dX2_sets_53 rfl ?_
  refine J_iload_n dX2_sets_54 rfl ?_
  refine J_imul_z dX2_sets_55 ?_
  refine J_iconst (zI 3) dX2_sets_56 rfl ?_
  refine J_iadd_z dX2_sets_57 ?_
  refine J_aload_n dX2_sets_58 rfl ?_
  refine TG_bestTurned dX2_sets_59 ?_
  refine J_top (zI (t)) hT ?_
  refine TJ_iast 23 (((4 * f) + 3)) ⟨rfl, rfl, by decide⟩ (by omega) (show ((4 * f) + 3) < 33 by omega) dX2_sets_62 ?_
  exact J_vret rfl dX2_sets_63 (by exact hq _ ((((tEq.refl.sA (by decide)).sA (by decide)).sA (by decide)).sA (by decide)) (tPl_set hP hf rfl))
/-- all lifted, of the first f frames -/
def mLift (P : Nat → Nat → Int) (f : Nat) : Nat → Nat → Int := fun g k => if g < f then P0 g k else P g k
theorem mLift_s (P : Nat → Nat → Int) (f : Nat) : setP (mLift P f) f (-1) 0 0 0 = mLift P (f + 1) := by
  funext g k
  unfold setP mLift P0
  by_cases z : g = f
  · subst z
    simp
    match k with
    | 0 => simp
    | 1 => simp
    | 2 => simp
    | k + 3 => simp
  · by_cases y : g < f
    · simp [z, y, Nat.lt_succ_of_lt y]
    · simp [z, y, show ¬ g < f + 1 by omega]
theorem tl_liftsAll2 {E : jEnv} {α : Nat → Nat} {σ : tS} {Q : Option Value → tS → Prop} {P : Nat → Nat → Int} {rule : Int}  (hP : tPl P rule σ) (hq : ∀ σ1, tEq [] [23] σ σ1 → tPl (mLift P 8) rule σ1 → Q none σ1) : ∀ (n : Nat) (f : Nat) (σ1 : tS), f ≤ 8 → tEq [] [23] σ σ1 → tPl (mLift P f) rule σ1 → 8 - f < n → jX2_liftsAll E α 2 [some (.ref (α 0)), some (.int (zI (f : Nat)))] [] σ1 Q := by
  intro n
  induction n with
  | zero => intro f σ1 h1 h2 h3 hn; exact absurd hn (Nat.not_lt_zero _)
  | succ n ih =>
    intro f σ1 h1 h2 h3 hn
    refine J_iload_n dX2_liftsAll_2 rfl ?_
    refine J_bipush (zI 8) dX2_liftsAll_3 rfl ?_
    refine J_icmp_ge_z (tgt := 58) dX2_liftsAll_5 (by decide) (by unfold zR; omega) (by unfold zR; omega) (fun c5 => ?_) (fun c5 => ?_)
    · skip
      obtain rfl : f = 8 := by omega
      exact J_vret rfl dX2_liftsAll_58 (by exact hq σ1 h2 h3)
    · skip
      refine J_aload_n dX2_liftsAll_8 rfl ?_
      refine TG_now dX2_liftsAll_9 ?_
      refine J_iconst (zI 4) dX2_liftsAll_12 rfl ?_
      refine J_iload_n dX2_liftsAll_13 rfl ?_
      refine J_imul_z dX2_liftsAll_14 ?_
      refine J_iconst (zI 0) dX2_liftsAll_15 rfl ?_
      refine J_iadd_z dX2_liftsAll_16 ?_
      refine J_iconst (zI (-1)) dX2_liftsAll_17 rfl ?_
      refine TJ_iast 23 (((4 * f) + 0)) ⟨rfl, rfl, by decide⟩ (by omega) (show ((4 * f) + 0) < 33 by omega) dX2_liftsAll_18 ?_
      refine J_aload_n dX2_liftsAll_19 rfl ?_
      refine TG_now dX2_liftsAll_20 ?_
      refine J_iconst (zI 4) dX2_liftsAll_23 rfl ?_
      refine J_iload_n dX2_liftsAll_24 rfl ?_
      refine J_imul_z dX2_liftsAll_25 ?_
      refine J_iconst (zI 1) dX2_liftsAll_26 rfl ?_
      refine J_iadd_z dX2_liftsAll_27 ?_
      refine J_iconst (zI 0) dX2_liftsAll_28 rfl ?_
      refine TJ_iast 23 (((4 * f) + 1)) ⟨rfl, rfl, by decide⟩ (by omega) (show ((4 * f) + 1) < 33 by omega) dX2_liftsAll_29 ?_
      refine J_aload_n dX2_liftsAll_30 rfl ?_
      refine TG_now dX2_liftsAll_31 ?_
      refine J_iconst (zI 4) dX2_liftsAll_34 rfl ?_
      refine J_iload_n dX2_liftsAll_35 rfl ?_
      refine J_imul_z dX2_liftsAll_36 ?_
      refine J_iconst (zI 2) dX2_liftsAll_37 rfl ?_
      refine J_iadd_z dX2_liftsAll_38 ?_
      refine J_iconst (zI 0) dX2_liftsAll_39 rfl ?_
      refine TJ_iast 23 (((4 * f) + 2)) ⟨rfl, rfl, by decide⟩ (by omega) (show ((4 * f) + 2) < 33 by omega) dX2_liftsAll_40 ?_
      refine J_aload_n dX2_liftsAll_41 rfl ?_
      refine TG_now dX2_liftsAll_42 ?_
      refine J_iconst (zI 4) dX2_liftsAll_45 rfl ?_
      refine J_iload_n dX2_liftsAll_46 rfl ?_
      refine J_imul_z dX2_liftsAll_47 ?_
      refine J_iconst (zI 3) dX2_liftsAll_48 rfl ?_
      refine J_iadd_z dX2_liftsAll_49 ?_
      refine J_iconst (zI 0) dX2_liftsAll_50 rfl ?_
      refine TJ_iast 23 (((4 * f) + 3)) ⟨rfl, rfl, by decide⟩ (by omega) (show ((4 * f) + 3) < 33 by omega) dX2_liftsAll_51 ?_
      refine J_iinc_z ((((f + 1)) : Nat) : Int) (by omega) dX2_liftsAll_52 rfl rfl (by decide) _ rfl ?_
      refine J_goto (tgt := 2) dX2_liftsAll_55 (by decide) ?_
      exact ih (f + 1) _ (by omega) (by exact (((h2.sA (by decide)).sA (by decide)).sA (by decide)).sA (by decide)) (by rw [← mLift_s]; exact tPl_set h3 (by omega) rfl) (by omega)
theorem t_liftsAll {E : jEnv} {α : Nat → Nat} {σ : tS} {Q : Option Value → tS → Prop} {P : Nat → Nat → Int} {rule : Int}  (hP : tPl P rule σ) (hq : ∀ σ1, tEq [] [23] σ σ1 → tPl P0 rule σ1 → Q none σ1) : jX2_liftsAll E α 0 [some (.ref (α 0)), none] [] σ Q := by
  refine J_iconst (zI 0) dX2_liftsAll_0 rfl ?_
  refine J_istore_n dX2_liftsAll_1 rfl (by decide) _ rfl ?_
  exact tl_liftsAll2 hP (fun σ1 e h => hq σ1 e ⟨fun f k hf hk => (by have := h.1 f k hf hk; rwa [mLift, if_pos hf] at this), h.2⟩) _ 0 σ (by omega) tEq.refl ⟨fun f k hf hk => (by rw [mLift, if_neg (by omega)]; exact hP.1 f k hf hk), hP.2⟩ (Nat.lt_succ_self _)
theorem tl_takenOf4 {E : jEnv} {α : Nat → Nat} {σ : tS} {Q : Option Value → tS → Prop} {many : Nat} {wide high bl : Int} {G : Nat → Nat → Int} {P : Nat → Nat → Int} {rule : Int} {page : Int} (hS : tSh many wide high bl G σ) (hO : shOK many wide high bl G) (hP : tPl P rule σ) (hN : plOK many P rule) (rp : zR page) (hq : Q (some (.int (zI (mTaken bl G P page many)))) σ) : ∀ (n : Nat) (f : Nat), f ≤ many → many - f < n → jX2_takenOf E α 4 [some (.ref (α 0)), some (.int (zI (page))), some (.int (zI (mTaken bl G P page f))), some (.int (zI (f : Nat)))] [] σ Q := by
  intro n
  induction n with
  | zero => intro f h1 hn; exact absurd hn (Nat.not_lt_zero _)
  | succ n ih =>
    intro f h1 hn
    have := hO.s
    have := mTaken_b (P := P) (page := page) hO f h1
    refine J_iload_n dX2_takenOf_4 rfl ?_
    refine J_aload_n dX2_takenOf_5 rfl ?_
    refine TG_frameMany dX2_takenOf_6 ?_
    refine J_top (zI (many)) hS.1 ?_
    refine J_icmp_ge_z (tgt := 52) dX2_takenOf_9 (by decide) (by unfold zR at *; omega) (by unfold zR at *; omega) (fun c9 => ?_) (fun c9 => ?_)
    · skip
      obtain rfl : f = many := by omega
      refine J_iload_n dX2_takenOf_52 rfl ?_
      exact J_iret rfl dX2_takenOf_53 (by exact hq)
    · skip
      refine J_iload_n dX2_takenOf_12 rfl ?_
      have := hN.1 f (by omega)
      refine J_aload_n dX2_takenOf_13 rfl ?_
      refine TG_now dX2_takenOf_14 ?_
      refine J_iconst (zI 4) dX2_takenOf_17 rfl ?_
      refine J_iload_n dX2_takenOf_18 rfl ?_
      refine J_imul_z dX2_takenOf_19 ?_
      refine J_iconst (zI 0) dX2_takenOf_20 rfl ?_
      refine J_iadd_z dX2_takenOf_21 ?_
      refine TJ_iald 23 (((4 * f) + 0)) ⟨rfl, rfl, by decide⟩ (by omega) (show ((4 * f) + 0) < 33 by omega) dX2_takenOf_22 ?_
      refine J_top (zI (P f 0)) (hP.1 f 0 (by omega) (by decide)) ?_
      refine J_iload_n dX2_takenOf_23 rfl ?_
      refine J_icmp_ne_z (tgt := 43) dX2_takenOf_24 (by decide) (by unfold zR at *; omega) (by unfold zR at *; omega) (fun c24 => ?_) (fun c24 => ?_)
      · skip
        refine J_iconst (zI 0) dX2_takenOf_43 rfl ?_
        refine J_iadd_z dX2_takenOf_44 ?_
        refine J_top (zI (mTaken bl G P page (f + 1))) (congrArg zI (by simp only [mTaken]; split <;> omega)) ?_
        refine J_istore_n dX2_takenOf_45 rfl (by decide) _ rfl ?_
        refine J_iinc_z ((((f + 1)) : Nat) : Int) (by omega) dX2_takenOf_46 rfl rfl (by decide) _ rfl ?_
        refine J_goto (tgt := 4) dX2_takenOf_49 (by decide) ?_
        exact ih (f + 1) (by omega) (by omega)
      · skip
        refine J_aload_n dX2_takenOf_27 rfl ?_
        refine J_iload_n dX2_takenOf_28 rfl ?_
        refine J_iconst (zI 0) dX2_takenOf_29 rfl ?_
        refine TC_X2_needX (by decide) (Nat.le_of_ble_eq_true rfl) dX2_takenOf_30 ?_
        refine t_needX hS hO (by omega) (by omega) ?_
        refine J_ri ?_
        refine J_aload_n dX2_takenOf_33 rfl ?_
        refine J_iload_n dX2_takenOf_34 rfl ?_
        refine J_iconst (zI 0) dX2_takenOf_35 rfl ?_
        refine TC_X2_needY (by decide) (Nat.le_of_ble_eq_true rfl) dX2_takenOf_36 ?_
        refine t_needY hS hO (by omega) (by omega) ?_
        refine J_ri ?_
        refine J_imul_z dX2_takenOf_39 ?_
        refine J_goto (tgt := 44) dX2_takenOf_40 (by decide) ?_
        refine J_iadd_z dX2_takenOf_44 ?_
        refine J_top (zI (mTaken bl G P page (f + 1))) (congrArg zI (by simp only [mTaken]; split <;> omega)) ?_
        refine J_istore_n dX2_takenOf_45 rfl (by decide) _ rfl ?_
        refine J_iinc_z ((((f + 1)) : Nat) : Int) (by omega) dX2_takenOf_46 rfl rfl (by decide) _ rfl ?_
        refine J_goto (tgt := 4) dX2_takenOf_49 (by decide) ?_
        exact ih (f + 1) (by omega) (by omega)
theorem t_takenOf {E : jEnv} {α : Nat → Nat} {σ : tS} {Q : Option Value → tS → Prop} {many : Nat} {wide high bl : Int} {G : Nat → Nat → Int} {P : Nat → Nat → Int} {rule : Int} {page : Int} (hS : tSh many wide high bl G σ) (hO : shOK many wide high bl G) (hP : tPl P rule σ) (hN : plOK many P rule) (rp : zR page) (hq : Q (some (.int (zI (mTaken bl G P page many)))) σ) : jX2_takenOf E α 0 [some (.ref (α 0)), some (.int (zI (page))), none, none] [] σ Q := by
  refine J_iconst (zI 0) dX2_takenOf_0 rfl ?_
  refine J_istore_n dX2_takenOf_1 rfl (by decide) _ rfl ?_
  refine J_iconst (zI 0) dX2_takenOf_2 rfl ?_
  refine J_istore_n dX2_takenOf_3 rfl (by decide) _ rfl ?_
  exact tl_takenOf4 hS hO hP hN rp hq _ 0 (by omega) (Nat.lt_succ_self _)
theorem tl_setMany4 {E : jEnv} {α : Nat → Nat} {σ : tS} {Q : Option Value → tS → Prop} {many : Nat} {wide high bl : Int} {G : Nat → Nat → Int} {P : Nat → Nat → Int} {rule : Int}  (hS : tSh many wide high bl G σ) (hO : shOK many wide high bl G) (hP : tPl P rule σ) (hN : plOK many P rule) (hq : Q (some (.int (zI (mSetN P many)))) σ) : ∀ (n : Nat) (f : Nat), f ≤ many → many - f < n → jX2_setMany E α 4 [some (.ref (α 0)), some (.int (zI (mSetN P f))), some (.int (zI (f : Nat)))] [] σ Q := by
  intro n
  induction n with
  | zero => intro f h1 hn; exact absurd hn (Nat.not_lt_zero _)
  | succ n ih =>
    intro f h1 hn
    have := hO.s
    have := mSetN_b P f
    refine J_iload_n dX2_setMany_4 rfl ?_
    refine J_aload_n dX2_setMany_5 rfl ?_
    refine TG_frameMany dX2_setMany_6 ?_
    refine J_top (zI (many)) hS.1 ?_
    refine J_icmp_ge_z (tgt := 34) dX2_setMany_9 (by decide) (by unfold zR; omega) (by unfold zR; omega) (fun c9 => ?_) (fun c9 => ?_)
    · skip
      obtain rfl : f = many := by omega
      refine J_iload_n dX2_setMany_34 rfl ?_
      exact J_iret rfl dX2_setMany_35 (by exact hq)
    · skip
      refine J_iload_n dX2_setMany_12 rfl ?_
      refine J_aload_n dX2_setMany_13 rfl ?_
      refine J_iload_n dX2_setMany_14 rfl ?_
      refine TC_X2_isSet (by decide) (Nat.le_of_ble_eq_true rfl) dX2_setMany_15 ?_
      refine t_isSet hS hO hP hN (by omega) (fun b15 => ?_) (fun b15 => ?_)
      · refine J_ri ?_
        refine J_if_eq_n (tgt := 25) dX2_setMany_18 (by decide) (by decide) ?_
        refine J_iconst (zI 1) dX2_setMany_21 rfl ?_
        refine J_goto (tgt := 26) dX2_setMany_22 (by decide) ?_
        refine J_iadd_z dX2_setMany_26 ?_
        refine J_top (zI (mSetN P (f + 1))) (congrArg zI (by simp only [mSetN]; split <;> omega)) ?_
        refine J_istore_n dX2_setMany_27 rfl (by decide) _ rfl ?_
        refine J_iinc_z ((((f + 1)) : Nat) : Int) (by omega) dX2_setMany_28 rfl rfl (by decide) _ rfl ?_
        refine J_goto (tgt := 4) dX2_setMany_31 (by decide) ?_
        exact ih (f + 1) (by omega) (by omega)
      · refine J_ri ?_
        refine J_if_eq_y (tgt := 25) dX2_setMany_18 (by decide) (by decide) ?_
        refine J_iconst (zI 0) dX2_setMany_25 rfl ?_
        refine J_iadd_z dX2_setMany_26 ?_
        refine J_top (zI (mSetN P (f + 1))) (congrArg zI (by simp only [mSetN]; split <;> omega)) ?_
        refine J_istore_n dX2_setMany_27 rfl (by decide) _ rfl ?_
        refine J_iinc_z ((((f + 1)) : Nat) : Int) (by omega) dX2_setMany_28 rfl rfl (by decide) _ rfl ?_
        refine J_goto (tgt := 4) dX2_setMany_31 (by decide) ?_
        exact ih (f + 1) (by omega) (by omega)
theorem t_setMany {E : jEnv} {α : Nat → Nat} {σ : tS} {Q : Option Value → tS → Prop} {many : Nat} {wide high bl : Int} {G : Nat → Nat → Int} {P : Nat → Nat → Int} {rule : Int}  (hS : tSh many wide high bl G σ) (hO : shOK many wide high bl G) (hP : tPl P rule σ) (hN : plOK many P rule) (hq : Q (some (.int (zI (mSetN P many)))) σ) : jX2_setMany E α 0 [some (.ref (α 0)), none, none] [] σ Q := by
  refine J_iconst (zI 0) dX2_setMany_0 rfl ?_
  refine J_istore_n dX2_setMany_1 rfl (by decide) _ rfl ?_
  refine J_iconst (zI 0) dX2_setMany_2 rfl ?_
  refine J_istore_n dX2_setMany_3 rfl (by decide) _ rfl ?_
  exact tl_setMany4 hS hO hP hN hq _ 0 (by omega) (Nat.lt_succ_self _)
