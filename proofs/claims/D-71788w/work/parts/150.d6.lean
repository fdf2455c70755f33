set_option maxRecDepth 100000
/-! the component: read back; set, lift, all, rule, undo -/
theorem cPl.same {many : Nat} {P c c' : Nat → Nat → Int} (h : cPl many P c) (e : ∀ g k, g < many → k < 4 → c' g k = c g k) : cPl many P c' := by
  intro g hg
  rw [e g 0 hg (by omega), e g 1 hg (by omega), e g 2 hg (by omega), e g 3 hg (by omega)]
  exact h g hg
theorem cPl_back {many : Nat} {P c c2 : Nat → Nat → Int} {f : Nat} (hP : cPl many P c) (h0 : P f 0 = -1) (h1 : ∀ g, g ≠ f → c2 g = c g) (h2 : c2 f 0 = -9) (h3 : c2 f 3 = 0 ∨ c2 f 3 = 1) : cPl many P c2 := by
  intro g hg
  by_cases z : g = f
  · subst z
    exact ⟨h3, Or.inl ⟨h0, h2⟩⟩
  · rw [h1 g z]
    exact hP g hg
theorem cLg.up {many dm : Nat} {H : Nat → mPl} {I A : List Nat} {σ σ' : cS} (h : cLg many dm H σ) (e : cP I A σ σ') (h30 : 30 ∉ I) (h31 : 31 ∉ A) : cLg many dm H σ' := ⟨(e.1 30 h30).trans h.1, by rw [e.2.1 31 h31]; exact h.2⟩
theorem cP_kp {I A : List Nat} {σ σ' : cS} (e : cP I A σ σ') : σ'.kp = σ.kp := e.2.2.2.2.2.2.1
theorem cP_d {I A : List Nat} {σ σ' : cS} (e : cP I A σ σ') : σ'.d = σ.d := e.2.2.2.2.2.2.2.2
theorem up4 {c : Nat → Int} {z0 z1 z2 z3 : Int} {d : Nat → Int} (h0 : z0 = d 0) (h1 : z1 = d 1) (h2 : z2 = d 2) (h3 : z3 = d 3) : ∀ k, k < 4 → upI (upI (upI (upI c 0 z0) 1 z1) 2 z2) 3 z3 k = d k := by
  intro k hk
  match k, hk with
  | 0, _ => exact h0
  | 1, _ => exact h1
  | 2, _ => exact h2
  | 3, _ => exact h3

theorem cl_readBack31 {E : jEnv} {α : Nat → Nat} {σ : cS} {Q : Option Value → cS → Prop} {many : Nat} {wide high bl : Int} {G : Nat → Nat → Int} {ad : Nat → Nat} {c : Nat → Nat → Int} {o : Nat} {c0 : Nat → Nat → Int}  (hS : cSh many wide high bl G ad c σ) (hO : shOK many wide high bl G) (ho : o + 33 ≤ 1320) (hc3b : ∀ f, f < many → c0 f 3 = 0 ∨ c0 f 3 = 1) (hr0 : ∀ f k, f < many → k < 4 → σ.a 31 (o + 1 + 4 * f + k) = zI (c0 f k)) (hq : ∀ σ' c1, cP [] [] σ σ' → σ'.ru = σ.ru → cSh many wide high bl G ad c1 σ' → (∀ g k, g < many → k < 4 → c1 g k = c0 g k) → Q none σ')  : ∀ (n : Nat) (f : Nat) (σ1 : cS) (cc : Nat → Nat → Int), f ≤ many → cP [] [] σ σ1 → σ1.ru = σ.ru → cSh many wide high bl G ad cc σ1 → (∀ g k, g < f → k < 4 → cc g k = c0 g k) → many - f < n → J E (wC E α) (cX E, none) cX0_readBack 4 none RX0 (jR 4 1 0) (1) (0) 12 [some (.ref (α 0)), some (.ref (α 32)), some (.int (zI (o : Nat))), some (.int (zI (f : Nat)))] [] σ1 Q := by
  intro n
  induction n with
  | zero => intro f σ1 cc h1 h2 h3 h4 h5 hn; exact absurd hn (Nat.not_lt_zero _)
  | succ n ih =>
    intro f σ1 cc h1 h2 h3 h4 h5 hn
    have hO8 := hO.s
    have hS0 := hS
    have hS := h4
    refine J_iload_n dX0_readBack_12 rfl ?_
    refine J_aload_n dX0_readBack_13 rfl ?_
    refine CG_many dX0_readBack_14 ?_
    refine J_top (zI (many)) h4.1 ?_
    refine J_icmp_ge_z (tgt := 107) dX0_readBack_17 (by decide) (by unfold zR; omega) (by unfold zR; omega) (fun c17 => ?_) (fun c17 => ?_)
    · skip
      obtain rfl : f = many := by omega
      exact J_vret rfl dX0_readBack_107 (by exact hq σ1 cc h2 h3 h4 h5)
    · skip
      have hf : f < many := by omega
      have h3c := hc3b f hf
      refine J_aload_n dX0_readBack_20 rfl ?_
      refine CG_frames dX0_readBack_21 ?_
      refine J_iload_n dX0_readBack_24 rfl ?_
      refine CA_fr (hS.2.2.2.2 _ hf) (by omega) (by have := hO.1; omega) dX0_readBack_25 ?_
      refine J_aload_n dX0_readBack_26 rfl ?_
      refine J_iload_n dX0_readBack_27 rfl ?_
      refine J_iconst (zI 1) dX0_readBack_28 rfl ?_
      refine J_iadd_z dX0_readBack_29 ?_
      refine J_iconst (zI 4) dX0_readBack_30 rfl ?_
      refine J_iload_n dX0_readBack_31 rfl ?_
      refine J_imul_z dX0_readBack_32 ?_
      refine J_iadd_z dX0_readBack_33 ?_
      refine CJ_iald 31 (o + 1 + 4 * f + 0) ⟨rfl, by decide, by decide, by decide⟩ (by omega) (show o + 1 + 4 * f + 0 < 1320 by omega) dX0_readBack_34 ?_
      refine J_top (zI ((c0 f 0))) (((congrFun (h2.2.1 31 (by decide)) _).trans (hr0 f 0 hf (by omega)))) ?_
      refine FP_page (σ' := cFr _ f (some (ad f, G f, upI (cc f) 0 ((c0 f 0))))) G f  (hS.w hf hO.1) (hO.k hf) (wC_Fr (Nat.lt_of_lt_of_le hf hO.1) (hS.2.2.2.2 _ hf) _) dX0_readBack_35 ?_
      have hS := hS.put f (upI (cc f) 0 (c0 f 0))
      obtain ⟨c1, hc1⟩ : ∃ c1, c1 = updC cc f (upI (cc f) 0 (c0 f 0)) := ⟨_, rfl⟩
      rw [← hc1] at hS
      refine J_aload_n dX0_readBack_38 rfl ?_
      refine CG_frames dX0_readBack_39 ?_
      refine J_iload_n dX0_readBack_42 rfl ?_
      refine CA_fr (hS.2.2.2.2 _ hf) (by omega) (by have := hO.1; omega) dX0_readBack_43 ?_
      refine J_aload_n dX0_readBack_44 rfl ?_
      refine J_iload_n dX0_readBack_45 rfl ?_
      refine J_iconst (zI 2) dX0_readBack_46 rfl ?_
      refine J_iadd_z dX0_readBack_47 ?_
      refine J_iconst (zI 4) dX0_readBack_48 rfl ?_
      refine J_iload_n dX0_readBack_49 rfl ?_
      refine J_imul_z dX0_readBack_50 ?_
      refine J_iadd_z dX0_readBack_51 ?_
      refine CJ_iald 31 (o + 1 + 4 * f + 1) ⟨rfl, by decide, by decide, by decide⟩ (by omega) (show o + 1 + 4 * f + 1 < 1320 by omega) dX0_readBack_52 ?_
      refine J_top (zI ((c0 f 1))) (((congrFun (h2.2.1 31 (by decide)) _).trans (hr0 f 1 hf (by omega)))) ?_
      refine FP_x (σ' := cFr _ f (some (ad f, G f, upI (c1 f) 1 ((c0 f 1))))) G f  (hS.w hf hO.1) (hO.k hf) (wC_Fr (Nat.lt_of_lt_of_le hf hO.1) (hS.2.2.2.2 _ hf) _) dX0_readBack_53 ?_
      have hS := hS.put f (upI (c1 f) 1 (c0 f 1))
      obtain ⟨c2, hc2⟩ : ∃ c2, c2 = updC c1 f (upI (c1 f) 1 (c0 f 1)) := ⟨_, rfl⟩
      rw [← hc2] at hS
      refine J_aload_n dX0_readBack_56 rfl ?_
      refine CG_frames dX0_readBack_57 ?_
      refine J_iload_n dX0_readBack_60 rfl ?_
      refine CA_fr (hS.2.2.2.2 _ hf) (by omega) (by have := hO.1; omega) dX0_readBack_61 ?_
      refine J_aload_n dX0_readBack_62 rfl ?_
      refine J_iload_n dX0_readBack_63 rfl ?_
      refine J_iconst (zI 3) dX0_readBack_64 rfl ?_
      refine J_iadd_z dX0_readBack_65 ?_
      refine J_iconst (zI 4) dX0_readBack_66 rfl ?_
      refine J_iload_n dX0_readBack_67 rfl ?_
      refine J_imul_z dX0_readBack_68 ?_
      refine J_iadd_z dX0_readBack_69 ?_
      refine CJ_iald 31 (o + 1 + 4 * f + 2) ⟨rfl, by decide, by decide, by decide⟩ (by omega) (show o + 1 + 4 * f + 2 < 1320 by omega) dX0_readBack_70 ?_
      refine J_top (zI ((c0 f 2))) (((congrFun (h2.2.1 31 (by decide)) _).trans (hr0 f 2 hf (by omega)))) ?_
      refine FP_y (σ' := cFr _ f (some (ad f, G f, upI (c2 f) 2 ((c0 f 2))))) G f  (hS.w hf hO.1) (hO.k hf) (wC_Fr (Nat.lt_of_lt_of_le hf hO.1) (hS.2.2.2.2 _ hf) _) dX0_readBack_71 ?_
      have hS := hS.put f (upI (c2 f) 2 (c0 f 2))
      obtain ⟨c3, hc3⟩ : ∃ c3, c3 = updC c2 f (upI (c2 f) 2 (c0 f 2)) := ⟨_, rfl⟩
      rw [← hc3] at hS
      refine J_aload_n dX0_readBack_74 rfl ?_
      refine CG_frames dX0_readBack_75 ?_
      refine J_iload_n dX0_readBack_78 rfl ?_
      refine CA_fr (hS.2.2.2.2 _ hf) (by omega) (by have := hO.1; omega) dX0_readBack_79 ?_
      refine J_aload_n dX0_readBack_80 rfl ?_
      refine J_iload_n dX0_readBack_81 rfl ?_
      refine J_iconst (zI 4) dX0_readBack_82 rfl ?_
      refine J_iadd_z dX0_readBack_83 ?_
      refine J_iconst (zI 4) dX0_readBack_84 rfl ?_
      refine J_iload_n dX0_readBack_85 rfl ?_
      refine J_imul_z dX0_readBack_86 ?_
      refine J_iadd_z dX0_readBack_87 ?_
      refine CJ_iald 31 (o + 1 + 4 * f + 3) ⟨rfl, by decide, by decide, by decide⟩ (by omega) (show o + 1 + 4 * f + 3 < 1320 by omega) dX0_readBack_88 ?_
      refine J_top (zI ((c0 f 3))) (((congrFun (h2.2.1 31 (by decide)) _).trans (hr0 f 3 hf (by omega)))) ?_
      refine J_iconst (zI 1) dX0_readBack_89 rfl ?_
      refine J_icmp_ne_z (tgt := 97) dX0_readBack_90 (by decide) (by unfold zR; omega) (by unfold zR; omega) (fun c90 => ?_) (fun c90 => ?_)
      · skip
        refine J_iconst (zI 0) dX0_readBack_97 rfl ?_
        refine FP_turned (σ' := cFr _ f (some (ad f, G f, upI (c3 f) 3 (0)))) G f (Or.inl rfl) (hS.w hf hO.1) (hO.k hf) (wC_Fr (Nat.lt_of_lt_of_le hf hO.1) (hS.2.2.2.2 _ hf) _) dX0_readBack_98 ?_
        have hS := hS.put f (upI (c3 f) 3 (0))
        obtain ⟨c4, hc4⟩ : ∃ c4, c4 = updC c3 f (upI (c3 f) 3 (0)) := ⟨_, rfl⟩
        rw [← hc4] at hS
        refine J_iinc_z ((((f + 1)) : Nat) : Int) (by omega) dX0_readBack_101 rfl rfl (by decide) _ rfl ?_
        refine J_goto (tgt := 12) dX0_readBack_104 (by decide) ?_
        have e4 : c4 f = upI (upI (upI (upI (cc f) 0 (c0 f 0)) 1 (c0 f 1)) 2 (c0 f 2)) 3 (0) := by rw [hc4, updC_s, hc3, updC_s, hc2, updC_s, hc1, updC_s]
        have e5 : ∀ g, g ≠ f → c4 g = cc g := fun g hg => by rw [hc4, updC_n hg, hc3, updC_n hg, hc2, updC_n hg, hc1, updC_n hg]
        refine ih (f + 1) _ c4 (by omega) (cP.sF (cP.sF (cP.sF (cP.sF h2)))) h3 hS (fun g k hg hk => ?_) (by omega)
        by_cases z : g = f
        · subst z; rw [e4]; exact up4 rfl rfl rfl (by omega) k hk
        · rw [e5 g z]; exact h5 g k (by omega) hk
      · skip
        refine J_iconst (zI 1) dX0_readBack_93 rfl ?_
        refine J_goto (tgt := 98) dX0_readBack_94 (by decide) ?_
        refine FP_turned (σ' := cFr _ f (some (ad f, G f, upI (c3 f) 3 (1)))) G f (Or.inr rfl) (hS.w hf hO.1) (hO.k hf) (wC_Fr (Nat.lt_of_lt_of_le hf hO.1) (hS.2.2.2.2 _ hf) _) dX0_readBack_98 ?_
        have hS := hS.put f (upI (c3 f) 3 (1))
        obtain ⟨c4, hc4⟩ : ∃ c4, c4 = updC c3 f (upI (c3 f) 3 (1)) := ⟨_, rfl⟩
        rw [← hc4] at hS
        refine J_iinc_z ((((f + 1)) : Nat) : Int) (by omega) dX0_readBack_101 rfl rfl (by decide) _ rfl ?_
        refine J_goto (tgt := 12) dX0_readBack_104 (by decide) ?_
        have e4 : c4 f = upI (upI (upI (upI (cc f) 0 (c0 f 0)) 1 (c0 f 1)) 2 (c0 f 2)) 3 (1) := by rw [hc4, updC_s, hc3, updC_s, hc2, updC_s, hc1, updC_s]
        have e5 : ∀ g, g ≠ f → c4 g = cc g := fun g hg => by rw [hc4, updC_n hg, hc3, updC_n hg, hc2, updC_n hg, hc1, updC_n hg]
        refine ih (f + 1) _ c4 (by omega) (cP.sF (cP.sF (cP.sF (cP.sF h2)))) h3 hS (fun g k hg hk => ?_) (by omega)
        by_cases z : g = f
        · subst z; rw [e4]; exact up4 rfl rfl rfl (by omega) k hk
        · rw [e5 g z]; exact h5 g k (by omega) hk
theorem c_readBack31 {E : jEnv} {α : Nat → Nat} {σ : cS} {Q : Option Value → cS → Prop} {many : Nat} {wide high bl : Int} {G : Nat → Nat → Int} {ad : Nat → Nat} {c : Nat → Nat → Int} {o : Nat} {p : mPl}  (hS : cSh many wide high bl G ad c σ) (hO : shOK many wide high bl G) (ho : o + 33 ≤ 1320) (hd0 : σ.d 0 = none) (hrow : cRow many (σ.a 31) o p) (hp : 0 ≤ p.2 ∧ p.2 ≤ 3) (hq : ∀ σ' c1, cP [] [] σ σ' → cSh many wide high bl G ad c1 σ' → cPl many p.1 c1 → cRl p.2 σ' → Q none σ')  : jX0_readBack E α 0 [some (.ref (α 0)), some (.ref (α 32)), some (.int (zI (o : Nat))), none] [] σ Q := by
  refine J_aload_n dX0_readBack_0 rfl ?_
  refine J_aload_n dX0_readBack_1 rfl ?_
  refine J_iload_n dX0_readBack_2 rfl ?_
  refine CJ_iald 31 (o) ⟨rfl, by decide, by decide, by decide⟩ (by omega) (show o < 1320 by omega) dX0_readBack_3 ?_
  refine J_top (zI (p.2)) (hrow.1) ?_
  refine J_top (zI ((p.2.toNat : Nat) : Int)) (congrArg zI (by omega)) ?_
  refine CC_X0_newRule (by decide) (by decide) (Nat.le_of_ble_eq_true rfl) dX0_readBack_4 ?_
  refine c_newRule (ru := p.2.toNat) (by omega) (fun a => ?_)
  refine J_ra ?_
  refine CP_rule (ru := p.2.toNat) rfl dX0_readBack_7 ?_
  refine J_w (cRu_new hd0) ?_
  refine J_iconst (zI 0) dX0_readBack_10 rfl ?_
  refine J_istore_n dX0_readBack_11 rfl (by decide) _ rfl ?_
  refine J_fg (L' := [some (.ref (α 0)), some (.ref (α 32)), some (.int (zI (o : Nat))), some (.int (zI ((0 : Nat))))]) (by repeat' constructor) ?_
  obtain ⟨hrow1, c0, hr1, hr0⟩ := hrow
  refine cl_readBack31 (σ := cRu σ (a, p.2.toNat)) (c0 := c0) (show cSh many wide high bl G ad c _ from hS) hO ho (fun f hf => (hr1 f hf).1) hr0 (fun σ' c1 e1 e2 s1 k1 => hq σ' c1 (cP.trans (b := cRu σ (a, p.2.toNat)) cP.refl e1) s1 (hr1.same k1) ?_) _ 0 _ c (by omega) cP.refl rfl hS (fun g k hg => by omega) (Nat.lt_succ_self _)
  unfold cRl
  rw [e2]
  exact ⟨show p.2.toNat < 4 by omega, by show p.2 = ((p.2.toNat : Nat) : Int); omega⟩
theorem cl_readBack33 {E : jEnv} {α : Nat → Nat} {σ : cS} {Q : Option Value → cS → Prop} {many : Nat} {wide high bl : Int} {G : Nat → Nat → Int} {ad : Nat → Nat} {c : Nat → Nat → Int} {c0 : Nat → Nat → Int}  (hS : cSh many wide high bl G ad c σ) (hO : shOK many wide high bl G) (hc3b : ∀ f, f < many → c0 f 3 = 0 ∨ c0 f 3 = 1) (hr0 : ∀ f k, f < many → k < 4 → σ.a 33 (0 + 1 + 4 * f + k) = zI (c0 f k)) (hq : ∀ σ' c1, cP [] [] σ σ' → σ'.ru = σ.ru → cSh many wide high bl G ad c1 σ' → (∀ g k, g < many → k < 4 → c1 g k = c0 g k) → Q none σ')  : ∀ (n : Nat) (f : Nat) (σ1 : cS) (cc : Nat → Nat → Int), f ≤ many → cP [] [] σ σ1 → σ1.ru = σ.ru → cSh many wide high bl G ad cc σ1 → (∀ g k, g < f → k < 4 → cc g k = c0 g k) → many - f < n → J E (wC E α) (cX E, none) cX0_readBack 4 none RX0 (jR 4 1 0) (1) (0) 12 [some (.ref (α 0)), some (.ref (α 34)), some (.int (zI 0)), some (.int (zI (f : Nat)))] [] σ1 Q := by
  intro n
  induction n with
  | zero => intro f σ1 cc h1 h2 h3 h4 h5 hn; exact absurd hn (Nat.not_lt_zero _)
  | succ n ih =>
    intro f σ1 cc h1 h2 h3 h4 h5 hn
    have hO8 := hO.s
    have hS0 := hS
    have hS := h4
    refine J_iload_n dX0_readBack_12 rfl ?_
    refine J_aload_n dX0_readBack_13 rfl ?_
    refine CG_many dX0_readBack_14 ?_
    refine J_top (zI (many)) h4.1 ?_
    refine J_icmp_ge_z (tgt := 107) dX0_readBack_17 (by decide) (by unfold zR; omega) (by unfold zR; omega) (fun c17 => ?_) (fun c17 => ?_)
    · skip
      obtain rfl : f = many := by omega
      exact J_vret rfl dX0_readBack_107 (by exact hq σ1 cc h2 h3 h4 h5)
    · skip
      have hf : f < many := by omega
      have h3c := hc3b f hf
      refine J_aload_n dX0_readBack_20 rfl ?_
      refine CG_frames dX0_readBack_21 ?_
      refine J_iload_n dX0_readBack_24 rfl ?_
      refine CA_fr (hS.2.2.2.2 _ hf) (by omega) (by have := hO.1; omega) dX0_readBack_25 ?_
      refine J_aload_n dX0_readBack_26 rfl ?_
      refine J_iload_n dX0_readBack_27 rfl ?_
      refine J_iconst (zI 1) dX0_readBack_28 rfl ?_
      refine J_iadd_z dX0_readBack_29 ?_
      refine J_top (zI (1)) rfl ?_
      refine J_iconst (zI 4) dX0_readBack_30 rfl ?_
      refine J_iload_n dX0_readBack_31 rfl ?_
      refine J_imul_z dX0_readBack_32 ?_
      refine J_iadd_z dX0_readBack_33 ?_
      refine CJ_iald 33 (0 + 1 + 4 * f + 0) ⟨rfl, by decide, by decide, by decide⟩ (by omega) (show 0 + 1 + 4 * f + 0 < 33 by omega) dX0_readBack_34 ?_
      refine J_top (zI ((c0 f 0))) (((congrFun (h2.2.1 33 (by decide)) _).trans (hr0 f 0 hf (by omega)))) ?_
      refine FP_page (σ' := cFr _ f (some (ad f, G f, upI (cc f) 0 ((c0 f 0))))) G f  (hS.w hf hO.1) (hO.k hf) (wC_Fr (Nat.lt_of_lt_of_le hf hO.1) (hS.2.2.2.2 _ hf) _) dX0_readBack_35 ?_
      have hS := hS.put f (upI (cc f) 0 (c0 f 0))
      obtain ⟨c1, hc1⟩ : ∃ c1, c1 = updC cc f (upI (cc f) 0 (c0 f 0)) := ⟨_, rfl⟩
      rw [← hc1] at hS
      refine J_aload_n dX0_readBack_38 rfl ?_
      refine CG_frames dX0_readBack_39 ?_
      refine J_iload_n dX0_readBack_42 rfl ?_
      refine CA_fr (hS.2.2.2.2 _ hf) (by omega) (by have := hO.1; omega) dX0_readBack_43 ?_
      refine J_aload_n dX0_readBack_44 rfl ?_
      refine J_iload_n dX0_readBack_45 rfl ?_
      refine J_iconst (zI 2) dX0_readBack_46 rfl ?_
      refine J_iadd_z dX0_readBack_47 ?_
      refine J_top (zI (2)) rfl ?_
      refine J_iconst (zI 4) dX0_readBack_48 rfl ?_
      refine J_iload_n dX0_readBack_49 rfl ?_
      refine J_imul_z dX0_readBack_50 ?_
      refine J_iadd_z dX0_readBack_51 ?_
      refine CJ_iald 33 (0 + 1 + 4 * f + 1) ⟨rfl, by decide, by decide, by decide⟩ (by omega) (show 0 + 1 + 4 * f + 1 < 33 by omega) dX0_readBack_52 ?_
      refine J_top (zI ((c0 f 1))) (((congrFun (h2.2.1 33 (by decide)) _).trans (hr0 f 1 hf (by omega)))) ?_
      refine FP_x (σ' := cFr _ f (some (ad f, G f, upI (c1 f) 1 ((c0 f 1))))) G f  (hS.w hf hO.1) (hO.k hf) (wC_Fr (Nat.lt_of_lt_of_le hf hO.1) (hS.2.2.2.2 _ hf) _) dX0_readBack_53 ?_
      have hS := hS.put f (upI (c1 f) 1 (c0 f 1))
      obtain ⟨c2, hc2⟩ : ∃ c2, c2 = updC c1 f (upI (c1 f) 1 (c0 f 1)) := ⟨_, rfl⟩
      rw [← hc2] at hS
      refine J_aload_n dX0_readBack_56 rfl ?_
      refine CG_frames dX0_readBack_57 ?_
      refine J_iload_n dX0_readBack_60 rfl ?_
      refine CA_fr (hS.2.2.2.2 _ hf) (by omega) (by have := hO.1; omega) dX0_readBack_61 ?_
      refine J_aload_n dX0_readBack_62 rfl ?_
      refine J_iload_n dX0_readBack_63 rfl ?_
      refine J_iconst (zI 3) dX0_readBack_64 rfl ?_
      refine J_iadd_z dX0_readBack_65 ?_
      refine J_top (zI (3)) rfl ?_
      refine J_iconst (zI 4) dX0_readBack_66 rfl ?_
      refine J_iload_n dX0_readBack_67 rfl ?_
      refine J_imul_z dX0_readBack_68 ?_
      refine J_iadd_z dX0_readBack_69 ?_
      refine CJ_iald 33 (0 + 1 + 4 * f + 2) ⟨rfl, by decide, by decide, by decide⟩ (by omega) (show 0 + 1 + 4 * f + 2 < 33 by omega) dX0_readBack_70 ?_
      refine J_top (zI ((c0 f 2))) (((congrFun (h2.2.1 33 (by decide)) _).trans (hr0 f 2 hf (by omega)))) ?_
      refine FP_y (σ' := cFr _ f (some (ad f, G f, upI (c2 f) 2 ((c0 f 2))))) G f  (hS.w hf hO.1) (hO.k hf) (wC_Fr (Nat.lt_of_lt_of_le hf hO.1) (hS.2.2.2.2 _ hf) _) dX0_readBack_71 ?_
      have hS := hS.put f (upI (c2 f) 2 (c0 f 2))
      obtain ⟨c3, hc3⟩ : ∃ c3, c3 = updC c2 f (upI (c2 f) 2 (c0 f 2)) := ⟨_, rfl⟩
      rw [← hc3] at hS
      refine J_aload_n dX0_readBack_74 rfl ?_
      refine CG_frames dX0_readBack_75 ?_
      refine J_iload_n dX0_readBack_78 rfl ?_
      refine CA_fr (hS.2.2.2.2 _ hf) (by omega) (by have := hO.1; omega) dX0_readBack_79 ?_
      refine J_aload_n dX0_readBack_80 rfl ?_
      refine J_iload_n dX0_readBack_81 rfl ?_
      refine J_iconst (zI 4) dX0_readBack_82 rfl ?_
      refine J_iadd_z dX0_readBack_83 ?_
      refine J_top (zI (4)) rfl ?_
      refine J_iconst (zI 4) dX0_readBack_84 rfl ?_
      refine J_iload_n dX0_readBack_85 rfl ?_
      refine J_imul_z dX0_readBack_86 ?_
      refine J_iadd_z dX0_readBack_87 ?_
      refine CJ_iald 33 (0 + 1 + 4 * f + 3) ⟨rfl, by decide, by decide, by decide⟩ (by omega) (show 0 + 1 + 4 * f + 3 < 33 by omega) dX0_readBack_88 ?_
      refine J_top (zI ((c0 f 3))) (((congrFun (h2.2.1 33 (by decide)) _).trans (hr0 f 3 hf (by omega)))) ?_
      refine J_iconst (zI 1) dX0_readBack_89 rfl ?_
      refine J_icmp_ne_z (tgt := 97) dX0_readBack_90 (by decide) (by unfold zR; omega) (by unfold zR; omega) (fun c90 => ?_) (fun c90 => ?_)
      · skip
        refine J_iconst (zI 0) dX0_readBack_97 rfl ?_
        refine FP_turned (σ' := cFr _ f (some (ad f, G f, upI (c3 f) 3 (0)))) G f (Or.inl rfl) (hS.w hf hO.1) (hO.k hf) (wC_Fr (Nat.lt_of_lt_of_le hf hO.1) (hS.2.2.2.2 _ hf) _) dX0_readBack_98 ?_
        have hS := hS.put f (upI (c3 f) 3 (0))
        obtain ⟨c4, hc4⟩ : ∃ c4, c4 = updC c3 f (upI (c3 f) 3 (0)) := ⟨_, rfl⟩
        rw [← hc4] at hS
        refine J_iinc_z ((((f + 1)) : Nat) : Int) (by omega) dX0_readBack_101 rfl rfl (by decide) _ rfl ?_
        refine J_goto (tgt := 12) dX0_readBack_104 (by decide) ?_
        have e4 : c4 f = upI (upI (upI (upI (cc f) 0 (c0 f 0)) 1 (c0 f 1)) 2 (c0 f 2)) 3 (0) := by rw [hc4, updC_s, hc3, updC_s, hc2, updC_s, hc1, updC_s]
        have e5 : ∀ g, g ≠ f → c4 g = cc g := fun g hg => by rw [hc4, updC_n hg, hc3, updC_n hg, hc2, updC_n hg, hc1, updC_n hg]
        refine ih (f + 1) _ c4 (by omega) (cP.sF (cP.sF (cP.sF (cP.sF h2)))) h3 hS (fun g k hg hk => ?_) (by omega)
        by_cases z : g = f
        · subst z; rw [e4]; exact up4 rfl rfl rfl (by omega) k hk
        · rw [e5 g z]; exact h5 g k (by omega) hk
      · skip
        refine J_iconst (zI 1) dX0_readBack_93 rfl ?_
        refine J_goto (tgt := 98) dX0_readBack_94 (by decide) ?_
        refine FP_turned (σ' := cFr _ f (some (ad f, G f, upI (c3 f) 3 (1)))) G f (Or.inr rfl) (hS.w hf hO.1) (hO.k hf) (wC_Fr (Nat.lt_of_lt_of_le hf hO.1) (hS.2.2.2.2 _ hf) _) dX0_readBack_98 ?_
        have hS := hS.put f (upI (c3 f) 3 (1))
        obtain ⟨c4, hc4⟩ : ∃ c4, c4 = updC c3 f (upI (c3 f) 3 (1)) := ⟨_, rfl⟩
        rw [← hc4] at hS
        refine J_iinc_z ((((f + 1)) : Nat) : Int) (by omega) dX0_readBack_101 rfl rfl (by decide) _ rfl ?_
        refine J_goto (tgt := 12) dX0_readBack_104 (by decide) ?_
        have e4 : c4 f = upI (upI (upI (upI (cc f) 0 (c0 f 0)) 1 (c0 f 1)) 2 (c0 f 2)) 3 (1) := by rw [hc4, updC_s, hc3, updC_s, hc2, updC_s, hc1, updC_s]
        have e5 : ∀ g, g ≠ f → c4 g = cc g := fun g hg => by rw [hc4, updC_n hg, hc3, updC_n hg, hc2, updC_n hg, hc1, updC_n hg]
        refine ih (f + 1) _ c4 (by omega) (cP.sF (cP.sF (cP.sF (cP.sF h2)))) h3 hS (fun g k hg hk => ?_) (by omega)
        by_cases z : g = f
        · subst z; rw [e4]; exact up4 rfl rfl rfl (by omega) k hk
        · rw [e5 g z]; exact h5 g k (by omega) hk
theorem c_readBack33 {E : jEnv} {α : Nat → Nat} {σ : cS} {Q : Option Value → cS → Prop} {many : Nat} {wide high bl : Int} {G : Nat → Nat → Int} {ad : Nat → Nat} {c : Nat → Nat → Int} {p : mPl}  (hS : cSh many wide high bl G ad c σ) (hO : shOK many wide high bl G) (hd0 : σ.d 0 = none) (hrow : cRow many (σ.a 33) 0 p) (hp : 0 ≤ p.2 ∧ p.2 ≤ 3) (hq : ∀ σ' c1, cP [] [] σ σ' → cSh many wide high bl G ad c1 σ' → cPl many p.1 c1 → cRl p.2 σ' → Q none σ')  : jX0_readBack E α 0 [some (.ref (α 0)), some (.ref (α 34)), some (.int (zI 0)), none] [] σ Q := by
  refine J_aload_n dX0_readBack_0 rfl ?_
  refine J_aload_n dX0_readBack_1 rfl ?_
  refine J_iload_n dX0_readBack_2 rfl ?_
  refine CJ_iald 33 (0) ⟨rfl, by decide, by decide, by decide⟩ (by omega) (show 0 < 33 by omega) dX0_readBack_3 ?_
  refine J_top (zI (p.2)) (hrow.1) ?_
  refine J_top (zI ((p.2.toNat : Nat) : Int)) (congrArg zI (by omega)) ?_
  refine CC_X0_newRule (by decide) (by decide) (Nat.le_of_ble_eq_true rfl) dX0_readBack_4 ?_
  refine c_newRule (ru := p.2.toNat) (by omega) (fun a => ?_)
  refine J_ra ?_
  refine CP_rule (ru := p.2.toNat) rfl dX0_readBack_7 ?_
  refine J_w (cRu_new hd0) ?_
  refine J_iconst (zI 0) dX0_readBack_10 rfl ?_
  refine J_istore_n dX0_readBack_11 rfl (by decide) _ rfl ?_
  refine J_fg (L' := [some (.ref (α 0)), some (.ref (α 34)), some (.int (zI (0))), some (.int (zI ((0 : Nat))))]) (by repeat' constructor) ?_
  obtain ⟨hrow1, c0, hr1, hr0⟩ := hrow
  refine cl_readBack33 (σ := cRu σ (a, p.2.toNat)) (c0 := c0) (show cSh many wide high bl G ad c _ from hS) hO (fun f hf => (hr1 f hf).1) hr0 (fun σ' c1 e1 e2 s1 k1 => hq σ' c1 (cP.trans (b := cRu σ (a, p.2.toNat)) cP.refl e1) s1 (hr1.same k1) ?_) _ 0 _ c (by omega) cP.refl rfl hS (fun g k hg => by omega) (Nat.lt_succ_self _)
  unfold cRl
  rw [e2]
  exact ⟨show p.2.toNat < 4 by omega, by show p.2 = ((p.2.toNat : Nat) : Int); omega⟩
theorem cl_readBackK {E : jEnv} {α : Nat → Nat} {σ : cS} {Q : Option Value → cS → Prop} {many : Nat} {wide high bl : Int} {G : Nat → Nat → Int} {ad : Nat → Nat} {c : Nat → Nat → Int} {j : Nat} {x : (Nat × Nat × Nat) × Int32 × (Nat → Int32) × (Nat → Int32)} {c0 : Nat → Nat → Int}  (hS : cSh many wide high bl G ad c σ) (hO : shOK many wide high bl G) (hj : j < 3) (hx : σ.kp j = some x) (hc3b : ∀ f, f < many → c0 f 3 = 0 ∨ c0 f 3 = 1) (hr0 : ∀ f k, f < many → k < 4 → x.2.2.2 (0 + 1 + 4 * f + k) = zI (c0 f k)) (hq : ∀ σ' c1, cP [] [] σ σ' → σ'.ru = σ.ru → cSh many wide high bl G ad c1 σ' → (∀ g k, g < many → k < 4 → c1 g k = c0 g k) → Q none σ')  : ∀ (n : Nat) (f : Nat) (σ1 : cS) (cc : Nat → Nat → Int), f ≤ many → cP [] [] σ σ1 → σ1.ru = σ.ru → cSh many wide high bl G ad cc σ1 → (∀ g k, g < f → k < 4 → cc g k = c0 g k) → many - f < n → J E (wC E α) (cX E, none) cX0_readBack 4 none RX0 (jR 4 1 0) (1) (0) 12 [some (.ref (α 0)), some (.ref x.1.2.2), some (.int (zI 0)), some (.int (zI (f : Nat)))] [] σ1 Q := by
  intro n
  induction n with
  | zero => intro f σ1 cc h1 h2 h3 h4 h5 hn; exact absurd hn (Nat.not_lt_zero _)
  | succ n ih =>
    intro f σ1 cc h1 h2 h3 h4 h5 hn
    have hO8 := hO.s
    have hS0 := hS
    have hS := h4
    refine J_iload_n dX0_readBack_12 rfl ?_
    refine J_aload_n dX0_readBack_13 rfl ?_
    refine CG_many dX0_readBack_14 ?_
    refine J_top (zI (many)) h4.1 ?_
    refine J_icmp_ge_z (tgt := 107) dX0_readBack_17 (by decide) (by unfold zR; omega) (by unfold zR; omega) (fun c17 => ?_) (fun c17 => ?_)
    · skip
      obtain rfl : f = many := by omega
      exact J_vret rfl dX0_readBack_107 (by exact hq σ1 cc h2 h3 h4 h5)
    · skip
      have hf : f < many := by omega
      have h3c := hc3b f hf
      refine J_aload_n dX0_readBack_20 rfl ?_
      refine CG_frames dX0_readBack_21 ?_
      refine J_iload_n dX0_readBack_24 rfl ?_
      refine CA_fr (hS.2.2.2.2 _ hf) (by omega) (by have := hO.1; omega) dX0_readBack_25 ?_
      refine J_aload_n dX0_readBack_26 rfl ?_
      refine J_iload_n dX0_readBack_27 rfl ?_
      refine J_iconst (zI 1) dX0_readBack_28 rfl ?_
      refine J_iadd_z dX0_readBack_29 ?_
      refine J_top (zI (1)) rfl ?_
      refine J_iconst (zI 4) dX0_readBack_30 rfl ?_
      refine J_iload_n dX0_readBack_31 rfl ?_
      refine J_imul_z dX0_readBack_32 ?_
      refine J_iadd_z dX0_readBack_33 ?_
      refine CK_iald (x := x) (0 + 1 + 4 * f + 0) hj ((congrFun (cP_kp h2) j).trans hx) (by omega) (show 0 + 1 + 4 * f + 0 < 33 by omega) dX0_readBack_34 ?_
      refine J_top (zI ((c0 f 0))) ((hr0 f 0 hf (by omega))) ?_
      refine FP_page (σ' := cFr _ f (some (ad f, G f, upI (cc f) 0 ((c0 f 0))))) G f  (hS.w hf hO.1) (hO.k hf) (wC_Fr (Nat.lt_of_lt_of_le hf hO.1) (hS.2.2.2.2 _ hf) _) dX0_readBack_35 ?_
      have hS := hS.put f (upI (cc f) 0 (c0 f 0))
      obtain ⟨c1, hc1⟩ : ∃ c1, c1 = updC cc f (upI (cc f) 0 (c0 f 0)) := ⟨_, rfl⟩
      rw [← hc1] at hS
      refine J_aload_n dX0_readBack_38 rfl ?_
      refine CG_frames dX0_readBack_39 ?_
      refine J_iload_n dX0_readBack_42 rfl ?_
      refine CA_fr (hS.2.2.2.2 _ hf) (by omega) (by have := hO.1; omega) dX0_readBack_43 ?_
      refine J_aload_n dX0_readBack_44 rfl ?_
      refine J_iload_n dX0_readBack_45 rfl ?_
      refine J_iconst (zI 2) dX0_readBack_46 rfl ?_
      refine J_iadd_z dX0_readBack_47 ?_
      refine J_top (zI (2)) rfl ?_
      refine J_iconst (zI 4) dX0_readBack_48 rfl ?_
      refine J_iload_n dX0_readBack_49 rfl ?_
      refine J_imul_z dX0_readBack_50 ?_
      refine J_iadd_z dX0_readBack_51 ?_
      refine CK_iald (x := x) (0 + 1 + 4 * f + 1) hj ((congrFun (cP_kp h2) j).trans hx) (by omega) (show 0 + 1 + 4 * f + 1 < 33 by omega) dX0_readBack_52 ?_
      refine J_top (zI ((c0 f 1))) ((hr0 f 1 hf (by omega))) ?_
      refine FP_x (σ' := cFr _ f (some (ad f, G f, upI (c1 f) 1 ((c0 f 1))))) G f  (hS.w hf hO.1) (hO.k hf) (wC_Fr (Nat.lt_of_lt_of_le hf hO.1) (hS.2.2.2.2 _ hf) _) dX0_readBack_53 ?_
      have hS := hS.put f (upI (c1 f) 1 (c0 f 1))
      obtain ⟨c2, hc2⟩ : ∃ c2, c2 = updC c1 f (upI (c1 f) 1 (c0 f 1)) := ⟨_, rfl⟩
      rw [← hc2] at hS
      refine J_aload_n dX0_readBack_56 rfl ?_
      refine CG_frames dX0_readBack_57 ?_
      refine J_iload_n dX0_readBack_60 rfl ?_
      refine CA_fr (hS.2.2.2.2 _ hf) (by omega) (by have := hO.1; omega) dX0_readBack_61 ?_
      refine J_aload_n dX0_readBack_62 rfl ?_
      refine J_iload_n dX0_readBack_63 rfl ?_
      refine J_iconst (zI 3) dX0_readBack_64 rfl ?_
      refine J_iadd_z dX0_readBack_65 ?_
      refine J_top (zI (3)) rfl ?_
      refine J_iconst (zI 4) dX0_readBack_66 rfl ?_
      refine J_iload_n dX0_readBack_67 rfl ?_
      refine J_imul_z dX0_readBack_68 ?_
      refine J_iadd_z dX0_readBack_69 ?_
      refine CK_iald (x := x) (0 + 1 + 4 * f + 2) hj ((congrFun (cP_kp h2) j).trans hx) (by omega) (show 0 + 1 + 4 * f + 2 < 33 by omega) dX0_readBack_70 ?_
      refine J_top (zI ((c0 f 2))) ((hr0 f 2 hf (by omega))) ?_
      refine FP_y (σ' := cFr _ f (some (ad f, G f, upI (c2 f) 2 ((c0 f 2))))) G f  (hS.w hf hO.1) (hO.k hf) (wC_Fr (Nat.lt_of_lt_of_le hf hO.1) (hS.2.2.2.2 _ hf) _) dX0_readBack_71 ?_
      have hS := hS.put f (upI (c2 f) 2 (c0 f 2))
      obtain ⟨c3, hc3⟩ : ∃ c3, c3 = updC c2 f (upI (c2 f) 2 (c0 f 2)) := ⟨_, rfl⟩
      rw [← hc3] at hS
      refine J_aload_n dX0_readBack_74 rfl ?_
      refine CG_frames dX0_readBack_75 ?_
      refine J_iload_n dX0_readBack_78 rfl ?_
      refine CA_fr (hS.2.2.2.2 _ hf) (by omega) (by have := hO.1; omega) dX0_readBack_79 ?_
      refine J_aload_n dX0_readBack_80 rfl ?_
      refine J_iload_n dX0_readBack_81 rfl ?_
      refine J_iconst (zI 4) dX0_readBack_82 rfl ?_
      refine J_iadd_z dX0_readBack_83 ?_
      refine J_top (zI (4)) rfl ?_
      refine J_iconst (zI 4) dX0_readBack_84 rfl ?_
      refine J_iload_n dX0_readBack_85 rfl ?_
      refine J_imul_z dX0_readBack_86 ?_
      refine J_iadd_z dX0_readBack_87 ?_
      refine CK_iald (x := x) (0 + 1 + 4 * f + 3) hj ((congrFun (cP_kp h2) j).trans hx) (by omega) (show 0 + 1 + 4 * f + 3 < 33 by omega) dX0_readBack_88 ?_
      refine J_top (zI ((c0 f 3))) ((hr0 f 3 hf (by omega))) ?_
      refine J_iconst (zI 1) dX0_readBack_89 rfl ?_
      refine J_icmp_ne_z (tgt := 97) dX0_readBack_90 (by decide) (by unfold zR; omega) (by unfold zR; omega) (fun c90 => ?_) (fun c90 => ?_)
      · skip
        refine J_iconst (zI 0) dX0_readBack_97 rfl ?_
        refine FP_turned (σ' := cFr _ f (some (ad f, G f, upI (c3 f) 3 (0)))) G f (Or.inl rfl) (hS.w hf hO.1) (hO.k hf) (wC_Fr (Nat.lt_of_lt_of_le hf hO.1) (hS.2.2.2.2 _ hf) _) dX0_readBack_98 ?_
        have hS := hS.put f (upI (c3 f) 3 (0))
        obtain ⟨c4, hc4⟩ : ∃ c4, c4 = updC c3 f (upI (c3 f) 3 (0)) := ⟨_, rfl⟩
        rw [← hc4] at hS
        refine J_iinc_z ((((f + 1)) : Nat) : Int) (by omega) dX0_readBack_101 rfl rfl (by decide) _ rfl ?_
        refine J_goto (tgt := 12) dX0_readBack_104 (by decide) ?_
        have e4 : c4 f = upI (upI (upI (upI (cc f) 0 (c0 f 0)) 1 (c0 f 1)) 2 (c0 f 2)) 3 (0) := by rw [hc4, updC_s, hc3, updC_s, hc2, updC_s, hc1, updC_s]
        have e5 : ∀ g, g ≠ f → c4 g = cc g := fun g hg => by rw [hc4, updC_n hg, hc3, updC_n hg, hc2, updC_n hg, hc1, updC_n hg]
        refine ih (f + 1) _ c4 (by omega) (cP.sF (cP.sF (cP.sF (cP.sF h2)))) h3 hS (fun g k hg hk => ?_) (by omega)
        by_cases z : g = f
        · subst z; rw [e4]; exact up4 rfl rfl rfl (by omega) k hk
        · rw [e5 g z]; exact h5 g k (by omega) hk
      · skip
        refine J_iconst (zI 1) dX0_readBack_93 rfl ?_
        refine J_goto (tgt := 98) dX0_readBack_94 (by decide) ?_
        refine FP_turned (σ' := cFr _ f (some (ad f, G f, upI (c3 f) 3 (1)))) G f (Or.inr rfl) (hS.w hf hO.1) (hO.k hf) (wC_Fr (Nat.lt_of_lt_of_le hf hO.1) (hS.2.2.2.2 _ hf) _) dX0_readBack_98 ?_
        have hS := hS.put f (upI (c3 f) 3 (1))
        obtain ⟨c4, hc4⟩ : ∃ c4, c4 = updC c3 f (upI (c3 f) 3 (1)) := ⟨_, rfl⟩
        rw [← hc4] at hS
        refine J_iinc_z ((((f + 1)) : Nat) : Int) (by omega) dX0_readBack_101 rfl rfl (by decide) _ rfl ?_
        refine J_goto (tgt := 12) dX0_readBack_104 (by decide) ?_
        have e4 : c4 f = upI (upI (upI (upI (cc f) 0 (c0 f 0)) 1 (c0 f 1)) 2 (c0 f 2)) 3 (1) := by rw [hc4, updC_s, hc3, updC_s, hc2, updC_s, hc1, updC_s]
        have e5 : ∀ g, g ≠ f → c4 g = cc g := fun g hg => by rw [hc4, updC_n hg, hc3, updC_n hg, hc2, updC_n hg, hc1, updC_n hg]
        refine ih (f + 1) _ c4 (by omega) (cP.sF (cP.sF (cP.sF (cP.sF h2)))) h3 hS (fun g k hg hk => ?_) (by omega)
        by_cases z : g = f
        · subst z; rw [e4]; exact up4 rfl rfl rfl (by omega) k hk
        · rw [e5 g z]; exact h5 g k (by omega) hk
theorem c_readBackK {E : jEnv} {α : Nat → Nat} {σ : cS} {Q : Option Value → cS → Prop} {many : Nat} {wide high bl : Int} {G : Nat → Nat → Int} {ad : Nat → Nat} {c : Nat → Nat → Int} {j : Nat} {x : (Nat × Nat × Nat) × Int32 × (Nat → Int32) × (Nat → Int32)} {p : mPl}  (hS : cSh many wide high bl G ad c σ) (hO : shOK many wide high bl G) (hj : j < 3) (hx : σ.kp j = some x) (hd0 : σ.d 0 = none) (hrow : cRow many (x.2.2.2) 0 p) (hp : 0 ≤ p.2 ∧ p.2 ≤ 3) (hq : ∀ σ' c1, cP [] [] σ σ' → cSh many wide high bl G ad c1 σ' → cPl many p.1 c1 → cRl p.2 σ' → Q none σ')  : jX0_readBack E α 0 [some (.ref (α 0)), some (.ref x.1.2.2), some (.int (zI 0)), none] [] σ Q := by
  refine J_aload_n dX0_readBack_0 rfl ?_
  refine J_aload_n dX0_readBack_1 rfl ?_
  refine J_iload_n dX0_readBack_2 rfl ?_
  refine CK_iald (x := x) (0) hj hx (by omega) (show 0 < 33 by omega) dX0_readBack_3 ?_
  refine J_top (zI (p.2)) (hrow.1) ?_
  refine J_top (zI ((p.2.toNat : Nat) : Int)) (congrArg zI (by omega)) ?_
  refine CC_X0_newRule (by decide) (by decide) (Nat.le_of_ble_eq_true rfl) dX0_readBack_4 ?_
  refine c_newRule (ru := p.2.toNat) (by omega) (fun a => ?_)
  refine J_ra ?_
  refine CP_rule (ru := p.2.toNat) rfl dX0_readBack_7 ?_
  refine J_w (cRu_new hd0) ?_
  refine J_iconst (zI 0) dX0_readBack_10 rfl ?_
  refine J_istore_n dX0_readBack_11 rfl (by decide) _ rfl ?_
  refine J_fg (L' := [some (.ref (α 0)), some (.ref x.1.2.2), some (.int (zI (0))), some (.int (zI ((0 : Nat))))]) (by repeat' constructor) ?_
  obtain ⟨hrow1, c0, hr1, hr0⟩ := hrow
  refine cl_readBackK (σ := cRu σ (a, p.2.toNat)) (c0 := c0) (show cSh many wide high bl G ad c _ from hS) hO hj hx (fun f hf => (hr1 f hf).1) hr0 (fun σ' c1 e1 e2 s1 k1 => hq σ' c1 (cP.trans (b := cRu σ (a, p.2.toNat)) cP.refl e1) s1 (hr1.same k1) ?_) _ 0 _ c (by omega) cP.refl rfl hS (fun g k hg => by omega) (Nat.lt_succ_self _)
  unfold cRl
  rw [e2]
  exact ⟨show p.2.toNat < 4 by omega, by show p.2 = ((p.2.toNat : Nat) : Int); omega⟩
theorem c_set_bad {E : jEnv} {α : Nat → Nat} {σ : cS} {Q : Option Value → cS → Prop} {many : Nat} {wide high bl : Int} {G : Nat → Nat → Int} {ad : Nat → Nat} {c : Nat → Nat → Int} {v : Int} (hS : cSh many wide high bl G ad c σ) (hO : shOK many wide high bl G) (rv : zR v) (hv : ¬ (0 ≤ v ∧ v < many)) (hq : Q (some (.int (zI (-1)))) σ) : jX0_set E α 0 [some (.ref (α 0)), some (.int (zI (v))), none] [] σ Q := by
  refine J_aload_n dX0_set_0 rfl ?_
  refine J_iload_n dX0_set_1 rfl ?_
  refine CC_X0_isFrame (by decide) (by decide) (Nat.le_of_ble_eq_true rfl) dX0_set_2 ?_
  refine c_isFrame hS hO (by unfold zR at *; omega) (fun b2 => ?_) (fun b2 => ?_)
  · exfalso; omega
  · refine J_ri ?_
    refine J_if_ne_n (tgt := 10) dX0_set_5 (by decide) (by decide) ?_
    refine J_iconst (zI (-1)) dX0_set_8 rfl ?_
    exact J_iret rfl dX0_set_9 (by exact hq)
theorem c_lift_bad {E : jEnv} {α : Nat → Nat} {σ : cS} {Q : Option Value → cS → Prop} {many : Nat} {wide high bl : Int} {G : Nat → Nat → Int} {ad : Nat → Nat} {c : Nat → Nat → Int} {v : Int} (hS : cSh many wide high bl G ad c σ) (hO : shOK many wide high bl G) (rv : zR v) (hv : ¬ (0 ≤ v ∧ v < many)) (hq : Q (some (.int (zI (-1)))) σ) : jX0_lift E α 0 [some (.ref (α 0)), some (.int (zI (v)))] [] σ Q := by
  refine J_aload_n dX0_lift_0 rfl ?_
  refine J_iload_n dX0_lift_1 rfl ?_
  refine CC_X0_isFrame (by decide) (by decide) (Nat.le_of_ble_eq_true rfl) dX0_lift_2 ?_
  refine c_isFrame hS hO (by unfold zR at *; omega) (fun b2 => ?_) (fun b2 => ?_)
  · exfalso; omega
  · refine J_ri ?_
    refine J_if_ne_n (tgt := 10) dX0_lift_5 (by decide) (by decide) ?_
    refine J_iconst (zI (-1)) dX0_lift_8 rfl ?_
    exact J_iret rfl dX0_lift_9 (by exact hq)
theorem c_set_st {E : jEnv} {α : Nat → Nat} {σ : cS} {Q : Option Value → cS → Prop} {many : Nat} {wide high bl : Int} {G : Nat → Nat → Int} {ad : Nat → Nat} {c : Nat → Nat → Int} {P : Nat → Nat → Int} {rule : Int} {f : Nat} (hS : cSh many wide high bl G ad c σ) (hO : shOK many wide high bl G) (hP : cPl many P c) (hN : plOK many P rule) (hf : f < many) (h0 : 0 ≤ P f 0) (hq : Q (some (.int (zI (-4)))) σ) : jX0_set E α 0 [some (.ref (α 0)), some (.int (zI (f : Nat))), none] [] σ Q := by
  have hO8 := hO.s
  refine J_aload_n dX0_set_0 rfl ?_
  refine J_iload_n dX0_set_1 rfl ?_
  refine CC_X0_isFrame (by decide) (by decide) (Nat.le_of_ble_eq_true rfl) dX0_set_2 ?_
  refine c_isFrame hS hO (by unfold zR at *; omega) (fun b2 => ?_) (fun b2 => ?_)
  · refine J_ri ?_
    refine J_if_ne_y (tgt := 10) dX0_set_5 (by decide) (by decide) ?_
    refine J_aload_n dX0_set_10 rfl ?_
    refine J_iload_n dX0_set_11 rfl ?_
    refine CC_X0_isSet (by decide) (by decide) (Nat.le_of_ble_eq_true rfl) dX0_set_12 ?_
    refine c_isSet hS hO hP hN hf (fun b12 => ?_) (fun b12 => ?_)
    · refine J_ri ?_
      refine J_if_eq_n (tgt := 21) dX0_set_15 (by decide) (by decide) ?_
      refine J_bipush (zI (-4)) dX0_set_18 rfl ?_
      exact J_iret rfl dX0_set_20 (by exact hq)
    · exfalso; omega
  · exfalso; omega
theorem c_lift_st {E : jEnv} {α : Nat → Nat} {σ : cS} {Q : Option Value → cS → Prop} {many : Nat} {wide high bl : Int} {G : Nat → Nat → Int} {ad : Nat → Nat} {c : Nat → Nat → Int} {P : Nat → Nat → Int} {rule : Int} {f : Nat} (hS : cSh many wide high bl G ad c σ) (hO : shOK many wide high bl G) (hP : cPl many P c) (hN : plOK many P rule) (hf : f < many) (h0 : P f 0 = -1) (hq : Q (some (.int (zI (-4)))) σ) : jX0_lift E α 0 [some (.ref (α 0)), some (.int (zI (f : Nat)))] [] σ Q := by
  have hO8 := hO.s
  refine J_aload_n dX0_lift_0 rfl ?_
  refine J_iload_n dX0_lift_1 rfl ?_
  refine CC_X0_isFrame (by decide) (by decide) (Nat.le_of_ble_eq_true rfl) dX0_lift_2 ?_
  refine c_isFrame hS hO (by unfold zR at *; omega) (fun b2 => ?_) (fun b2 => ?_)
  · refine J_ri ?_
    refine J_if_ne_y (tgt := 10) dX0_lift_5 (by decide) (by decide) ?_
    refine J_aload_n dX0_lift_10 rfl ?_
    refine J_iload_n dX0_lift_11 rfl ?_
    refine CC_X0_isSet (by decide) (by decide) (Nat.le_of_ble_eq_true rfl) dX0_lift_12 ?_
    refine c_isSet hS hO hP hN hf (fun b12 => ?_) (fun b12 => ?_)
    · exfalso; omega
    · refine J_ri ?_
      refine J_if_ne_n (tgt := 21) dX0_lift_15 (by decide) (by decide) ?_
      refine J_bipush (zI (-4)) dX0_lift_18 rfl ?_
      exact J_iret rfl dX0_lift_20 (by exact hq)
  · exfalso; omega
theorem c_setF {E : jEnv} {α : Nat → Nat} {σ : cS} {Q : Option Value → cS → Prop} {many : Nat} {wide high bl : Int} {G : Nat → Nat → Int} {ad : Nat → Nat} {c : Nat → Nat → Int} {P : Nat → Nat → Int} {rule : Int} {dm : Nat} {H : Nat → mPl} {f : Nat} (hS : cSh many wide high bl G ad c σ) (hO : shOK many wide high bl G) (hP : cPl many P c) (hN : plOK many P rule) (hV : plV many wide high bl G P) (hL : cLg many dm H σ) (hd : dm ≤ 40) (hR : cRl rule σ) (hf : f < many) (h0 : P f 0 = -1) (q0 : mNoPage many wide high bl G P rule f → ∀ σ', cQ [20, 26, 27, 28, 29] [21, 22, 23, 24, 25] σ σ' → Q (some (.int (zI (-6)))) σ') (q1 : ∀ p, mPage many wide high bl G P rule f p → dm = 40 → ∀ σ' c', cP [20, 26, 27, 28, 29] [21, 22, 23, 24, 25] σ σ' → σ'.ru = σ.ru → cSh many wide high bl G ad c' σ' → cPl many P c' → Q (some (.int (zI (-2)))) σ') (q2 : ∀ p, mPage many wide high bl G P rule f p → dm < 40 → ∀ σ' c', cP [20, 26, 27, 28, 29, 30] [21, 22, 23, 24, 25, 31] σ σ' → σ'.ru = σ.ru → cSh many wide high bl G ad c' σ' → cPl many (mPut many wide high bl G rule P f) c' → cLg many (dm + 1) (updH H dm (P, rule)) σ' → Q (some (.int (zI p))) σ') : jX0_set E α 0 [some (.ref (α 0)), some (.int (zI (f : Nat))), none] [] σ Q := by
  have hO8 := hO.s
  refine J_aload_n dX0_set_0 rfl ?_
  refine J_iload_n dX0_set_1 rfl ?_
  refine CC_X0_isFrame (by decide) (by decide) (Nat.le_of_ble_eq_true rfl) dX0_set_2 ?_
  refine c_isFrame hS hO (by unfold zR at *; omega) (fun b2 => ?_) (fun b2 => ?_)
  · refine J_ri ?_
    refine J_if_ne_y (tgt := 10) dX0_set_5 (by decide) (by decide) ?_
    refine J_aload_n dX0_set_10 rfl ?_
    refine J_iload_n dX0_set_11 rfl ?_
    refine CC_X0_isSet (by decide) (by decide) (Nat.le_of_ble_eq_true rfl) dX0_set_12 ?_
    refine c_isSet hS hO hP hN hf (fun b12 => ?_) (fun b12 => ?_)
    · exfalso; omega
    · refine J_ri ?_
      refine J_if_eq_y (tgt := 21) dX0_set_15 (by decide) (by decide) ?_
      refine J_aload_n dX0_set_21 rfl ?_
      refine J_aload_n dX0_set_22 rfl ?_
      refine CG_frames dX0_set_23 ?_
      refine J_iload_n dX0_set_26 rfl ?_
      refine CA_fr (hS.2.2.2.2 _ hf) (by omega) (by have := hO.1; omega) dX0_set_27 ?_
      refine CC_X0_sets (by decide) (by decide) (Nat.le_of_ble_eq_true rfl) dX0_set_28 ?_
      refine c_sets hS hO hP hN hV hf hR  (fun hp σ1 e1 => ?_) (fun p σ1 c1 hp e1 er s1 pl1 g1 g2 => ?_)
      · refine J_ri ?_
        refine J_if_ne_n (tgt := 37) dX0_set_31 (by decide) (by decide) ?_
        refine J_bipush (zI (-6)) dX0_set_34 rfl ?_
        exact J_iret rfl dX0_set_36 (by exact q0 hp σ1 e1)
      · refine J_ri ?_
        have hS := s1
        refine J_if_ne_y (tgt := 37) dX0_set_31 (by decide) (by decide) ?_
        refine J_aload_n dX0_set_37 rfl ?_
        refine CG_frames dX0_set_38 ?_
        refine J_iload_n dX0_set_41 rfl ?_
        refine CA_fr (hS.2.2.2.2 _ hf) (by omega) (by have := hO.1; omega) dX0_set_42 ?_
        refine FNX0_page G f (hS.w hf hO.1) (hO.k hf) dX0_set_43 ?_
        refine J_top (zI p) (congrArg zI g2) ?_
        refine J_istore_n dX0_set_46 rfl (by decide) _ rfl ?_
        refine J_aload_n dX0_set_47 rfl ?_
        refine CG_frames dX0_set_48 ?_
        refine J_iload_n dX0_set_51 rfl ?_
        refine CA_fr (hS.2.2.2.2 _ hf) (by omega) (by have := hO.1; omega) dX0_set_52 ?_
        refine J_bipush (zI (-9)) dX0_set_53 rfl ?_
        refine FP_page (σ' := cFr _ f (some (ad f, G f, upI (c1 f) 0 ((-9))))) G f  (hS.w hf hO.1) (hO.k hf) (wC_Fr (Nat.lt_of_lt_of_le hf hO.1) (hS.2.2.2.2 _ hf) _) dX0_set_55 ?_
        have hS := hS.put f (upI (c1 f) 0 (-9))
        obtain ⟨c2, hc2⟩ : ∃ c2, c2 = updC c1 f (upI (c1 f) 0 (-9)) := ⟨_, rfl⟩
        rw [← hc2] at hS
        have k1 : ∀ g, g ≠ f → c2 g = c1 g := fun g hg => by rw [hc2, updC_n hg]
        have k2 : c2 f = upI (c1 f) 0 (-9) := by rw [hc2, updC_s]
        have k3 : cPl many P c2 := cPl_back hP h0 (fun g hg => (k1 g hg).trans (g1 g hg)) (by rw [k2]; rfl) (by rw [k2]; exact (pl1 f hf).1)
        refine J_aload_n dX0_set_58 rfl ?_
        refine CG_deedMany dX0_set_59 ?_
        refine J_top (zI (dm)) ((e1.1 30 (by decide)).trans hL.1) ?_
        refine J_bipush (zI 40) dX0_set_62 rfl ?_
        refine J_icmp_ne_z (tgt := 70) dX0_set_64 (by decide) (by unfold zR; omega) (by unfold zR; omega) (fun c64 => ?_) (fun c64 => ?_)
        · skip
          refine J_aload_n dX0_set_70 rfl ?_
          refine CC_X0_note (by decide) (by decide) (Nat.le_of_ble_eq_true rfl) dX0_set_71 ?_
          refine c_note hS hO k3 hN (hL.up (cP.sF e1) (by decide) (by decide)) (by omega) (hR.up er) (fun σ3 e3 l3 => ?_)
          have hS := hS.up e3 (by decide) (by decide) (by decide) (by decide)
          refine J_rv ?_
          refine J_aload_n dX0_set_74 rfl ?_
          refine CG_frames dX0_set_75 ?_
          refine J_iload_n dX0_set_78 rfl ?_
          refine CA_fr (hS.2.2.2.2 _ hf) (by omega) (by have := hO.1; omega) dX0_set_79 ?_
          refine J_iload_n dX0_set_80 rfl ?_
          refine FP_page (σ' := cFr _ f (some (ad f, G f, upI (c2 f) 0 (p)))) G f  (hS.w hf hO.1) (hO.k hf) (wC_Fr (Nat.lt_of_lt_of_le hf hO.1) (hS.2.2.2.2 _ hf) _) dX0_set_81 ?_
          have hS := hS.put f (upI (c2 f) 0 (p))
          obtain ⟨c3, hc3⟩ : ∃ c3, c3 = updC c2 f (upI (c2 f) 0 (p)) := ⟨_, rfl⟩
          rw [← hc3] at hS
          refine J_iload_n dX0_set_84 rfl ?_
          refine J_iret rfl dX0_set_85 ?_
          refine q2 p hp (by omega) _ c3 (cP.sF (((cP.sF e1).mono (by decide) (by decide)).trans (e3.1.mono (by decide) (by decide)))) (e3.2.2.trans er) hS (pl1.same (fun g k hg hk => ?_)) l3
          by_cases z : g = f
          · subst z; rw [hc3, updC_s, k2]; unfold upI; by_cases y : k = 0
            · rw [if_pos y, y, g2]
            · rw [if_neg y, if_neg y]
          · rw [hc3, updC_n z, k1 g z]
        · skip
          refine J_bipush (zI (-2)) dX0_set_67 rfl ?_
          exact J_iret rfl dX0_set_69 (by exact q1 p hp (by omega) _ c2 (cP.sF e1) er hS k3)
  · exfalso; omega
theorem c_lift {E : jEnv} {α : Nat → Nat} {σ : cS} {Q : Option Value → cS → Prop} {many : Nat} {wide high bl : Int} {G : Nat → Nat → Int} {ad : Nat → Nat} {c : Nat → Nat → Int} {P : Nat → Nat → Int} {rule : Int} {dm : Nat} {H : Nat → mPl} {f : Nat} (hS : cSh many wide high bl G ad c σ) (hO : shOK many wide high bl G) (hP : cPl many P c) (hN : plOK many P rule) (hV : plV many wide high bl G P) (hL : cLg many dm H σ) (hd : dm ≤ 40) (hR : cRl rule σ) (hf : f < many) (h0 : 0 ≤ P f 0) (q1 : dm = 40 → Q (some (.int (zI (-2)))) σ) (q2 : dm < 40 → ∀ σ' c', cP [30] [31] σ σ' → σ'.ru = σ.ru → cSh many wide high bl G ad c' σ' → cPl many (setP P f (-1) 0 0 0) c' → cLg many (dm + 1) (updH H dm (P, rule)) σ' → Q (some (.int (zI (pgM (setP P f (-1) 0 0 0) many)))) σ') : jX0_lift E α 0 [some (.ref (α 0)), some (.int (zI (f : Nat)))] [] σ Q := by
  have hO8 := hO.s
  refine J_aload_n dX0_lift_0 rfl ?_
  refine J_iload_n dX0_lift_1 rfl ?_
  refine CC_X0_isFrame (by decide) (by decide) (Nat.le_of_ble_eq_true rfl) dX0_lift_2 ?_
  refine c_isFrame hS hO (by unfold zR at *; omega) (fun b2 => ?_) (fun b2 => ?_)
  · refine J_ri ?_
    refine J_if_ne_y (tgt := 10) dX0_lift_5 (by decide) (by decide) ?_
    refine J_aload_n dX0_lift_10 rfl ?_
    refine J_iload_n dX0_lift_11 rfl ?_
    refine CC_X0_isSet (by decide) (by decide) (Nat.le_of_ble_eq_true rfl) dX0_lift_12 ?_
    refine c_isSet hS hO hP hN hf (fun b12 => ?_) (fun b12 => ?_)
    · refine J_ri ?_
      refine J_if_ne_y (tgt := 21) dX0_lift_15 (by decide) (by decide) ?_
      refine J_aload_n dX0_lift_21 rfl ?_
      refine CG_deedMany dX0_lift_22 ?_
      refine J_top (zI (dm)) hL.1 ?_
      refine J_bipush (zI 40) dX0_lift_25 rfl ?_
      refine J_icmp_ne_z (tgt := 33) dX0_lift_27 (by decide) (by unfold zR; omega) (by unfold zR; omega) (fun c27 => ?_) (fun c27 => ?_)
      · skip
        refine J_aload_n dX0_lift_33 rfl ?_
        refine CC_X0_note (by decide) (by decide) (Nat.le_of_ble_eq_true rfl) dX0_lift_34 ?_
        refine c_note hS hO hP hN hL (by omega) hR (fun σ3 e3 l3 => ?_)
        have hS := hS.up e3 (by decide) (by decide) (by decide) (by decide)
        refine J_rv ?_
        refine J_aload_n dX0_lift_37 rfl ?_
        refine J_iload_n dX0_lift_38 rfl ?_
        refine CC_X0_lifts (by decide) (by decide) (Nat.le_of_ble_eq_true rfl) dX0_lift_39 ?_
        refine c_lifts hS hO hf ?_
        have hS := hS.put f (upI (c f) 0 (-9))
        obtain ⟨c2, hc2⟩ : ∃ c2, c2 = updC c f (upI (c f) 0 (-9)) := ⟨_, rfl⟩
        rw [← hc2] at hS
        have hP : cPl many (setP P f (-1) 0 0 0) c2 := cPl_lift hP (fun g hg => by rw [hc2, updC_n hg]) (by rw [hc2, updC_s]; exact ⟨rfl, rfl⟩)
        have hN := (lift_ok hN hV f).1
        refine J_rv ?_
        refine J_aload_n dX0_lift_42 rfl ?_
        refine CC_X0_pageMany (by decide) (by decide) (Nat.le_of_ble_eq_true rfl) dX0_lift_43 ?_
        refine c_pageMany hS hO hP hN  ?_
        refine J_ri ?_
        exact J_iret rfl dX0_lift_46 (by exact q2 (by omega) _ c2 (cP.sF e3.1) e3.2.2 hS hP l3)
      · skip
        refine J_bipush (zI (-2)) dX0_lift_30 rfl ?_
        exact J_iret rfl dX0_lift_32 (by exact q1 (by omega))
    · exfalso; omega
  · exfalso; omega
theorem c_keyOf {E : jEnv} {α : Nat → Nat} {σ : cS} {Q : Option Value → cS → Prop} {many : Nat} {wide high bl : Int} {G : Nat → Nat → Int} {ad : Nat → Nat} {c : Nat → Nat → Int} {f : Nat} {o : Int}  (hS : cSh many wide high bl G ad c σ) (hO : shOK many wide high bl G) (hf : f < many) (ho : 0 ≤ o ∧ o ≤ 2) (hq : Q (some (.int (zI (mWt bl G f o)))) σ) : jX0_keyOf E α 0 [some (.ref (α 0)), some (.int (zI (f : Nat))), some (.int (zI (o))), none, none] [] σ Q := by
  have hO8 := hO.s
  have hxb := mNX_b hO hf 0
  have hyb := mNY_b hO hf 0
  refine J_aload_n dX0_keyOf_0 rfl ?_
  refine CG_frames dX0_keyOf_1 ?_
  refine J_iload_n dX0_keyOf_4 rfl ?_
  refine CA_fr (hS.2.2.2.2 _ hf) (by omega) (by have := hO.1; omega) dX0_keyOf_5 ?_
  refine J_aload_n dX0_keyOf_6 rfl ?_
  refine CG_bleed dX0_keyOf_7 ?_
  refine J_top (zI (bl)) hS.2.2.2.1 ?_
  refine J_iconst (zI 0) dX0_keyOf_10 rfl ?_
  refine VX3_across G f (c := (c f))  (hS.w hf hO.1) (hO.k hf) (Or.inl rfl) q1247 (by decide) (by decide) (Nat.le_of_ble_eq_true rfl) dX0_keyOf_11 ?_
  refine J_istore_n dX0_keyOf_14 rfl (by decide) _ rfl ?_
  refine J_aload_n dX0_keyOf_15 rfl ?_
  refine CG_frames dX0_keyOf_16 ?_
  refine J_iload_n dX0_keyOf_19 rfl ?_
  refine CA_fr (hS.2.2.2.2 _ hf) (by omega) (by have := hO.1; omega) dX0_keyOf_20 ?_
  refine J_aload_n dX0_keyOf_21 rfl ?_
  refine CG_bleed dX0_keyOf_22 ?_
  refine J_top (zI (bl)) hS.2.2.2.1 ?_
  refine J_iconst (zI 0) dX0_keyOf_25 rfl ?_
  refine VX3_down G f (c := (c f))  (hS.w hf hO.1) (hO.k hf) (Or.inl rfl) q1248 (by decide) (by decide) (Nat.le_of_ble_eq_true rfl) dX0_keyOf_26 ?_
  refine J_istore dX0_keyOf_29 rfl (by decide) _ rfl ?_
  refine J_iload_n dX0_keyOf_31 rfl ?_
  refine J_if_ne_z (tgt := 39) dX0_keyOf_32 (by decide) (by unfold zR; omega) (fun c32 => ?_) (fun c32 => ?_)
  · skip
    refine J_iload_n dX0_keyOf_39 rfl ?_
    refine J_iconst (zI 1) dX0_keyOf_40 rfl ?_
    refine J_icmp_ne_z (tgt := 60) dX0_keyOf_41 (by decide) (by unfold zR; omega) (by unfold zR; omega) (fun c41 => ?_) (fun c41 => ?_)
    · skip
      refine J_iload_n dX0_keyOf_60 rfl ?_
      refine J_iload dX0_keyOf_61 rfl ?_
      refine PX0_greater (by unfold zR; omega) (by unfold zR; omega) (by decide) (by exact ⟨Nat.le_refl _, Nat.le_refl _⟩) (Nat.le_of_ble_eq_true rfl) dX0_keyOf_63 ?_
      exact J_iret rfl dX0_keyOf_66 (by rw [show mWt bl G f o = (if mNX bl G f 0 < mNY bl G f 0 then mNY bl G f 0 else mNX bl G f 0) by unfold mWt; rw [if_neg (by omega), if_neg (by omega)]; split <;> split <;> omega] at hq; exact hq)
    · skip
      refine J_aload_n dX0_keyOf_44 rfl ?_
      refine CG_frames dX0_keyOf_45 ?_
      refine J_iload_n dX0_keyOf_48 rfl ?_
      refine CA_fr (hS.2.2.2.2 _ hf) (by omega) (by have := hO.1; omega) dX0_keyOf_49 ?_
      refine J_aload_n dX0_keyOf_50 rfl ?_
      refine CG_bleed dX0_keyOf_51 ?_
      refine J_top (zI (bl)) hS.2.2.2.1 ?_
      refine VX3_needs G f (c := (c f))  (hS.w hf hO.1) (hO.k hf)  q1287 (by decide) (by decide) (Nat.le_of_ble_eq_true rfl) dX0_keyOf_54 ?_
      refine J_goto (tgt := 66) dX0_keyOf_57 (by decide) ?_
      exact J_iret rfl dX0_keyOf_66 (by rw [show mWt bl G f o = mNX bl G f 0 * mNY bl G f 0 by unfold mWt; rw [if_neg (by omega), if_pos (by omega)]] at hq; exact hq)
  · skip
    refine J_iconst (zI 0) dX0_keyOf_35 rfl ?_
    refine J_goto (tgt := 66) dX0_keyOf_36 (by decide) ?_
    exact J_iret rfl dX0_keyOf_66 (by rw [show mWt bl G f o = 0 from if_pos (by omega)] at hq; exact hq)
theorem lf_0 : ∀ many, many ≤ 8 → (zI 1 <<< (zI (many : Nat) &&& 31)) - zI 1 = nI (2 ^ many - 1 - 0) := by decide +kernel
theorem lf_bit0 : ∀ many, many ≤ 8 → ∀ m, m < 2 ^ many → ∀ k, k < many → ((nI (2 ^ many - 1 - m)) >>> (zI (k : Nat) &&& 31)) &&& zI 1 = if m.testBit k then zI 0 else zI 1 := by decide +kernel
theorem lf_off : ∀ many, many ≤ 8 → ∀ m, m < 2 ^ many → ∀ k, k < many → nI (2 ^ many - 1 - m) &&& ((zI 1 <<< (zI (k : Nat) &&& 31)) ^^^ zI (-1)) = nI (2 ^ many - 1 - (m ||| 2 ^ k)) := by decide +kernel
theorem lf_ne : ∀ many, many ≤ 8 → ∀ m, m < 2 ^ many → (nI (2 ^ many - 1 - m) = 0 ↔ m = 2 ^ many - 1) := by decide +kernel
section LF
variable {many : Nat} {wide high bl : Int} {G : Nat → Nat → Int} {rule o : Int}
theorem mAll_lt (hm : many ≤ 8) : ∀ n, n ≤ many → (mAll many wide high bl G rule o n).2 < 2 ^ many
  | 0, _ => Nat.pos_of_ne_zero (by simp)
  | n + 1, hn => by
    have h := mAll_lt hm n (by omega)
    have hs := mAll_sel (wide := wide) (high := high) (bl := bl) (G := G) (rule := rule) (o := o) hm (show n < many by omega)
    simp only [mAll]
    exact Nat.or_lt_two_pow h (Nat.pow_lt_pow_right (by omega) (by omega))
theorem mAll_full (hm : many ≤ 8) {n : Nat} (hn : n ≤ many) : (mAll many wide high bl G rule o n).2 = 2 ^ many - 1 ↔ n = many := by
  obtain ⟨a1, a2⟩ := mAll_ok (rule := rule) (o := o) (wide := wide) (high := high) (bl := bl) (G := G) hm n hn
  constructor
  · intro e
    by_cases z : n = many
    · exact z
    · obtain ⟨k, b1, b2⟩ := cntB_ex (m := (mAll many wide high bl G rule o n).2) many (by omega)
      rw [e, Nat.testBit_two_pow_sub_one] at b2
      simp at b2
      omega
  · intro e
    subst e
    have hall := cntB_all n a2
    have hlt := mAll_lt (wide := wide) (high := high) (bl := bl) (G := G) (rule := rule) (o := o) hm n hn
    apply Nat.eq_of_testBit_eq
    intro i
    rw [Nat.testBit_two_pow_sub_one]
    by_cases z : i < n
    · rw [hall i z]; simp [z]
    · rw [Nat.testBit_lt_two_pow (Nat.lt_of_lt_of_le hlt (Nat.pow_le_pow_right (by omega) (by omega)))]; simp [z]
end LF

theorem cl_setsAll48 {E : jEnv} {α : Nat → Nat} {σ : cS} {Q : Option Value → cS → Prop} {many : Nat} {wide high bl : Int} {G : Nat → Nat → Int} {ad : Nat → Nat} {c : Nat → Nat → Int} {o : Int} {m : Nat} {nv : Int32}  (hS : cSh many wide high bl G ad c σ) (hO : shOK many wide high bl G) (ho : 0 ≤ o ∧ o ≤ 2) (hm : m < 2 ^ many) (hx : jX0_setsAll E α 114 [some (.ref (α 0)), some (.int (zI (o))), some (.int (nI (2 ^ many - 1 - m))), some (.int nv), some (.int (zI (mSel (fun k => mWt bl G k o) m many))), none, none] [] σ Q)  : ∀ (n : Nat) (j : Nat) (z : Int), j ≤ many → slC (fun k => mWt bl G k o) m many j z → j < n → jX0_setsAll E α 48 [some (.ref (α 0)), some (.int (zI (o))), some (.int (nI (2 ^ many - 1 - m))), some (.int (nv)), some (.int (zI (z))), some (.int (zI (((j : Nat) : Int) - 1))), none] [] σ Q := by
  intro n
  induction n with
  | zero => intro j z h1 h2 hn; exact absurd hn (Nat.not_lt_zero _)
  | succ n ih =>
    intro j z h1 h2 hn
    have hO8 := hO.s
    have hsb : z = -9 ∨ (0 ≤ z ∧ z < many) := by
      rcases h2 with y | ⟨k, y1, y2, y3, -⟩
      · exact Or.inl y.1
      · exact Or.inr (by omega)
    refine J_iload dX0_setsAll_48 rfl ?_
    refine J_if_lt_z (tgt := 114) dX0_setsAll_50 (by decide) (by unfold zR; omega) (fun c50 => ?_) (fun c50 => ?_)
    · skip
      obtain rfl : j = 0 := by omega
      rw [slC_end h2]
      refine J_fg (L' := [some (.ref (α 0)), some (.int (zI (o))), some (.int (nI (2 ^ many - 1 - m))), some (.int nv), some (.int (zI (mSel (fun k => mWt bl G k o) m many))), none, none]) (by repeat' constructor) ?_
      exact hx
    · skip
      have hbit := lf_bit0 many (by omega) m hm (j - 1) (by omega)
      have hwj := mWt_b hO (f := j - 1) (by omega) o
      have h2' : slC (fun k => mWt bl G k o) m many (j - 1 + 1) z := by rw [show j - 1 + 1 = j by omega]; exact h2
      refine J_iload_n dX0_setsAll_53 rfl ?_
      refine J_iload dX0_setsAll_54 rfl ?_
      refine J_top (zI ((j - 1 : Nat) : Int)) (congrArg zI (by omega)) ?_
      refine J_ishr dX0_setsAll_56 ?_
      refine J_iconst (zI 1) dX0_setsAll_57 rfl ?_
      refine J_iand dX0_setsAll_58 ?_
      rw [hbit]
      by_cases hb0 : m.testBit (j - 1) = true
      · skip
        have hb : m.testBit (j - 1) = true := ‹_›
        rw [if_pos hb]
        refine J_iconst (zI 1) dX0_setsAll_59 rfl ?_
        refine J_icmp_ne_y (tgt := 67) dX0_setsAll_60 (by decide) (by decide) ?_
        refine J_iconst (zI 0) dX0_setsAll_67 rfl ?_
        refine J_istore dX0_setsAll_68 rfl (by decide) _ rfl ?_
        refine J_iload dX0_setsAll_70 rfl ?_
        refine J_if_eq_y (tgt := 104) dX0_setsAll_72 (by decide) (by decide) ?_
        refine J_iload dX0_setsAll_104 rfl ?_
        refine J_istore dX0_setsAll_106 rfl (by decide) _ rfl ?_
        refine J_iinc_z ((((j : Nat) : Int) - 1 - 1)) (by omega) dX0_setsAll_108 rfl rfl (by decide) _ rfl ?_
        refine J_goto (tgt := 48) dX0_setsAll_111 (by decide) ?_
        refine J_fg (L' := [some (.ref (α 0)), some (.int (zI (o))), some (.int (nI (2 ^ many - 1 - m))), some (.int nv), some (.int (zI (z))), some (.int (zI (((j - 1 : Nat) : Int) - 1))), none]) (by rw [show ((j - 1 : Nat) : Int) - 1 = (j : Int) - 1 - 1 by omega]; repeat' constructor) ?_
        refine ih (j - 1) _ (by omega) ?_ (by omega)
        exact slC_n1 h2' hb
      · skip
        have hb : m.testBit (j - 1) = false := by simpa using ‹¬ m.testBit (j - 1) = true›
        rw [if_neg (by rw [hb]; decide)]
        refine J_iconst (zI 1) dX0_setsAll_59 rfl ?_
        refine J_icmp_ne_n (tgt := 67) dX0_setsAll_60 (by decide) (by decide) ?_
        refine J_iconst (zI 1) dX0_setsAll_63 rfl ?_
        refine J_goto (tgt := 68) dX0_setsAll_64 (by decide) ?_
        refine J_istore dX0_setsAll_68 rfl (by decide) _ rfl ?_
        refine J_iload dX0_setsAll_70 rfl ?_
        refine J_if_eq_n (tgt := 104) dX0_setsAll_72 (by decide) (by decide) ?_
        refine J_iload dX0_setsAll_75 rfl ?_
        refine J_bipush (zI (-9)) dX0_setsAll_77 rfl ?_
        refine J_icmp_eq_z (tgt := 99) dX0_setsAll_79 (by decide) (by unfold zR; omega) (by unfold zR; omega) (fun c79 => ?_) (fun c79 => ?_)
        · skip
          refine J_iload dX0_setsAll_99 rfl ?_
          refine J_goto (tgt := 106) dX0_setsAll_101 (by decide) ?_
          refine J_istore dX0_setsAll_106 rfl (by decide) _ rfl ?_
          refine J_iinc_z ((((j : Nat) : Int) - 1 - 1)) (by omega) dX0_setsAll_108 rfl rfl (by decide) _ rfl ?_
          refine J_goto (tgt := 48) dX0_setsAll_111 (by decide) ?_
          refine J_fg (L' := [some (.ref (α 0)), some (.int (zI (o))), some (.int (nI (2 ^ many - 1 - m))), some (.int nv), some (.int (zI (((j : Nat) : Int) - 1))), some (.int (zI (((j - 1 : Nat) : Int) - 1))), none]) (by rw [show ((j - 1 : Nat) : Int) - 1 = (j : Int) - 1 - 1 by omega]; repeat' constructor) ?_
          refine ih (j - 1) _ (by omega) ?_ (by omega)
          first | exact slC_n2 h2' (by omega) (show mWt bl G (j - 1) o < mWt bl G z.toNat o by omega) | (rw [show (j : Int) - 1 = ((j - 1 : Nat) : Int) by omega]; exact slC_y h2' (by omega) hb (show z = -9 ∨ mWt bl G z.toNat o ≤ mWt bl G (j - 1) o by omega))
        · skip
          have hwz := mWt_b hO (f := z.toNat) (by omega) o
          refine J_aload_n dX0_setsAll_82 rfl ?_
          refine J_iload dX0_setsAll_83 rfl ?_
          refine J_top (zI ((j - 1 : Nat) : Int)) (congrArg zI (by omega)) ?_
          refine J_iload_n dX0_setsAll_85 rfl ?_
          refine CC_X0_keyOf (by decide) (by decide) (Nat.le_of_ble_eq_true rfl) dX0_setsAll_86 ?_
          refine c_keyOf hS hO (f := j - 1) (by omega) ho ?_
          refine J_ri ?_
          refine J_aload_n dX0_setsAll_89 rfl ?_
          refine J_iload dX0_setsAll_90 rfl ?_
          refine J_top (zI ((z.toNat : Nat) : Int)) (congrArg zI (by omega)) ?_
          refine J_iload_n dX0_setsAll_92 rfl ?_
          refine CC_X0_keyOf (by decide) (by decide) (Nat.le_of_ble_eq_true rfl) dX0_setsAll_93 ?_
          refine c_keyOf hS hO (f := z.toNat) (by omega) ho ?_
          refine J_ri ?_
          refine J_icmp_lt_z (tgt := 104) dX0_setsAll_96 (by decide) (by unfold zR; omega) (by unfold zR; omega) (fun c96 => ?_) (fun c96 => ?_)
          · skip
            refine J_iload dX0_setsAll_104 rfl ?_
            refine J_istore dX0_setsAll_106 rfl (by decide) _ rfl ?_
            refine J_iinc_z ((((j : Nat) : Int) - 1 - 1)) (by omega) dX0_setsAll_108 rfl rfl (by decide) _ rfl ?_
            refine J_goto (tgt := 48) dX0_setsAll_111 (by decide) ?_
            refine J_fg (L' := [some (.ref (α 0)), some (.int (zI (o))), some (.int (nI (2 ^ many - 1 - m))), some (.int nv), some (.int (zI (z))), some (.int (zI (((j - 1 : Nat) : Int) - 1))), none]) (by rw [show ((j - 1 : Nat) : Int) - 1 = (j : Int) - 1 - 1 by omega]; repeat' constructor) ?_
            refine ih (j - 1) _ (by omega) ?_ (by omega)
            first | exact slC_n2 h2' (by omega) (show mWt bl G (j - 1) o < mWt bl G z.toNat o by omega) | (rw [show (j : Int) - 1 = ((j - 1 : Nat) : Int) by omega]; exact slC_y h2' (by omega) hb (show z = -9 ∨ mWt bl G z.toNat o ≤ mWt bl G (j - 1) o by omega))
          · skip
            refine J_iload dX0_setsAll_99 rfl ?_
            refine J_goto (tgt := 106) dX0_setsAll_101 (by decide) ?_
            refine J_istore dX0_setsAll_106 rfl (by decide) _ rfl ?_
            refine J_iinc_z ((((j : Nat) : Int) - 1 - 1)) (by omega) dX0_setsAll_108 rfl rfl (by decide) _ rfl ?_
            refine J_goto (tgt := 48) dX0_setsAll_111 (by decide) ?_
            refine J_fg (L' := [some (.ref (α 0)), some (.int (zI (o))), some (.int (nI (2 ^ many - 1 - m))), some (.int nv), some (.int (zI (((j : Nat) : Int) - 1))), some (.int (zI (((j - 1 : Nat) : Int) - 1))), none]) (by rw [show ((j - 1 : Nat) : Int) - 1 = (j : Int) - 1 - 1 by omega]; repeat' constructor) ?_
            refine ih (j - 1) _ (by omega) ?_ (by omega)
            first | exact slC_n2 h2' (by omega) (show mWt bl G (j - 1) o < mWt bl G z.toNat o by omega) | (rw [show (j : Int) - 1 = ((j - 1 : Nat) : Int) by omega]; exact slC_y h2' (by omega) hb (show z = -9 ∨ mWt bl G z.toNat o ≤ mWt bl G (j - 1) o by omega))
theorem cl_setsAll32 {E : jEnv} {α : Nat → Nat} {σ : cS} {Q : Option Value → cS → Prop} {many : Nat} {wide high bl : Int} {G : Nat → Nat → Int} {ad : Nat → Nat} {c : Nat → Nat → Int} {rule o : Int}  (hS : cSh many wide high bl G ad c σ) (hO : shOK many wide high bl G) (ho : 0 ≤ o ∧ o ≤ 2) (hru : 0 ≤ rule ∧ rule ≤ 3) (hR : cRl rule σ) (hq : ∀ σ' c', cP [20, 26, 27, 28, 29] [21, 22, 23, 24, 25] σ σ' → σ'.ru = σ.ru → cSh many wide high bl G ad c' σ' → cPl many (mAll many wide high bl G rule o many).1 c' → Q (some (.int (nI (mNot many wide high bl G rule o many)))) σ')  : ∀ (n : Nat) (t : Nat) (σ1 : cS) (cc : Nat → Nat → Int), t ≤ many → cP [20, 26, 27, 28, 29] [21, 22, 23, 24, 25] σ σ1 → σ1.ru = σ.ru → cSh many wide high bl G ad cc σ1 → cPl many (mAll many wide high bl G rule o t).1 cc → many - t < n → jX0_setsAll E α 32 [some (.ref (α 0)), some (.int (zI (o))), some (.int (nI (2 ^ many - 1 - (mAll many wide high bl G rule o t).2))), some (.int (nI (mNot many wide high bl G rule o t))), none, none, none] [] σ1 Q := by
  intro n
  induction n with
  | zero => intro t σ1 cc h1 h2 h3 h4 h5 hn; exact absurd hn (Nat.not_lt_zero _)
  | succ n ih =>
    intro t σ1 cc h1 h2 h3 h4 h5 hn
    have hO8 := hO.s
    have hlt := mAll_lt (wide := wide) (high := high) (bl := bl) (G := G) (rule := rule) (o := o) (many := many) (by omega) t (by omega)
    have hne := lf_ne many (by omega) (mAll many wide high bl G rule o t).2 hlt
    have hfl := mAll_full (wide := wide) (high := high) (bl := bl) (G := G) (rule := rule) (o := o) (many := many) (by omega) h1
    have hR1 := hR.up h3
    have hmR := mAll_R (o := o) hO hru t h1
    have hmn := (mNot_hi (wide := wide) (high := high) (bl := bl) (G := G) (rule := rule) (o := o) (many := many) (by omega) t h1).1
    refine J_iload_n dX0_setsAll_32 rfl ?_
    refine J_if_eq (tgt := 151) dX0_setsAll_33 (by decide) (fun c33 => ?_) (fun c33 => ?_)
    · skip
      obtain rfl : t = many := hfl.mp (hne.mp c33)
      refine J_iload_n dX0_setsAll_151 rfl ?_
      exact J_iret rfl dX0_setsAll_152 (by exact hq σ1 cc h2 h3 h4 h5)
    · skip
      have htm : t < many := by
        by_cases z : t = many
        · exact absurd (hne.mpr (hfl.mpr z)) c33
        · omega
      have hsl := mAll_sel (wide := wide) (high := high) (bl := bl) (G := G) (rule := rule) (o := o) (many := many) (by omega) htm
      obtain ⟨f, hfe⟩ : ∃ f : Nat, mSel (fun k => mWt bl G k o) (mAll many wide high bl G rule o t).2 many = (f : Int) := ⟨(mSel (fun k => mWt bl G k o) (mAll many wide high bl G rule o t).2 many).toNat, by omega⟩
      have hf : f < many := by omega
      refine J_bipush (zI (-9)) dX0_setsAll_36 rfl ?_
      refine J_istore dX0_setsAll_38 rfl (by decide) _ rfl ?_
      refine J_aload_n dX0_setsAll_40 rfl ?_
      refine CG_many dX0_setsAll_41 ?_
      refine J_top (zI (many)) h4.1 ?_
      refine J_iconst (zI 1) dX0_setsAll_44 rfl ?_
      refine J_isub_z dX0_setsAll_45 ?_
      refine J_istore dX0_setsAll_46 rfl (by decide) _ rfl ?_
      refine J_fg (L' := [some (.ref (α 0)), some (.int (zI (o))), some (.int (nI (2 ^ many - 1 - (mAll many wide high bl G rule o t).2))), some (.int (nI (mNot many wide high bl G rule o t))), some (.int (zI (-9))), some (.int (zI (((many : Nat) : Int) - 1))), none]) (by repeat' constructor) ?_
      refine cl_setsAll48 h4 hO ho hlt ?_ _ many (-9) (Nat.le_refl _) (slC_0 _ _ _) (Nat.lt_succ_self _)
      rw [hfe]
      refine J_iload_n dX0_setsAll_114 rfl ?_
      refine J_aload_n dX0_setsAll_115 rfl ?_
      refine J_aload_n dX0_setsAll_116 rfl ?_
      refine CG_frames dX0_setsAll_117 ?_
      refine J_iload dX0_setsAll_120 rfl ?_
      refine CA_fr (h4.2.2.2.2 _ hf) (by omega) (by have := hO.1; omega) dX0_setsAll_122 ?_
      refine CC_X0_sets (by decide) (by decide) (Nat.le_of_ble_eq_true rfl) dX0_setsAll_123 ?_
      refine c_sets h4 hO h5 hmR.1 hmR.2 hf hR1  (fun hp σ2 e2 => ?_) (fun p σ2 c2 hp e2 er s2 pl2 g1 g2 => ?_)
      · refine J_ri ?_
        have hmf : mFind many wide high bl G rule (mAll many wide high bl G rule o t).1 f = -9 := mFind_n hp
        have hmp : mPut many wide high bl G rule (mAll many wide high bl G rule o t).1 f = (mAll many wide high bl G rule o t).1 := mPut_n hp
        refine J_if_eq_y (tgt := 133) dX0_setsAll_126 (by decide) (by decide) ?_
        refine J_iconst (zI 1) dX0_setsAll_133 rfl ?_
        refine J_iload dX0_setsAll_134 rfl ?_
        refine J_ishl dX0_setsAll_136 ?_
        refine J_ior dX0_setsAll_137 ?_
        refine J_top (nI (mNot many wide high bl G rule o (t + 1))) (by rw [mask_or _ hmn f (by omega)]; congr 1; show _ = (if _ then _ else _); rw [hfe, Int.toNat_natCast, if_pos hmf]) ?_
        refine J_istore_n dX0_setsAll_138 rfl (by decide) _ rfl ?_
        refine J_iload_n dX0_setsAll_139 rfl ?_
        refine J_iconst (zI 1) dX0_setsAll_140 rfl ?_
        refine J_iload dX0_setsAll_141 rfl ?_
        refine J_ishl dX0_setsAll_143 ?_
        refine J_iconst (zI (-1)) dX0_setsAll_144 rfl ?_
        refine J_ixor dX0_setsAll_145 ?_
        refine J_iand dX0_setsAll_146 ?_
        refine J_top (nI (2 ^ many - 1 - (mAll many wide high bl G rule o (t + 1)).2)) (by rw [lf_off many (by omega) _ hlt f (by omega)]; congr 2; show _ = _ ||| 2 ^ _; rw [hfe, Int.toNat_natCast]) ?_
        refine J_istore_n dX0_setsAll_147 rfl (by decide) _ rfl ?_
        refine J_goto (tgt := 32) dX0_setsAll_148 (by decide) ?_
        refine J_fg (L' := [some (.ref (α 0)), some (.int (zI (o))), some (.int (nI (2 ^ many - 1 - (mAll many wide high bl G rule o (t + 1)).2))), some (.int (nI (mNot many wide high bl G rule o (t + 1)))), none, none, none]) (by repeat' constructor) ?_
        have e5 : (mAll many wide high bl G rule o (t + 1)).1 = (mAll many wide high bl G rule o t).1 := by show mPut many wide high bl G rule _ _ = _; rw [hfe, Int.toNat_natCast, hmp]
        exact ih (t + 1) σ2 cc (by omega) (h2.trans e2.1) (e2.2.2.trans h3) (h4.up e2 (by decide) (by decide) (by decide) (by decide)) (by rw [e5]; exact h5) (by omega)
      · refine J_ri ?_
        have hmf : mFind many wide high bl G rule (mAll many wide high bl G rule o t).1 f ≠ -9 := by rw [mFind_p hp]; have := hp.1; omega
        refine J_if_eq_n (tgt := 133) dX0_setsAll_126 (by decide) (by decide) ?_
        refine J_iconst (zI 0) dX0_setsAll_129 rfl ?_
        refine J_goto (tgt := 137) dX0_setsAll_130 (by decide) ?_
        refine J_ior dX0_setsAll_137 ?_
        refine J_top (nI (mNot many wide high bl G rule o (t + 1))) (by rw [show zI 0 = (0 : Int32) from rfl, Int32.or_zero]; congr 1; show _ = (if _ then _ else _); rw [hfe, Int.toNat_natCast, if_neg hmf]) ?_
        refine J_istore_n dX0_setsAll_138 rfl (by decide) _ rfl ?_
        refine J_iload_n dX0_setsAll_139 rfl ?_
        refine J_iconst (zI 1) dX0_setsAll_140 rfl ?_
        refine J_iload dX0_setsAll_141 rfl ?_
        refine J_ishl dX0_setsAll_143 ?_
        refine J_iconst (zI (-1)) dX0_setsAll_144 rfl ?_
        refine J_ixor dX0_setsAll_145 ?_
        refine J_iand dX0_setsAll_146 ?_
        refine J_top (nI (2 ^ many - 1 - (mAll many wide high bl G rule o (t + 1)).2)) (by rw [lf_off many (by omega) _ hlt f (by omega)]; congr 2; show _ = _ ||| 2 ^ _; rw [hfe, Int.toNat_natCast]) ?_
        refine J_istore_n dX0_setsAll_147 rfl (by decide) _ rfl ?_
        refine J_goto (tgt := 32) dX0_setsAll_148 (by decide) ?_
        refine J_fg (L' := [some (.ref (α 0)), some (.int (zI (o))), some (.int (nI (2 ^ many - 1 - (mAll many wide high bl G rule o (t + 1)).2))), some (.int (nI (mNot many wide high bl G rule o (t + 1)))), none, none, none]) (by repeat' constructor) ?_
        have e5 : (mAll many wide high bl G rule o (t + 1)).1 = mPut many wide high bl G rule (mAll many wide high bl G rule o t).1 f := by show mPut many wide high bl G rule _ _ = _; rw [hfe, Int.toNat_natCast]
        exact ih (t + 1) σ2 c2 (by omega) (h2.trans e2) (er.trans h3) s2 (by rw [e5]; exact pl2) (by omega)
theorem cl_setsAll2 {E : jEnv} {α : Nat → Nat} {σ : cS} {Q : Option Value → cS → Prop} {many : Nat} {wide high bl : Int} {G : Nat → Nat → Int} {ad : Nat → Nat} {c : Nat → Nat → Int} {o : Int}  (hS : cSh many wide high bl G ad c σ) (hO : shOK many wide high bl G) (hx : ∀ σ' c', cP [] [] σ σ' → σ'.ru = σ.ru → cSh many wide high bl G ad c' σ' → (∀ g, g < many → c' g 0 = -9 ∧ c' g 3 = c g 3) → jX0_setsAll E α 21 [some (.ref (α 0)), some (.int (zI (o))), none, none, none, none, none] [] σ' Q)  : ∀ (n : Nat) (f : Nat) (σ1 : cS) (cc : Nat → Nat → Int), f ≤ many → cP [] [] σ σ1 → σ1.ru = σ.ru → cSh many wide high bl G ad cc σ1 → (∀ g, g < f → cc g 0 = -9 ∧ cc g 3 = c g 3) → (∀ g, f ≤ g → cc g = c g) → many - f < n → jX0_setsAll E α 2 [some (.ref (α 0)), some (.int (zI (o))), some (.int (zI (f : Nat))), none, none, none, none] [] σ1 Q := by
  intro n
  induction n with
  | zero => intro f σ1 cc h1 h2 h3 h4 h5 h6 hn; exact absurd hn (Nat.not_lt_zero _)
  | succ n ih =>
    intro f σ1 cc h1 h2 h3 h4 h5 h6 hn
    have hO8 := hO.s
    refine J_iload_n dX0_setsAll_2 rfl ?_
    refine J_aload_n dX0_setsAll_3 rfl ?_
    refine CG_many dX0_setsAll_4 ?_
    refine J_top (zI (many)) h4.1 ?_
    refine J_icmp_ge_z (tgt := 21) dX0_setsAll_7 (by decide) (by unfold zR; omega) (by unfold zR; omega) (fun c7 => ?_) (fun c7 => ?_)
    · skip
      obtain rfl : f = many := by omega
      refine J_fg (L' := [some (.ref (α 0)), some (.int (zI (o))), none, none, none, none, none]) (by repeat' constructor) ?_
      exact hx σ1 cc h2 h3 h4 h5
    · skip
      have hf : f < many := by omega
      refine J_aload_n dX0_setsAll_10 rfl ?_
      refine J_iload_n dX0_setsAll_11 rfl ?_
      refine CC_X0_lifts (by decide) (by decide) (Nat.le_of_ble_eq_true rfl) dX0_setsAll_12 ?_
      refine c_lifts h4 hO hf ?_
      refine J_rv ?_
      refine J_iinc_z ((((f + 1)) : Nat) : Int) (by omega) dX0_setsAll_15 rfl rfl (by decide) _ rfl ?_
      refine J_goto (tgt := 2) dX0_setsAll_18 (by decide) ?_
      refine ih (f + 1) _ (updC cc f (upI (cc f) 0 (-9))) (by omega) (cP.sF h2) h3 (h4.put f _) (fun g hg => ?_) (fun g hg => ?_) (by omega)
      · by_cases z : g = f
        · subst z; rw [updC_s]; exact ⟨rfl, by rw [upI_n (by omega), h6 g (by omega)]⟩
        · rw [updC_n z]; exact h5 g (by omega)
      · rw [updC_n (by omega)]; exact h6 g (by omega)
theorem c_setsAll {E : jEnv} {α : Nat → Nat} {σ : cS} {Q : Option Value → cS → Prop} {many : Nat} {wide high bl : Int} {G : Nat → Nat → Int} {ad : Nat → Nat} {c : Nat → Nat → Int} {P : Nat → Nat → Int} {rule : Int} {o : Int}  (hS : cSh many wide high bl G ad c σ) (hO : shOK many wide high bl G) (hP : cPl many P c) (hN : plOK many P rule) (ho : 0 ≤ o ∧ o ≤ 2) (hR : cRl rule σ) (hq : ∀ σ' c', cP [20, 26, 27, 28, 29] [21, 22, 23, 24, 25] σ σ' → σ'.ru = σ.ru → cSh many wide high bl G ad c' σ' → cPl many (mAll many wide high bl G rule o many).1 c' → Q (some (.int (nI (mNot many wide high bl G rule o many)))) σ')  : jX0_setsAll E α 0 [some (.ref (α 0)), some (.int (zI (o))), none, none, none, none, none] [] σ Q := by
  have hO8 := hO.s
  refine J_iconst (zI 0) dX0_setsAll_0 rfl ?_
  refine J_istore_n dX0_setsAll_1 rfl (by decide) _ rfl ?_
  refine J_fg (L' := [some (.ref (α 0)), some (.int (zI (o))), some (.int (zI ((0 : Nat)))), none, none, none, none]) (by repeat' constructor) ?_
  refine cl_setsAll2 hS hO (fun σ1 c1 e1 er s1 k1 => ?_) _ 0 σ c (by omega) cP.refl rfl hS (fun g hg => by omega) (fun g _ => rfl) (Nat.lt_succ_self _)
  refine J_iconst (zI 1) dX0_setsAll_21 rfl ?_
  refine J_aload_n dX0_setsAll_22 rfl ?_
  refine CG_many dX0_setsAll_23 ?_
  refine J_top (zI (many)) s1.1 ?_
  refine J_ishl dX0_setsAll_26 ?_
  refine J_iconst (zI 1) dX0_setsAll_27 rfl ?_
  refine J_isub dX0_setsAll_28 ?_
  refine J_top (nI (2 ^ many - 1 - 0)) (lf_0 many (by omega)) ?_
  refine J_istore_n dX0_setsAll_29 rfl (by decide) _ rfl ?_
  refine J_iconst (zI 0) dX0_setsAll_30 rfl ?_
  refine J_istore_n dX0_setsAll_31 rfl (by decide) _ rfl ?_
  refine J_fg (L' := [some (.ref (α 0)), some (.int (zI (o))), some (.int (nI (2 ^ many - 1 - (mAll many wide high bl G rule o 0).2))), some (.int (nI (mNot many wide high bl G rule o 0))), none, none, none]) (by repeat' constructor) ?_
  refine cl_setsAll32 s1 hO ho hN.2 (hR.up er) (fun σ' c' e2 er2 s2 p2 => hq σ' c' ((e1.mono (by decide) (by decide)).trans e2) (er2.trans er) s2 p2) _ 0 σ1 c1 (by omega) cP.refl rfl s1 (fun g hg => ?_) (Nat.lt_succ_self _)
  exact ⟨by rw [(k1 g hg).2]; exact (hP g hg).1, Or.inl ⟨rfl, (k1 g hg).1⟩⟩
theorem c_all_bad {E : jEnv} {α : Nat → Nat} {σ : cS} {Q : Option Value → cS → Prop} {many : Nat} {wide high bl : Int} {G : Nat → Nat → Int} {ad : Nat → Nat} {c : Nat → Nat → Int} {v : Int} (hS : cSh many wide high bl G ad c σ) (hO : shOK many wide high bl G) (rv : zR v) (hv : ¬ (0 ≤ v ∧ v ≤ 2) ∨ many = 0) (hq : Q (some (.int (zI (-1)))) σ) : jX0_all E α 0 [some (.ref (α 0)), some (.int (zI (v)))] [] σ Q := by
  have hO8 := hO.s
  refine J_iload_n dX0_all_0 rfl ?_
  refine J_iconst (zI 0) dX0_all_1 rfl ?_
  refine J_iconst (zI 2) dX0_all_2 rfl ?_
  refine PX0_isIn (by unfold zR at *; omega) (by unfold zR at *; omega) (by unfold zR at *; omega) (by decide) (by exact ⟨Nat.le_refl _, Nat.le_refl _⟩) (Nat.le_of_ble_eq_true rfl) dX0_all_3 (fun b3 => ?_) (fun b3 => ?_)
  · skip
    refine J_if_eq_n (tgt := 16) dX0_all_6 (by decide) (by decide) ?_
    refine J_aload_n dX0_all_9 rfl ?_
    refine CG_many dX0_all_10 ?_
    refine J_top (zI (many)) hS.1 ?_
    refine J_if_ne_z (tgt := 18) dX0_all_13 (by decide) (by unfold zR at *; omega) (fun c13 => ?_) (fun c13 => ?_)
    · exfalso; omega
    · skip
      refine J_iconst (zI (-1)) dX0_all_16 rfl ?_
      exact J_iret rfl dX0_all_17 (by exact hq)
  · skip
    refine J_if_eq_y (tgt := 16) dX0_all_6 (by decide) (by decide) ?_
    refine J_iconst (zI (-1)) dX0_all_16 rfl ?_
    exact J_iret rfl dX0_all_17 (by exact hq)
theorem c_all {E : jEnv} {α : Nat → Nat} {σ : cS} {Q : Option Value → cS → Prop} {many : Nat} {wide high bl : Int} {G : Nat → Nat → Int} {ad : Nat → Nat} {c : Nat → Nat → Int} {P : Nat → Nat → Int} {rule : Int} {dm : Nat} {H : Nat → mPl} {o : Int} (hS : cSh many wide high bl G ad c σ) (hO : shOK many wide high bl G) (hP : cPl many P c) (hN : plOK many P rule) (hL : cLg many dm H σ) (hd : dm ≤ 40) (hR : cRl rule σ) (ho : 0 ≤ o ∧ o ≤ 2) (hm : 0 < many) (q1 : dm = 40 → Q (some (.int (zI (-2)))) σ) (q2 : dm < 40 → ∀ σ' c', cP [20, 26, 27, 28, 29, 30] [21, 22, 23, 24, 25, 31] σ σ' → σ'.ru = σ.ru → cSh many wide high bl G ad c' σ' → cPl many (mAll many wide high bl G rule o many).1 c' → cLg many (dm + 1) (updH H dm (P, rule)) σ' → Q (some (.int (zI (pgM (mAll many wide high bl G rule o many).1 many)))) σ') : jX0_all E α 0 [some (.ref (α 0)), some (.int (zI (o)))] [] σ Q := by
  have hO8 := hO.s
  refine J_iload_n dX0_all_0 rfl ?_
  refine J_iconst (zI 0) dX0_all_1 rfl ?_
  refine J_iconst (zI 2) dX0_all_2 rfl ?_
  refine PX0_isIn (by unfold zR; omega) (by unfold zR; omega) (by unfold zR; omega) (by decide) (by exact ⟨Nat.le_refl _, Nat.le_refl _⟩) (Nat.le_of_ble_eq_true rfl) dX0_all_3 (fun b3 => ?_) (fun b3 => ?_)
  · skip
    refine J_if_eq_n (tgt := 16) dX0_all_6 (by decide) (by decide) ?_
    refine J_aload_n dX0_all_9 rfl ?_
    refine CG_many dX0_all_10 ?_
    refine J_top (zI (many)) hS.1 ?_
    refine J_if_ne_z (tgt := 18) dX0_all_13 (by decide) (by unfold zR; omega) (fun c13 => ?_) (fun c13 => ?_)
    · skip
      refine J_aload_n dX0_all_18 rfl ?_
      refine CG_deedMany dX0_all_19 ?_
      refine J_top (zI (dm)) hL.1 ?_
      refine J_bipush (zI 40) dX0_all_22 rfl ?_
      refine J_icmp_ne_z (tgt := 30) dX0_all_24 (by decide) (by unfold zR; omega) (by unfold zR; omega) (fun c24 => ?_) (fun c24 => ?_)
      · skip
        refine J_aload_n dX0_all_30 rfl ?_
        refine CC_X0_note (by decide) (by decide) (Nat.le_of_ble_eq_true rfl) dX0_all_31 ?_
        refine c_note hS hO hP hN hL (by omega) hR (fun σ3 e3 l3 => ?_)
        have hS := hS.up e3 (by decide) (by decide) (by decide) (by decide)
        refine J_rv ?_
        refine J_aload_n dX0_all_34 rfl ?_
        refine J_iload_n dX0_all_35 rfl ?_
        refine CC_X0_setsAll (by decide) (by decide) (Nat.le_of_ble_eq_true rfl) dX0_all_36 ?_
        refine c_setsAll hS hO hP hN ho (hR.up e3.2.2) (fun σ4 c4 e4 er4 s4 p4 => ?_)
        have hS := s4
        have hP := p4
        have hN := (mAll_R (o := o) hO hN.2 many (Nat.le_refl _)).1
        refine J_ri ?_
        refine J_pop dX0_all_39 rfl ?_
        refine J_aload_n dX0_all_40 rfl ?_
        refine CC_X0_pageMany (by decide) (by decide) (Nat.le_of_ble_eq_true rfl) dX0_all_41 ?_
        refine c_pageMany hS hO hP hN  ?_
        refine J_ri ?_
        exact J_iret rfl dX0_all_44 (by exact q2 (by omega) σ4 c4 ((e3.1.mono (by decide) (by decide)).trans (e4.mono (by decide) (by decide))) (er4.trans e3.2.2) s4 p4 (l3.up e4 (by decide) (by decide)))
      · skip
        refine J_bipush (zI (-2)) dX0_all_27 rfl ?_
        exact J_iret rfl dX0_all_29 (by exact q1 (by omega))
    · exfalso; omega
  · exfalso; omega
theorem c_rule_bad {E : jEnv} {α : Nat → Nat} {σ : cS} {Q : Option Value → cS → Prop} {v : Int} (rv : zR v) (hv : ¬ (0 ≤ v ∧ v ≤ 3)) (hq : Q (some (.int (zI (-1)))) σ) : jX0_rule E α 0 [some (.ref (α 0)), some (.int (zI (v))), none] [] σ Q := by
  refine J_iload_n dX0_rule_0 rfl ?_
  refine J_iconst (zI 0) dX0_rule_1 rfl ?_
  refine J_iconst (zI 3) dX0_rule_2 rfl ?_
  refine PX0_isIn (by unfold zR at *; omega) (by unfold zR at *; omega) (by unfold zR at *; omega) (by decide) (by decide) (Nat.le_of_ble_eq_true rfl) dX0_rule_3 (fun b3 => ?_) (fun b3 => ?_)
  · exfalso; omega
  · skip
    refine J_if_ne_n (tgt := 11) dX0_rule_6 (by decide) (by decide) ?_
    refine J_iconst (zI (-1)) dX0_rule_9 rfl ?_
    exact J_iret rfl dX0_rule_10 (by exact hq)
theorem c_rule {E : jEnv} {α : Nat → Nat} {σ : cS} {Q : Option Value → cS → Prop} {many : Nat} {wide high bl : Int} {G : Nat → Nat → Int} {ad : Nat → Nat} {c : Nat → Nat → Int} {P : Nat → Nat → Int} {rule : Int} {dm : Nat} {H : Nat → mPl} {k : Int} (hS : cSh many wide high bl G ad c σ) (hO : shOK many wide high bl G) (hP : cPl many P c) (hN : plOK many P rule) (hL : cLg many dm H σ) (hd : dm ≤ 40) (hR : cRl rule σ) (hd0 : σ.d 0 = none) (hk : 0 ≤ k ∧ k ≤ 3) (q0 : many = 0 ∨ rule = k → Q (some (.int (zI (-4)))) σ) (q1 : ¬ (many = 0 ∨ rule = k) → dm = 40 → Q (some (.int (zI (-2)))) σ) (q2 : ¬ (many = 0 ∨ rule = k) → dm < 40 → ∀ σ', cP [30] [31] σ σ' → cSh many wide high bl G ad c σ' → cRl k σ' → cLg many (dm + 1) (updH H dm (P, rule)) σ' → Q (some (.int (zI rule))) σ') : jX0_rule E α 0 [some (.ref (α 0)), some (.int (zI (k))), none] [] σ Q := by
  have hO8 := hO.s
  have hNr := hN.2
  refine J_iload_n dX0_rule_0 rfl ?_
  refine J_iconst (zI 0) dX0_rule_1 rfl ?_
  refine J_iconst (zI 3) dX0_rule_2 rfl ?_
  refine PX0_isIn (by unfold zR; omega) (by unfold zR; omega) (by unfold zR; omega) (by decide) (by decide) (Nat.le_of_ble_eq_true rfl) dX0_rule_3 (fun b3 => ?_) (fun b3 => ?_)
  · skip
    refine J_if_ne_y (tgt := 11) dX0_rule_6 (by decide) (by decide) ?_
    refine J_aload_n dX0_rule_11 rfl ?_
    refine CG_rule dX0_rule_12 ?_
    refine VR_number (ru := σ.ru.2) (show wC E α σ 150 = _ from rfl) hR.1  (by decide) (by decide) (Nat.le_of_ble_eq_true rfl) dX0_rule_15 ?_
    refine J_top (zI rule) (congrArg zI hR.2.symm) ?_
    refine J_istore_n dX0_rule_20 rfl (by decide) _ rfl ?_
    refine J_aload_n dX0_rule_21 rfl ?_
    refine CG_many dX0_rule_22 ?_
    refine J_top (zI (many)) hS.1 ?_
    refine J_if_eq_z (tgt := 33) dX0_rule_25 (by decide) (by unfold zR; omega) (fun c25 => ?_) (fun c25 => ?_)
    · skip
      refine J_bipush (zI (-4)) dX0_rule_33 rfl ?_
      exact J_iret rfl dX0_rule_35 (by exact q0 (by omega))
    · skip
      refine J_iload_n dX0_rule_28 rfl ?_
      refine J_iload_n dX0_rule_29 rfl ?_
      refine J_icmp_ne_z (tgt := 36) dX0_rule_30 (by decide) (by unfold zR; omega) (by unfold zR; omega) (fun c30 => ?_) (fun c30 => ?_)
      · skip
        refine J_aload_n dX0_rule_36 rfl ?_
        refine CG_deedMany dX0_rule_37 ?_
        refine J_top (zI (dm)) hL.1 ?_
        refine J_bipush (zI 40) dX0_rule_40 rfl ?_
        refine J_icmp_ne_z (tgt := 48) dX0_rule_42 (by decide) (by unfold zR; omega) (by unfold zR; omega) (fun c42 => ?_) (fun c42 => ?_)
        · skip
          refine J_aload_n dX0_rule_48 rfl ?_
          refine CC_X0_note (by decide) (by decide) (Nat.le_of_ble_eq_true rfl) dX0_rule_49 ?_
          refine c_note hS hO hP hN hL (by omega) hR (fun σ3 e3 l3 => ?_)
          have hS := hS.up e3 (by decide) (by decide) (by decide) (by decide)
          refine J_rv ?_
          refine J_aload_n dX0_rule_52 rfl ?_
          refine J_iload_n dX0_rule_53 rfl ?_
          refine J_top (zI ((k.toNat : Nat) : Int)) (congrArg zI (by omega)) ?_
          refine CC_X0_newRule (by decide) (by decide) (Nat.le_of_ble_eq_true rfl) dX0_rule_54 ?_
          refine c_newRule (ru := k.toNat) (by omega) (fun a => ?_)
          refine J_ra ?_
          refine CP_rule (ru := k.toNat) rfl dX0_rule_57 ?_
          refine J_w (cRu_new (by rw [cP_d e3.1]; exact hd0)) ?_
          refine J_iload_n dX0_rule_60 rfl ?_
          exact J_iret rfl dX0_rule_61 (by exact q2 (by omega) (by omega) _ e3.1 hS ⟨show k.toNat < 4 by omega, by show k = ((k.toNat : Nat) : Int); omega⟩ l3)
        · skip
          refine J_bipush (zI (-2)) dX0_rule_45 rfl ?_
          exact J_iret rfl dX0_rule_47 (by exact q1 (by omega) (by omega))
      · skip
        refine J_bipush (zI (-4)) dX0_rule_33 rfl ?_
        exact J_iret rfl dX0_rule_35 (by exact q0 (by omega))
  · exfalso; omega
theorem c_undo_bad {E : jEnv} {α : Nat → Nat} {σ : cS} {Q : Option Value → cS → Prop} {dm : Nat} {H : Nat → mPl} {many : Nat} {n0 : Int} (hL : cLg many dm H σ) (hd : dm ≤ 40) (rn : zR n0) (hn0 : ¬ (0 ≤ n0 ∧ n0 ≤ dm)) (hq : Q (some (.int (zI (-1)))) σ) : jX0_undo E α 0 [some (.ref (α 0)), some (.int (zI (n0))), none] [] σ Q := by
  refine J_iload_n dX0_undo_0 rfl ?_
  refine J_iconst (zI 0) dX0_undo_1 rfl ?_
  refine J_aload_n dX0_undo_2 rfl ?_
  refine CG_deedMany dX0_undo_3 ?_
  refine J_top (zI (dm)) hL.1 ?_
  refine PX0_isIn (by unfold zR at *; omega) (by unfold zR at *; omega) (by unfold zR at *; omega) (by decide) (by decide) (Nat.le_of_ble_eq_true rfl) dX0_undo_6 (fun b6 => ?_) (fun b6 => ?_)
  · exfalso; omega
  · skip
    refine J_if_ne_n (tgt := 14) dX0_undo_9 (by decide) (by decide) ?_
    refine J_iconst (zI (-1)) dX0_undo_12 rfl ?_
    exact J_iret rfl dX0_undo_13 (by exact hq)
theorem c_undo_no {E : jEnv} {α : Nat → Nat} {σ : cS} {Q : Option Value → cS → Prop} {dm : Nat} {H : Nat → mPl} {many : Nat}  (hL : cLg many dm H σ) (hd : dm ≤ 40) (hq : Q (some (.int (zI (dm - dm)))) σ) : jX0_undo E α 0 [some (.ref (α 0)), some (.int (zI (dm : Nat))), none] [] σ Q := by
  refine J_iload_n dX0_undo_0 rfl ?_
  refine J_iconst (zI 0) dX0_undo_1 rfl ?_
  refine J_aload_n dX0_undo_2 rfl ?_
  refine CG_deedMany dX0_undo_3 ?_
  refine J_top (zI (dm)) hL.1 ?_
  refine PX0_isIn (by unfold zR; omega) (by unfold zR; omega) (by unfold zR; omega) (by decide) (by decide) (Nat.le_of_ble_eq_true rfl) dX0_undo_6 (fun b6 => ?_) (fun b6 => ?_)
  · skip
    refine J_if_ne_y (tgt := 14) dX0_undo_9 (by decide) (by decide) ?_
    refine J_aload_n dX0_undo_14 rfl ?_
    refine CG_deedMany dX0_undo_15 ?_
    refine J_top (zI (dm)) hL.1 ?_
    refine J_iload_n dX0_undo_18 rfl ?_
    refine J_isub_z dX0_undo_19 ?_
    refine J_istore_n dX0_undo_20 rfl (by decide) _ rfl ?_
    refine J_iload_n dX0_undo_21 rfl ?_
    refine J_if_le_z (tgt := 42) dX0_undo_22 (by decide) (by unfold zR; omega) (fun c22 => ?_) (fun c22 => ?_)
    · skip
      refine J_iload_n dX0_undo_42 rfl ?_
      exact J_iret rfl dX0_undo_43 (by exact hq)
    · exfalso; omega
  · exfalso; omega
theorem c_undo {E : jEnv} {α : Nat → Nat} {σ : cS} {Q : Option Value → cS → Prop} {many : Nat} {wide high bl : Int} {G : Nat → Nat → Int} {ad : Nat → Nat} {c : Nat → Nat → Int} {dm : Nat} {H : Nat → mPl} {m : Nat}  (hS : cSh many wide high bl G ad c σ) (hO : shOK many wide high bl G) (hL : cLg many dm H σ) (hd : dm ≤ 40) (hd0 : σ.d 0 = none) (hm : m < dm) (hp : 0 ≤ (H m).2 ∧ (H m).2 ≤ 3) (hq : ∀ σ' c', cP [30] [] σ σ' → cSh many wide high bl G ad c' σ' → cPl many (H m).1 c' → cRl (H m).2 σ' → cLg many m H σ' → Q (some (.int (zI (dm - m)))) σ') : jX0_undo E α 0 [some (.ref (α 0)), some (.int (zI (m : Nat))), none] [] σ Q := by
  refine J_iload_n dX0_undo_0 rfl ?_
  refine J_iconst (zI 0) dX0_undo_1 rfl ?_
  refine J_aload_n dX0_undo_2 rfl ?_
  refine CG_deedMany dX0_undo_3 ?_
  refine J_top (zI (dm)) hL.1 ?_
  refine PX0_isIn (by unfold zR; omega) (by unfold zR; omega) (by unfold zR; omega) (by decide) (by decide) (Nat.le_of_ble_eq_true rfl) dX0_undo_6 (fun b6 => ?_) (fun b6 => ?_)
  · skip
    refine J_if_ne_y (tgt := 14) dX0_undo_9 (by decide) (by decide) ?_
    refine J_aload_n dX0_undo_14 rfl ?_
    refine CG_deedMany dX0_undo_15 ?_
    refine J_top (zI (dm)) hL.1 ?_
    refine J_iload_n dX0_undo_18 rfl ?_
    refine J_isub_z dX0_undo_19 ?_
    refine J_istore_n dX0_undo_20 rfl (by decide) _ rfl ?_
    refine J_iload_n dX0_undo_21 rfl ?_
    refine J_if_le_z (tgt := 42) dX0_undo_22 (by decide) (by unfold zR; omega) (fun c22 => ?_) (fun c22 => ?_)
    · exfalso; omega
    · skip
      refine J_aload_n dX0_undo_25 rfl ?_
      refine J_aload_n dX0_undo_26 rfl ?_
      refine CG_ahead dX0_undo_27 ?_
      refine J_bipush (zI 33) dX0_undo_30 rfl ?_
      refine J_iload_n dX0_undo_32 rfl ?_
      refine J_imul_z dX0_undo_33 ?_
      refine J_top (zI ((33 * m : Nat) : Int)) (congrArg zI (by omega)) ?_
      refine CC_X0_readBack (by decide) (by decide) (Nat.le_of_ble_eq_true rfl) dX0_undo_34 ?_
      refine c_readBack31 (o := 33 * m) (p := H m) hS hO (by omega) hd0 (hL.2 m hm) hp (fun σ1 c1 e1 s1 p1 r1 => ?_)
      refine J_rv ?_
      refine J_aload_n dX0_undo_37 rfl ?_
      refine J_iload_n dX0_undo_38 rfl ?_
      refine CP_deedMany dX0_undo_39 ?_
      refine J_iload_n dX0_undo_42 rfl ?_
      exact J_iret rfl dX0_undo_43 (by exact hq _ c1 ((e1.mono (by decide) (by decide)).sI (by decide)) s1 p1 r1 ⟨rfl, fun d hd2 => by show cRow many (σ1.a 31) _ _; rw [e1.2.1 31 (by decide)]; exact hL.2 d (by omega)⟩)
  · exfalso; omega
