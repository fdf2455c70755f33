set_option maxRecDepth 100000
/-! the component: setting -/
/-- the rule that stands -/
def cRl (rule : Int) (σ : cS) : Prop := σ.ru.2 < 4 ∧ rule = ((σ.ru.2 : Nat) : Int)
theorem cRl.up {rule : Int} {σ σ' : cS} (h : cRl rule σ) (e : σ'.ru = σ.ru) : cRl rule σ' := by unfold cRl at *; rw [e]; exact h
/-- the best so far -/
def cBe (b : rct) (σ : cS) : Prop := ∃ B1 B2 B3 : Int, σ.i 26 = zI B1 ∧ σ.i 27 = zI B2 ∧ σ.i 28 = zI b.1 ∧ σ.i 29 = zI B3 ∧ ((b.1 = -9 ∧ B1 = 1048576 ∧ B2 = 1048576) ∨ (b.1 ≠ -9 ∧ B1 = b.2.2.1 ∧ B2 = b.2.2.2 ∧ B3 = b.2.1))
theorem need_sym {bl : Int} {G : Nat → Nat → Int} {f : Nat} {t : Int} (ht : t = 0 ∨ t = 1) : mNX bl G f 0 * mNY bl G f 0 = mNX bl G f t * mNY bl G f t := by
  rcases ht with rfl | rfl
  · rfl
  · unfold mNX mNY
    rw [if_pos rfl, if_pos rfl, if_neg (by omega), if_neg (by omega), Int.mul_comm]
theorem rF_f {bl : Int} {G : Nat → Nat → Int} {f ru : Nat} {t rule : Int} {r : rct} (ht : t = 0 ∨ t = 1) (hru : ru < 4) (hr : rule = (ru : Int)) : rF ru (r.2.2.1 - mNX bl G f t) (r.2.2.2 - mNY bl G f t) (r.2.2.1 * r.2.2.2 - mNX bl G f 0 * mNY bl G f 0) (r.2.1 + mNY bl G f t) = mFirst bl G rule f t r := by
  subst hr
  rw [need_sym ht]
  unfold rF mFirst
  obtain rfl | rfl | rfl | rfl : ru = 0 ∨ ru = 1 ∨ ru = 2 ∨ ru = 3 := by omega
  · rfl
  · rfl
  · rfl
  · simp only [if_neg (show ¬ 3 = 0 by omega), if_neg (show ¬ 3 = 1 by omega), if_neg (show ¬ 3 = 2 by omega), if_neg (show ¬ ((3 : Nat) : Int) = 0 by omega), if_neg (show ¬ ((3 : Nat) : Int) = 1 by omega), if_neg (show ¬ ((3 : Nat) : Int) = 2 by omega)]
    split <;> split <;> omega
theorem rS_s {bl : Int} {G : Nat → Nat → Int} {f ru : Nat} {t rule : Int} {r : rct} (hru : ru < 4) (hr : rule = (ru : Int)) : rS ru (r.2.2.1 - mNX bl G f t) (r.2.2.2 - mNY bl G f t) r.1 = mSecond bl G rule f t r := by
  subst hr
  unfold rS mSecond
  obtain rfl | rfl | rfl | rfl : ru = 0 ∨ ru = 1 ∨ ru = 2 ∨ ru = 3 := by omega
  · simp only [if_true, if_pos (show ((0 : Nat) : Int) = 0 by omega)]
    split <;> split <;> omega
  · rfl
  · rfl
  · rfl
theorem cPl_put {many : Nat} {P c c1 : Nat → Nat → Int} {f : Nat} {p x y t : Int} (hP : cPl many P c) (h1 : ∀ g, g ≠ f → c1 g = c g) (hp : 0 ≤ p) (ht : t = 0 ∨ t = 1) (hc : c1 f 0 = p ∧ c1 f 1 = x ∧ c1 f 2 = y ∧ c1 f 3 = t) : cPl many (setP P f p x y t) c1 := by
  intro g hg
  by_cases z : g = f
  · subst z
    obtain ⟨e0, e1, e2, e3⟩ := setP_0 (P := P) (f := g) (a := p) (b := x) (c := y) (d := t)
    rw [e0, e1, e2, e3, hc.1, hc.2.1, hc.2.2.1, hc.2.2.2]
    exact ⟨ht, Or.inr ⟨hp, rfl, rfl, rfl, rfl⟩⟩
  · rw [h1 g z, setP_n z, setP_n z, setP_n z, setP_n z]
    exact hP g hg
theorem cPl_lift {many : Nat} {P c c1 : Nat → Nat → Int} {f : Nat} (hP : cPl many P c) (h1 : ∀ g, g ≠ f → c1 g = c g) (hc : c1 f 0 = -9 ∧ c1 f 3 = c f 3) : cPl many (setP P f (-1) 0 0 0) c1 := by
  intro g hg
  by_cases z : g = f
  · subst z
    rw [setP_0.1, hc.1, hc.2]
    exact ⟨(hP g hg).1, Or.inl ⟨rfl, rfl⟩⟩
  · rw [h1 g z, setP_n z, setP_n z, setP_n z, setP_n z]
    exact hP g hg
theorem upI_s {c : Nat → Int} {k : Nat} {z : Int} : upI c k z k = z := if_pos rfl
theorem upI_n {c : Nat → Int} {k j : Nat} {z : Int} (h : j ≠ k) : upI c k z j = c j := if_neg h
theorem cSh.fr {many : Nat} {wide high bl : Int} {G : Nat → Nat → Int} {ad : Nat → Nat} {c : Nat → Nat → Int} {σ : cS} (h : cSh many wide high bl G ad c σ) : ∀ f, f < many → σ.fr f = some (ad f, G f, c f) := h.2.2.2.2

theorem cl_pageMany4 {E : jEnv} {α : Nat → Nat} {σ : cS} {Q : Option Value → cS → Prop} {many : Nat} {wide high bl : Int} {G : Nat → Nat → Int} {ad : Nat → Nat} {c : Nat → Nat → Int} {P : Nat → Nat → Int} {rule : Int}  (hS : cSh many wide high bl G ad c σ) (hO : shOK many wide high bl G) (hP : cPl many P c) (hN : plOK many P rule) (hq : Q (some (.int (zI (pgM P many)))) σ)  : ∀ (n : Nat) (f : Nat), f ≤ many → many - f < n → jX0_pageMany E α 4 [some (.ref (α 0)), some (.int (zI (pgM P f))), some (.int (zI (f : Nat)))] [] σ Q := by
  intro n
  induction n with
  | zero => intro f h1 hn; exact absurd hn (Nat.not_lt_zero _)
  | succ n ih =>
    intro f h1 hn
    have hO8 := hO.s
    have hpb := pgM_b hN f h1
    refine J_iload_n dX0_pageMany_4 rfl ?_
    refine J_aload_n dX0_pageMany_5 rfl ?_
    refine CG_many dX0_pageMany_6 ?_
    refine J_top (zI (many)) hS.1 ?_
    refine J_icmp_ge_z (tgt := 46) dX0_pageMany_9 (by decide) (by unfold zR; omega) (by unfold zR; omega) (fun c9 => ?_) (fun c9 => ?_)
    · skip
      obtain rfl : f = many := by omega
      refine J_iload_n dX0_pageMany_46 rfl ?_
      exact J_iret rfl dX0_pageMany_47 (by exact hq)
    · skip
      have hf : f < many := by omega
      have hpf := hP f hf
      have hnf := hN.1 f hf
      refine J_iload_n dX0_pageMany_12 rfl ?_
      refine J_aload_n dX0_pageMany_13 rfl ?_
      refine J_iload_n dX0_pageMany_14 rfl ?_
      refine CC_X0_isSet (by decide) (by decide) (Nat.le_of_ble_eq_true rfl) dX0_pageMany_15 ?_
      refine c_isSet hS hO hP hN hf (fun b15 => ?_) (fun b15 => ?_)
      · refine J_ri ?_
        refine J_if_eq_n (tgt := 35) dX0_pageMany_18 (by decide) (by decide) ?_
        refine J_aload_n dX0_pageMany_21 rfl ?_
        refine CG_frames dX0_pageMany_22 ?_
        refine J_iload_n dX0_pageMany_25 rfl ?_
        refine CA_fr (hS.2.2.2.2 _ hf) (by omega) (by have := hO.1; omega) dX0_pageMany_26 ?_
        refine FNX0_page G f (hS.w hf hO.1) (hO.k hf) dX0_pageMany_27 ?_
        refine J_iconst (zI 1) dX0_pageMany_30 rfl ?_
        refine J_iadd_z dX0_pageMany_31 ?_
        refine J_goto (tgt := 36) dX0_pageMany_32 (by decide) ?_
        refine PX0_max (by unfold zR; omega) (by unfold zR; omega) (by decide) (by exact ⟨Nat.le_refl _, Nat.le_refl _⟩) (Nat.le_of_ble_eq_true rfl) dX0_pageMany_36 ?_
        refine J_top (zI (pgM P (f + 1))) (congrArg zI (by show _ = (if pgM P f ≤ P f 0 then P f 0 + 1 else pgM P f); split <;> split <;> omega)) ?_
        refine J_istore_n dX0_pageMany_39 rfl (by decide) _ rfl ?_
        refine J_iinc_z ((((f + 1)) : Nat) : Int) (by omega) dX0_pageMany_40 rfl rfl (by decide) _ rfl ?_
        refine J_goto (tgt := 4) dX0_pageMany_43 (by decide) ?_
        exact ih (f + 1) (by omega) (by omega)
      · refine J_ri ?_
        refine J_if_eq_y (tgt := 35) dX0_pageMany_18 (by decide) (by decide) ?_
        refine J_iconst (zI 0) dX0_pageMany_35 rfl ?_
        refine PX0_max (by unfold zR; omega) (by unfold zR; omega) (by decide) (by exact ⟨Nat.le_refl _, Nat.le_refl _⟩) (Nat.le_of_ble_eq_true rfl) dX0_pageMany_36 ?_
        refine J_top (zI (pgM P (f + 1))) (congrArg zI (by show _ = (if pgM P f ≤ P f 0 then P f 0 + 1 else pgM P f); split <;> split <;> omega)) ?_
        refine J_istore_n dX0_pageMany_39 rfl (by decide) _ rfl ?_
        refine J_iinc_z ((((f + 1)) : Nat) : Int) (by omega) dX0_pageMany_40 rfl rfl (by decide) _ rfl ?_
        refine J_goto (tgt := 4) dX0_pageMany_43 (by decide) ?_
        exact ih (f + 1) (by omega) (by omega)
theorem c_pageMany {E : jEnv} {α : Nat → Nat} {σ : cS} {Q : Option Value → cS → Prop} {many : Nat} {wide high bl : Int} {G : Nat → Nat → Int} {ad : Nat → Nat} {c : Nat → Nat → Int} {P : Nat → Nat → Int} {rule : Int}  (hS : cSh many wide high bl G ad c σ) (hO : shOK many wide high bl G) (hP : cPl many P c) (hN : plOK many P rule) (hq : Q (some (.int (zI (pgM P many)))) σ)  : jX0_pageMany E α 0 [some (.ref (α 0)), none, none] [] σ Q := by
  refine J_iconst (zI 0) dX0_pageMany_0 rfl ?_
  refine J_istore_n dX0_pageMany_1 rfl (by decide) _ rfl ?_
  refine J_iconst (zI 0) dX0_pageMany_2 rfl ?_
  refine J_istore_n dX0_pageMany_3 rfl (by decide) _ rfl ?_
  refine J_fg (L' := [some (.ref (α 0)), some (.int (zI (pgM P 0))), some (.int (zI ((0 : Nat))))]) (by repeat' constructor) ?_
  exact cl_pageMany4 hS hO hP hN hq _ 0 (by omega) (Nat.lt_succ_self _)
theorem c_hasRoom {E : jEnv} {α : Nat → Nat} {σ : cS} {Q : Option Value → cS → Prop} {many : Nat} {wide high bl : Int} {G : Nat → Nat → Int} {ad : Nat → Nat} {c : Nat → Nat → Int} {f k : Nat} {t : Int} {l : List rct} {r : rct}  (hS : cSh many wide high bl G ad c σ) (hO : shOK many wide high bl G) (hf : f < many) (ht : t = 0 ∨ t = 1) (hl : cFl l σ) (hk : k < l.length) (hr : rGet l k = r) (hrB : rB r) (h1 : mNX bl G f t ≤ r.2.2.1 ∧ mNY bl G f t ≤ r.2.2.2 ∧ (t = 0 ∨ ¬ (G f 0 = 1 ∨ G f 0 = 3)) → Q (some (.int (zI 1))) σ) (h0 : ¬ (mNX bl G f t ≤ r.2.2.1 ∧ mNY bl G f t ≤ r.2.2.2 ∧ (t = 0 ∨ ¬ (G f 0 = 1 ∨ G f 0 = 3))) → Q (some (.int (zI 0))) σ) : jX0_hasRoom E α 0 [some (.ref (α 0)), some (.ref (ad f)), some (.int (zI (k : Nat))), some (.int (zI (t)))] [] σ Q := by
  have hxb := mNX_b hO hf t
  have hyb := mNY_b hO hf t
  obtain ⟨hF0, hl5, b, hb, hbl⟩ := hl
  unfold rB at hrB
  refine J_aload_n dX0_hasRoom_0 rfl ?_
  refine J_aload_n dX0_hasRoom_1 rfl ?_
  refine CG_bleed dX0_hasRoom_2 ?_
  refine J_top (zI (bl)) hS.2.2.2.1 ?_
  refine J_iload_n dX0_hasRoom_5 rfl ?_
  refine VX3_across G f (c := (c f))  (hS.w hf hO.1) (hO.k hf) ht q1247 (by decide) (by decide) (Nat.le_of_ble_eq_true rfl) dX0_hasRoom_6 ?_
  refine J_aload_n dX0_hasRoom_9 rfl ?_
  refine CG_freeW dX0_hasRoom_10 ?_
  refine J_iload_n dX0_hasRoom_13 rfl ?_
  refine CJ_iald 23 (k) ⟨rfl, by decide, by decide, by decide⟩ (by omega) (show k < 512 by omega) dX0_hasRoom_14 ?_
  refine J_top (zI (r.2.2.1)) (((hb k (by omega)).2.2.1.trans (congrArg zI (by rw [hbl k hk]; exact congrArg (fun z : rct => z.2.2.1) hr)))) ?_
  refine J_icmp_gt_z (tgt := 51) dX0_hasRoom_15 (by decide) (by unfold zR; omega) (by unfold zR; omega) (fun c15 => ?_) (fun c15 => ?_)
  · skip
    refine J_iconst (zI 0) dX0_hasRoom_51 rfl ?_
    exact J_zret rfl dX0_hasRoom_52 rfl (by first | exact h1 (by omega) | exact h0 (by omega))
  · skip
    refine J_aload_n dX0_hasRoom_18 rfl ?_
    refine J_aload_n dX0_hasRoom_19 rfl ?_
    refine CG_bleed dX0_hasRoom_20 ?_
    refine J_top (zI (bl)) hS.2.2.2.1 ?_
    refine J_iload_n dX0_hasRoom_23 rfl ?_
    refine VX3_down G f (c := (c f))  (hS.w hf hO.1) (hO.k hf) ht q1248 (by decide) (by decide) (Nat.le_of_ble_eq_true rfl) dX0_hasRoom_24 ?_
    refine J_aload_n dX0_hasRoom_27 rfl ?_
    refine CG_freeH dX0_hasRoom_28 ?_
    refine J_iload_n dX0_hasRoom_31 rfl ?_
    refine CJ_iald 24 (k) ⟨rfl, by decide, by decide, by decide⟩ (by omega) (show k < 512 by omega) dX0_hasRoom_32 ?_
    refine J_top (zI (r.2.2.2)) (((hb k (by omega)).2.2.2.trans (congrArg zI (by rw [hbl k hk]; exact congrArg (fun z : rct => z.2.2.2) hr)))) ?_
    refine J_icmp_gt_z (tgt := 51) dX0_hasRoom_33 (by decide) (by unfold zR; omega) (by unfold zR; omega) (fun c33 => ?_) (fun c33 => ?_)
    · skip
      refine J_iconst (zI 0) dX0_hasRoom_51 rfl ?_
      exact J_zret rfl dX0_hasRoom_52 rfl (by first | exact h1 (by omega) | exact h0 (by omega))
    · skip
      refine J_iload_n dX0_hasRoom_36 rfl ?_
      refine J_if_eq_z (tgt := 47) dX0_hasRoom_37 (by decide) (by unfold zR; omega) (fun c37 => ?_) (fun c37 => ?_)
      · skip
        refine J_iconst (zI 1) dX0_hasRoom_47 rfl ?_
        refine J_goto (tgt := 52) dX0_hasRoom_48 (by decide) ?_
        exact J_zret rfl dX0_hasRoom_52 rfl (by first | exact h1 (by omega) | exact h0 (by omega))
      · skip
        refine J_aload_n dX0_hasRoom_40 rfl ?_
        refine VX3_mayTurn G f (c := (c f))  (hS.w hf hO.1) (hO.k hf)  q1277 (by decide) (by decide) (Nat.le_of_ble_eq_true rfl) dX0_hasRoom_41 (fun b41 => ?_) (fun b41 => ?_)
        · skip
          refine J_if_eq_n (tgt := 51) dX0_hasRoom_44 (by decide) (by decide) ?_
          refine J_iconst (zI 1) dX0_hasRoom_47 rfl ?_
          refine J_goto (tgt := 52) dX0_hasRoom_48 (by decide) ?_
          exact J_zret rfl dX0_hasRoom_52 rfl (by first | exact h1 (by omega) | exact h0 (by omega))
        · skip
          refine J_if_eq_y (tgt := 51) dX0_hasRoom_44 (by decide) (by decide) ?_
          refine J_iconst (zI 0) dX0_hasRoom_51 rfl ?_
          exact J_zret rfl dX0_hasRoom_52 rfl (by first | exact h1 (by omega) | exact h0 (by omega))
theorem c_triesF {E : jEnv} {α : Nat → Nat} {σ : cS} {Q : Option Value → cS → Prop} {many : Nat} {wide high bl : Int} {G : Nat → Nat → Int} {ad : Nat → Nat} {c : Nat → Nat → Int} {f k : Nat} {t : Int} {l : List rct} {r : rct} {rule : Int} {bb : rct}  (hS : cSh many wide high bl G ad c σ) (hO : shOK many wide high bl G) (hf : f < many) (ht : t = 0 ∨ t = 1) (hl : cFl l σ) (hk : k < l.length) (hr : rGet l k = r) (hrB : rB r) (hR : cRl rule σ) (hB : cBe bb σ) (hbO : bOK (k + 1) bb) (hq : ∀ σ', cQ [26, 27, 28, 29] [] σ σ' → cBe (if t = 0 ∨ ¬ (G f 0 = 1 ∨ G f 0 = 3) then mTry bl G rule f r k t bb else bb) σ' → Q none σ')  : jX0_tries E α 0 [some (.ref (α 0)), some (.ref (ad f)), some (.int (zI (k : Nat))), some (.int (zI (t))), none, none, none, none, none] [] σ Q := by
  have hl0 := hl
  have hxb := mNX_b hO hf t
  have hyb := mNY_b hO hf t
  obtain ⟨hF0, hl5, b, hb, hbl⟩ := hl
  have hrB0 := hrB
  unfold rB at hrB
  obtain ⟨B1, B2, B3, hb1, hb2, hb3, hb4, hbB⟩ := hB
  have hB : cBe bb σ := ⟨B1, B2, B3, hb1, hb2, hb3, hb4, hbB⟩
  have hbO1 := hbO
  unfold bOK at hbO1
  refine J_aload_n dX0_tries_0 rfl ?_
  refine J_aload_n dX0_tries_1 rfl ?_
  refine J_iload_n dX0_tries_2 rfl ?_
  refine J_iload_n dX0_tries_3 rfl ?_
  refine CC_X0_hasRoom (by decide) (by decide) (Nat.le_of_ble_eq_true rfl) dX0_tries_4 ?_
  refine c_hasRoom hS hO hf ht hl0 hk hr hrB0  (fun b4 => ?_) (fun b4 => ?_)
  · refine J_ri ?_
    have hrO : rOK r := by unfold rOK; omega
    have hF1 := mFirst_b (rule := rule) hO hf hrO b4.1 b4.2.1
    have hF2 := mSecond_b (rule := rule) hO hf hrO b4.1 b4.2.1
    refine J_if_ne_y (tgt := 11) dX0_tries_7 (by decide) (by decide) ?_
    refine J_aload_n dX0_tries_11 rfl ?_
    refine CG_freeW dX0_tries_12 ?_
    refine J_iload_n dX0_tries_15 rfl ?_
    refine CJ_iald 23 (k) ⟨rfl, by decide, by decide, by decide⟩ (by omega) (show k < 512 by omega) dX0_tries_16 ?_
    refine J_top (zI (r.2.2.1)) (((hb k (by omega)).2.2.1.trans (congrArg zI (by rw [hbl k hk]; exact congrArg (fun z : rct => z.2.2.1) hr)))) ?_
    refine J_aload_n dX0_tries_17 rfl ?_
    refine J_aload_n dX0_tries_18 rfl ?_
    refine CG_bleed dX0_tries_19 ?_
    refine J_top (zI (bl)) hS.2.2.2.1 ?_
    refine J_iload_n dX0_tries_22 rfl ?_
    refine VX3_across G f (c := (c f))  (hS.w hf hO.1) (hO.k hf) ht q1247 (by decide) (by decide) (Nat.le_of_ble_eq_true rfl) dX0_tries_23 ?_
    refine J_isub_z dX0_tries_26 ?_
    refine J_istore dX0_tries_27 rfl (by decide) _ rfl ?_
    refine J_aload_n dX0_tries_29 rfl ?_
    refine CG_freeH dX0_tries_30 ?_
    refine J_iload_n dX0_tries_33 rfl ?_
    refine CJ_iald 24 (k) ⟨rfl, by decide, by decide, by decide⟩ (by omega) (show k < 512 by omega) dX0_tries_34 ?_
    refine J_top (zI (r.2.2.2)) (((hb k (by omega)).2.2.2.trans (congrArg zI (by rw [hbl k hk]; exact congrArg (fun z : rct => z.2.2.2) hr)))) ?_
    refine J_aload_n dX0_tries_35 rfl ?_
    refine J_aload_n dX0_tries_36 rfl ?_
    refine CG_bleed dX0_tries_37 ?_
    refine J_top (zI (bl)) hS.2.2.2.1 ?_
    refine J_iload_n dX0_tries_40 rfl ?_
    refine VX3_down G f (c := (c f))  (hS.w hf hO.1) (hO.k hf) ht q1248 (by decide) (by decide) (Nat.le_of_ble_eq_true rfl) dX0_tries_41 ?_
    refine J_isub_z dX0_tries_44 ?_
    refine J_istore dX0_tries_45 rfl (by decide) _ rfl ?_
    refine J_aload_n dX0_tries_47 rfl ?_
    refine CG_freeW dX0_tries_48 ?_
    refine J_iload_n dX0_tries_51 rfl ?_
    refine CJ_iald 23 (k) ⟨rfl, by decide, by decide, by decide⟩ (by omega) (show k < 512 by omega) dX0_tries_52 ?_
    refine J_top (zI (r.2.2.1)) (((hb k (by omega)).2.2.1.trans (congrArg zI (by rw [hbl k hk]; exact congrArg (fun z : rct => z.2.2.1) hr)))) ?_
    refine J_aload_n dX0_tries_53 rfl ?_
    refine CG_freeH dX0_tries_54 ?_
    refine J_iload_n dX0_tries_57 rfl ?_
    refine CJ_iald 24 (k) ⟨rfl, by decide, by decide, by decide⟩ (by omega) (show k < 512 by omega) dX0_tries_58 ?_
    refine J_top (zI (r.2.2.2)) (((hb k (by omega)).2.2.2.trans (congrArg zI (by rw [hbl k hk]; exact congrArg (fun z : rct => z.2.2.2) hr)))) ?_
    refine J_imul_z dX0_tries_59 ?_
    refine J_aload_n dX0_tries_60 rfl ?_
    refine J_aload_n dX0_tries_61 rfl ?_
    refine CG_bleed dX0_tries_62 ?_
    refine J_top (zI (bl)) hS.2.2.2.1 ?_
    refine VX3_needs G f (c := (c f))  (hS.w hf hO.1) (hO.k hf)  q1287 (by decide) (by decide) (Nat.le_of_ble_eq_true rfl) dX0_tries_65 ?_
    refine J_isub_z dX0_tries_68 ?_
    refine J_istore dX0_tries_69 rfl (by decide) _ rfl ?_
    refine J_aload_n dX0_tries_71 rfl ?_
    refine CG_rule dX0_tries_72 ?_
    refine J_iload dX0_tries_75 rfl ?_
    refine J_iload dX0_tries_77 rfl ?_
    refine J_iload dX0_tries_79 rfl ?_
    refine J_aload_n dX0_tries_81 rfl ?_
    refine CG_freeY dX0_tries_82 ?_
    refine J_iload_n dX0_tries_85 rfl ?_
    refine CJ_iald 22 (k) ⟨rfl, by decide, by decide, by decide⟩ (by omega) (show k < 512 by omega) dX0_tries_86 ?_
    refine J_top (zI (r.2.1)) (((hb k (by omega)).2.1.trans (congrArg zI (by rw [hbl k hk]; exact congrArg (fun z : rct => z.2.1) hr)))) ?_
    refine J_aload_n dX0_tries_87 rfl ?_
    refine J_aload_n dX0_tries_88 rfl ?_
    refine CG_bleed dX0_tries_89 ?_
    refine J_top (zI (bl)) hS.2.2.2.1 ?_
    refine J_iload_n dX0_tries_92 rfl ?_
    refine VX3_down G f (c := (c f))  (hS.w hf hO.1) (hO.k hf) ht q1248 (by decide) (by decide) (Nat.le_of_ble_eq_true rfl) dX0_tries_93 ?_
    refine J_iadd_z dX0_tries_96 ?_
    refine VR_first (ru := σ.ru.2) (show wC E α σ 150 = _ from rfl) hR.1 (by unfold zR; omega) (by unfold zR; omega) (by decide) (by decide) (Nat.le_of_ble_eq_true rfl) dX0_tries_97 ?_
    refine J_top (zI (mFirst bl G rule f t r)) (congrArg zI (rF_f ht hR.1 hR.2)) ?_
    refine J_istore dX0_tries_102 rfl (by decide) _ rfl ?_
    refine J_aload_n dX0_tries_104 rfl ?_
    refine CG_rule dX0_tries_105 ?_
    refine J_iload dX0_tries_108 rfl ?_
    refine J_iload dX0_tries_110 rfl ?_
    refine J_aload_n dX0_tries_112 rfl ?_
    refine CG_freeX dX0_tries_113 ?_
    refine J_iload_n dX0_tries_116 rfl ?_
    refine CJ_iald 21 (k) ⟨rfl, by decide, by decide, by decide⟩ (by omega) (show k < 512 by omega) dX0_tries_117 ?_
    refine J_top (zI (r.1)) (((hb k (by omega)).1.trans (congrArg zI (by rw [hbl k hk]; exact congrArg (fun z : rct => z.1) hr)))) ?_
    refine VR_second (ru := σ.ru.2) (show wC E α σ 150 = _ from rfl) hR.1 (by unfold zR; omega) (by unfold zR; omega) (by decide) (by decide) (Nat.le_of_ble_eq_true rfl) dX0_tries_118 ?_
    refine J_top (zI (mSecond bl G rule f t r)) (congrArg zI (rS_s hR.1 hR.2)) ?_
    refine J_istore dX0_tries_123 rfl (by decide) _ rfl ?_
    refine J_iload dX0_tries_125 rfl ?_
    refine J_aload_n dX0_tries_127 rfl ?_
    refine CG_bestFirst dX0_tries_128 ?_
    refine J_top (zI (B1)) hb1 ?_
    refine J_icmp_lt_z (tgt := 152) dX0_tries_131 (by decide) (by unfold zR; omega) (by unfold zR; omega) (fun c131 => ?_) (fun c131 => ?_)
    · skip
      refine J_aload_n dX0_tries_152 rfl ?_
      refine J_iload dX0_tries_153 rfl ?_
      refine CP_bestFirst dX0_tries_155 ?_
      refine J_aload_n dX0_tries_158 rfl ?_
      refine J_iload dX0_tries_159 rfl ?_
      refine CP_bestSecond dX0_tries_161 ?_
      refine J_aload_n dX0_tries_164 rfl ?_
      refine J_iload_n dX0_tries_165 rfl ?_
      refine CP_bestFree dX0_tries_166 ?_
      refine J_aload_n dX0_tries_169 rfl ?_
      refine J_iload_n dX0_tries_170 rfl ?_
      refine CP_bestTurned ht dX0_tries_171 ?_
      exact J_vret rfl dX0_tries_174 (by exact hq _ ((((cQ.refl.sI (by decide)).sI (by decide)).sI (by decide)).sI (by decide)) (by rw [if_pos b4.2.2]; unfold mTry; rw [if_pos (by omega)]; exact ⟨_, _, _, rfl, rfl, rfl, rfl, Or.inr ⟨by show ((k : Nat) : Int) ≠ -9; omega, rfl, rfl, rfl⟩⟩))
    · skip
      refine J_iload dX0_tries_134 rfl ?_
      refine J_aload_n dX0_tries_136 rfl ?_
      refine CG_bestFirst dX0_tries_137 ?_
      refine J_top (zI (B1)) hb1 ?_
      refine J_icmp_ne_z (tgt := 174) dX0_tries_140 (by decide) (by unfold zR; omega) (by unfold zR; omega) (fun c140 => ?_) (fun c140 => ?_)
      · skip
        exact J_vret rfl dX0_tries_174 (by exact hq _ cQ.refl (by rw [if_pos b4.2.2]; unfold mTry; rw [if_neg (by omega)]; exact hB))
      · skip
        refine J_iload dX0_tries_143 rfl ?_
        refine J_aload_n dX0_tries_145 rfl ?_
        refine CG_bestSecond dX0_tries_146 ?_
        refine J_top (zI (B2)) hb2 ?_
        refine J_icmp_ge_z (tgt := 174) dX0_tries_149 (by decide) (by unfold zR; omega) (by unfold zR; omega) (fun c149 => ?_) (fun c149 => ?_)
        · skip
          exact J_vret rfl dX0_tries_174 (by exact hq _ cQ.refl (by rw [if_pos b4.2.2]; unfold mTry; rw [if_neg (by omega)]; exact hB))
        · skip
          refine J_aload_n dX0_tries_152 rfl ?_
          refine J_iload dX0_tries_153 rfl ?_
          refine CP_bestFirst dX0_tries_155 ?_
          refine J_aload_n dX0_tries_158 rfl ?_
          refine J_iload dX0_tries_159 rfl ?_
          refine CP_bestSecond dX0_tries_161 ?_
          refine J_aload_n dX0_tries_164 rfl ?_
          refine J_iload_n dX0_tries_165 rfl ?_
          refine CP_bestFree dX0_tries_166 ?_
          refine J_aload_n dX0_tries_169 rfl ?_
          refine J_iload_n dX0_tries_170 rfl ?_
          refine CP_bestTurned ht dX0_tries_171 ?_
          exact J_vret rfl dX0_tries_174 (by exact hq _ ((((cQ.refl.sI (by decide)).sI (by decide)).sI (by decide)).sI (by decide)) (by rw [if_pos b4.2.2]; unfold mTry; rw [if_pos (by omega)]; exact ⟨_, _, _, rfl, rfl, rfl, rfl, Or.inr ⟨by show ((k : Nat) : Int) ≠ -9; omega, rfl, rfl, rfl⟩⟩))
  · refine J_ri ?_
    refine J_if_ne_n (tgt := 11) dX0_tries_7 (by decide) (by decide) ?_
    exact J_vret rfl dX0_tries_10 (by exact hq σ cQ.refl (by split; (unfold mTry; rw [if_neg (by omega)]; exact hB); exact hB))
theorem mBest_s {bl : Int} {G : Nat → Nat → Int} {rule : Int} {f : Nat} {l : List rct} {k : Nat} : (if (1 : Int) = 0 ∨ ¬ (G f 0 = 1 ∨ G f 0 = 3) then mTry bl G rule f (rGet l k) k 1 (if (0 : Int) = 0 ∨ ¬ (G f 0 = 1 ∨ G f 0 = 3) then mTry bl G rule f (rGet l k) k 0 (mBest bl G rule f l k) else mBest bl G rule f l k) else (if (0 : Int) = 0 ∨ ¬ (G f 0 = 1 ∨ G f 0 = 3) then mTry bl G rule f (rGet l k) k 0 (mBest bl G rule f l k) else mBest bl G rule f l k)) = mBest bl G rule f l (k + 1) := by
  rw [if_pos (Or.inl rfl)]
  show _ = (if G f 0 = 1 ∨ G f 0 = 3 then _ else _)
  by_cases z : G f 0 = 1 ∨ G f 0 = 3
  · rw [if_pos z, if_neg (by omega)]
  · rw [if_neg z, if_pos (Or.inr z)]
theorem cFl.up {l : List rct} {I : List Nat} {σ σ' : cS} (h : cFl l σ) (e : cQ I [] σ σ') (h20 : 20 ∉ I := by decide) : cFl l σ' := by
  obtain ⟨h1, h2, b, h3, h4⟩ := h
  exact ⟨(e.1.1 20 h20).trans h1, h2, b, h3.up e (by decide) (by decide) (by decide) (by decide), h4⟩
theorem cl_setsOn25 {E : jEnv} {α : Nat → Nat} {σ : cS} {Q : Option Value → cS → Prop} {many : Nat} {wide high bl : Int} {G : Nat → Nat → Int} {ad : Nat → Nat} {c : Nat → Nat → Int} {f : Nat} {page rule : Int} {l : List rct}  (hS : cSh many wide high bl G ad c σ) (hO : shOK many wide high bl G) (hf : f < many) (hl : cFl l σ) (hlO : ∀ r ∈ l, rB r) (hR : cRl rule σ) (hk : ∀ σ', cQ [20, 26, 27, 28, 29] [21, 22, 23, 24, 25] σ σ' → cFl l σ' → cBe (mBest bl G rule f l l.length) σ' → jX0_setsOn E α 53 [some (.ref (α 0)), some (.ref (ad f)), some (.int (zI (page))), none] [] σ' Q)  : ∀ (n : Nat) (k : Nat) (σ1 : cS), k ≤ l.length → cQ [20, 26, 27, 28, 29] [21, 22, 23, 24, 25] σ σ1 → cFl l σ1 → cBe (mBest bl G rule f l k) σ1 → l.length - k < n → jX0_setsOn E α 25 [some (.ref (α 0)), some (.ref (ad f)), some (.int (zI (page))), some (.int (zI (k : Nat)))] [] σ1 Q := by
  intro n
  induction n with
  | zero => intro k σ1 h1 h2 h3 h4 hn; exact absurd hn (Nat.not_lt_zero _)
  | succ n ih =>
    intro k σ1 h1 h2 h3 h4 hn
    have hS := hS.up h2 (by decide) (by decide) (by decide) (by decide)
    have hR := hR.up h2.2.2
    have hlen := hl.2.1
    have hlK : ∀ r ∈ l, rOK r := fun r hr => by have := hlO r hr; unfold rB at this; unfold rOK; omega
    refine J_iload_n dX0_setsOn_25 rfl ?_
    refine J_aload_n dX0_setsOn_26 rfl ?_
    refine CG_freeMany dX0_setsOn_27 ?_
    refine J_top (zI (l.length)) h3.1 ?_
    refine J_icmp_ge_z (tgt := 53) dX0_setsOn_30 (by decide) (by unfold zR; omega) (by unfold zR; omega) (fun c30 => ?_) (fun c30 => ?_)
    · skip
      obtain rfl : k = l.length := by omega
      refine J_fg (L' := [some (.ref (α 0)), some (.ref (ad f)), some (.int (zI (page))), none]) (by repeat' constructor) ?_
      exact hk σ1 h2 h3 h4
    · skip
      have hrB := hlO _ (getD_mem (l := l) (i := k) (by omega))
      have hbo := mBest_ok (rule := rule) hO hf hlK k (by omega)
      refine J_aload_n dX0_setsOn_33 rfl ?_
      refine J_aload_n dX0_setsOn_34 rfl ?_
      refine J_iload_n dX0_setsOn_35 rfl ?_
      refine J_iconst (zI 0) dX0_setsOn_36 rfl ?_
      refine CC_X0_tries (by decide) (by decide) (Nat.le_of_ble_eq_true rfl) dX0_setsOn_37 ?_
      refine c_triesF (r := rGet l k) (t := 0) (rule := rule) (bb := mBest bl G rule f l k) hS hO hf (Or.inl rfl) h3 (by omega) rfl hrB hR h4 (hbo.mono (by omega)) (fun σ2 e2 b2 => ?_)
      have hS := hS.up e2 (by decide) (by decide) (by decide) (by decide)
      have hR := hR.up e2.2.2
      have h3 : cFl l σ2 := h3.up e2
      refine J_rv ?_
      refine J_aload_n dX0_setsOn_40 rfl ?_
      refine J_aload_n dX0_setsOn_41 rfl ?_
      refine J_iload_n dX0_setsOn_42 rfl ?_
      refine J_iconst (zI 1) dX0_setsOn_43 rfl ?_
      refine CC_X0_tries (by decide) (by decide) (Nat.le_of_ble_eq_true rfl) dX0_setsOn_44 ?_
      refine c_triesF (r := rGet l k) (t := 1) (rule := rule) hS hO hf (Or.inr rfl) h3 (by omega) rfl hrB hR b2 (by split; exact mTry_ok hO hf (Or.inl rfl) (hlK _ (getD_mem (by omega))) (hbo.mono (by omega)); exact hbo.mono (by omega)) (fun σ3 e3 b3 => ?_)
      have h3 : cFl l σ3 := h3.up e3
      rw [mBest_s] at b3
      refine J_rv ?_
      refine J_iinc_z ((((k + 1)) : Nat) : Int) (by omega) dX0_setsOn_47 rfl rfl (by decide) _ rfl ?_
      refine J_goto (tgt := 25) dX0_setsOn_50 (by decide) ?_
      exact ih (k + 1) σ3 (by omega) ((h2.trans (e2.mono (by decide) (by decide))).trans (e3.mono (by decide) (by decide))) h3 b3 (by omega)
theorem c_setsOn {E : jEnv} {α : Nat → Nat} {σ : cS} {Q : Option Value → cS → Prop} {many : Nat} {wide high bl : Int} {G : Nat → Nat → Int} {ad : Nat → Nat} {c : Nat → Nat → Int} {P : Nat → Nat → Int} {rule : Int} {f : Nat} {page : Int}  (hS : cSh many wide high bl G ad c σ) (hO : shOK many wide high bl G) (hP : cPl many P c) (hN : plOK many P rule) (hV : plV many wide high bl G P) (hf : f < many) (hpg : 0 ≤ page ∧ page ≤ 100) (hR : cRl rule σ) (q0 : (mRoom many wide high bl G P rule f page).1 = -9 → ∀ σ', cQ [20, 26, 27, 28, 29] [21, 22, 23, 24, 25] σ σ' → Q (some (.int (zI 0))) σ') (q1 : (mRoom many wide high bl G P rule f page).1 ≠ -9 → ∀ σ' c1, cP [20, 26, 27, 28, 29] [21, 22, 23, 24, 25] σ σ' → σ'.ru = σ.ru → cSh many wide high bl G ad c1 σ' → (∀ g, g ≠ f → c1 g = c g) → c1 f 0 = page ∧ c1 f 1 = (mRect many wide high bl G P rule f page).1 ∧ c1 f 2 = (mRect many wide high bl G P rule f page).2.1 ∧ c1 f 3 = (mRoom many wide high bl G P rule f page).2.1 → Q (some (.int (zI 1))) σ')  : jX0_setsOn E α 0 [some (.ref (α 0)), some (.ref (ad f)), some (.int (zI (page))), none] [] σ Q := by
  have hO8 := hO.s
  have hLO := frL_ok (wide := wide) (high := high) (by omega) (by omega) (gO bl G P page many)
  refine J_aload_n dX0_setsOn_0 rfl ?_
  refine J_iload_n dX0_setsOn_1 rfl ?_
  refine CC_X0_setFree (by decide) (by decide) (Nat.le_of_ble_eq_true rfl) dX0_setsOn_2 ?_
  refine c_setFree hS hO hP hN hV (by omega) hpg (fun σ1 l1 e1 => ?_)
  have hS := hS.up e1 (by decide) (by decide) (by decide) (by decide)
  have hR := hR.up e1.2.2
  refine J_rv ?_
  refine J_aload_n dX0_setsOn_5 rfl ?_
  refine J_ldc (zI 1048576) q758 dX0_setsOn_6 ?_
  refine CP_bestFirst dX0_setsOn_8 ?_
  refine J_aload_n dX0_setsOn_11 rfl ?_
  refine J_ldc (zI 1048576) q758 dX0_setsOn_12 ?_
  refine CP_bestSecond dX0_setsOn_14 ?_
  refine J_aload_n dX0_setsOn_17 rfl ?_
  refine J_bipush (zI (-9)) dX0_setsOn_18 rfl ?_
  refine CP_bestFree dX0_setsOn_20 ?_
  refine J_iconst (zI 0) dX0_setsOn_23 rfl ?_
  refine J_istore_n dX0_setsOn_24 rfl (by decide) _ rfl ?_
  refine J_fg (L' := [some (.ref (α 0)), some (.ref (ad f)), some (.int (zI (page))), some (.int (zI ((0 : Nat))))]) (by repeat' constructor) ?_
  refine cl_setsOn25 (σ := cI (cI (cI σ1 26 (zI 1048576)) 27 (zI 1048576)) 28 (zI (-9))) (rule := rule) (l := (frL wide high (gO bl G P page many))) (show cSh many wide high bl G ad c _ from hS) hO hf (show cFl (frL wide high (gO bl G P page many)) _ from l1) (fun r hr => mx_B ((hLO.2.1 r).mp hr) (by omega) (by omega)) (show cRl rule _ from hR) (fun σ2 e2 l2 b2 => ?_) _ 0 _ (by omega) cQ.refl (show cFl (frL wide high (gO bl G P page many)) _ from l1) ⟨_, _, _, rfl, rfl, rfl, (Int32.ofInt_toInt _).symm, Or.inl ⟨rfl, rfl, rfl⟩⟩ (Nat.lt_succ_self _)
  obtain ⟨B1, B2, B3, hb1, hb2, hb3, hb4, hbB⟩ := b2
  have hS : cSh many wide high bl G ad c σ2 := (show cSh many wide high bl G ad c (cI (cI (cI σ1 26 (zI 1048576)) 27 (zI 1048576)) 28 (zI (-9))) from hS).up e2 (by decide) (by decide) (by decide) (by decide)
  have eT : cQ [20, 26, 27, 28, 29] [21, 22, 23, 24, 25] σ σ2 := ((((e1.mono (by decide) (by decide)).sI (by decide)).sI (by decide)).sI (by decide)).trans e2
  obtain ⟨hF0, hl5, b, hb, hbl⟩ := l2
  have hmB := mBest_ok (rule := rule) hO hf (hLO.ok (by omega) (by omega)) (frL wide high (gO bl G P page many)).length (Nat.le_refl _)
  have hb3 : σ2.i 28 = zI (mRoom many wide high bl G P rule f page).1 := hb3
  change ((mRoom many wide high bl G P rule f page).1 = -9 ∧ _) ∨ ((mRoom many wide high bl G P rule f page).1 ≠ -9 ∧ B1 = (mRoom many wide high bl G P rule f page).2.2.1 ∧ B2 = (mRoom many wide high bl G P rule f page).2.2.2 ∧ B3 = (mRoom many wide high bl G P rule f page).2.1) at hbB
  change bOK (frL wide high (gO bl G P page many)).length (mRoom many wide high bl G P rule f page) at hmB
  unfold bOK at hmB
  refine J_aload_n dX0_setsOn_53 rfl ?_
  refine CG_bestFree dX0_setsOn_54 ?_
  refine J_top (zI ((mRoom many wide high bl G P rule f page).1)) hb3 ?_
  refine J_bipush (zI (-9)) dX0_setsOn_57 rfl ?_
  refine J_icmp_ne_z (tgt := 64) dX0_setsOn_59 (by decide) (by unfold zR; omega) (by unfold zR; omega) (fun c59 => ?_) (fun c59 => ?_)
  · skip
    obtain ⟨r1, r2, r3, r4, r5, r6⟩ := mRoom_ok (rule := rule) hO hf hLO c59
    have hbr := hbl (mRoom many wide high bl G P rule f page).1.toNat (by omega)
    refine J_aload_n dX0_setsOn_64 rfl ?_
    refine J_iload_n dX0_setsOn_65 rfl ?_
    refine FP_page (σ' := cFr _ f (some (ad f, G f, upI (c f) 0 (page)))) G f  (hS.w hf hO.1) (hO.k hf) (wC_Fr (Nat.lt_of_lt_of_le hf hO.1) (hS.2.2.2.2 _ hf) _) dX0_setsOn_66 ?_
    have hS := hS.put f (upI (c f) 0 (page))
    obtain ⟨c1, hc1⟩ : ∃ c1, c1 = updC c f (upI (c f) 0 (page)) := ⟨_, rfl⟩
    rw [← hc1] at hS
    refine J_aload_n dX0_setsOn_69 rfl ?_
    refine J_aload_n dX0_setsOn_70 rfl ?_
    refine CG_freeX dX0_setsOn_71 ?_
    refine J_aload_n dX0_setsOn_74 rfl ?_
    refine CG_bestFree dX0_setsOn_75 ?_
    refine J_top (zI ((mRoom many wide high bl G P rule f page).1)) hb3 ?_
    refine CJ_iald 21 ((mRoom many wide high bl G P rule f page).1.toNat) ⟨rfl, by decide, by decide, by decide⟩ (by omega) (show (mRoom many wide high bl G P rule f page).1.toNat < 512 by omega) dX0_setsOn_78 ?_
    refine J_top (zI ((mRect many wide high bl G P rule f page).1)) (((hb (mRoom many wide high bl G P rule f page).1.toNat (by omega)).1.trans (congrArg zI (by rw [hbr]; rfl)))) ?_
    refine FP_x (σ' := cFr _ f (some (ad f, G f, upI (c1 f) 1 ((mRect many wide high bl G P rule f page).1)))) G f  (hS.w hf hO.1) (hO.k hf) (wC_Fr (Nat.lt_of_lt_of_le hf hO.1) (hS.2.2.2.2 _ hf) _) dX0_setsOn_79 ?_
    have hS := hS.put f (upI (c1 f) 1 ((mRect many wide high bl G P rule f page).1))
    obtain ⟨c2, hc2⟩ : ∃ c2, c2 = updC c1 f (upI (c1 f) 1 ((mRect many wide high bl G P rule f page).1)) := ⟨_, rfl⟩
    rw [← hc2] at hS
    refine J_aload_n dX0_setsOn_82 rfl ?_
    refine J_aload_n dX0_setsOn_83 rfl ?_
    refine CG_freeY dX0_setsOn_84 ?_
    refine J_aload_n dX0_setsOn_87 rfl ?_
    refine CG_bestFree dX0_setsOn_88 ?_
    refine J_top (zI ((mRoom many wide high bl G P rule f page).1)) hb3 ?_
    refine CJ_iald 22 ((mRoom many wide high bl G P rule f page).1.toNat) ⟨rfl, by decide, by decide, by decide⟩ (by omega) (show (mRoom many wide high bl G P rule f page).1.toNat < 512 by omega) dX0_setsOn_91 ?_
    refine J_top (zI ((mRect many wide high bl G P rule f page).2.1)) (((hb (mRoom many wide high bl G P rule f page).1.toNat (by omega)).2.1.trans (congrArg zI (by rw [hbr]; rfl)))) ?_
    refine FP_y (σ' := cFr _ f (some (ad f, G f, upI (c2 f) 2 ((mRect many wide high bl G P rule f page).2.1)))) G f  (hS.w hf hO.1) (hO.k hf) (wC_Fr (Nat.lt_of_lt_of_le hf hO.1) (hS.2.2.2.2 _ hf) _) dX0_setsOn_92 ?_
    have hS := hS.put f (upI (c2 f) 2 ((mRect many wide high bl G P rule f page).2.1))
    obtain ⟨c3, hc3⟩ : ∃ c3, c3 = updC c2 f (upI (c2 f) 2 ((mRect many wide high bl G P rule f page).2.1)) := ⟨_, rfl⟩
    rw [← hc3] at hS
    refine J_aload_n dX0_setsOn_95 rfl ?_
    refine J_aload_n dX0_setsOn_96 rfl ?_
    refine CG_bestTurned dX0_setsOn_97 ?_
    refine J_top (zI ((mRoom many wide high bl G P rule f page).2.1)) (hb4.trans (congrArg zI (show B3 = (mRoom many wide high bl G P rule f page).2.1 by omega))) ?_
    refine FP_turned (σ' := cFr _ f (some (ad f, G f, upI (c3 f) 3 ((mRoom many wide high bl G P rule f page).2.1)))) G f (by omega) (hS.w hf hO.1) (hO.k hf) (wC_Fr (Nat.lt_of_lt_of_le hf hO.1) (hS.2.2.2.2 _ hf) _) dX0_setsOn_100 ?_
    have hS := hS.put f (upI (c3 f) 3 ((mRoom many wide high bl G P rule f page).2.1))
    obtain ⟨c4, hc4⟩ : ∃ c4, c4 = updC c3 f (upI (c3 f) 3 ((mRoom many wide high bl G P rule f page).2.1)) := ⟨_, rfl⟩
    rw [← hc4] at hS
    refine J_iconst (zI 1) dX0_setsOn_103 rfl ?_
    exact J_zret rfl dX0_setsOn_104 rfl (by exact q1 c59 _ c4 (((((cP.sF (cP.sF (cP.sF (cP.sF eT.1))))))) ) eT.2.2 hS (fun g hg => by rw [hc4, updC_n hg, hc3, updC_n hg, hc2, updC_n hg, hc1, updC_n hg]) (by rw [hc4, updC_s, hc3, updC_s, hc2, updC_s, hc1, updC_s]; exact ⟨rfl, rfl, rfl, rfl⟩))
  · skip
    refine J_iconst (zI 0) dX0_setsOn_62 rfl ?_
    exact J_zret rfl dX0_setsOn_63 rfl (by exact q0 (by omega) σ2 eT)
theorem cl_sets7 {E : jEnv} {α : Nat → Nat} {σ : cS} {Q : Option Value → cS → Prop} {many : Nat} {wide high bl : Int} {G : Nat → Nat → Int} {ad : Nat → Nat} {c : Nat → Nat → Int} {P : Nat → Nat → Int} {rule : Int} {f : Nat}  (hS : cSh many wide high bl G ad c σ) (hO : shOK many wide high bl G) (hP : cPl many P c) (hN : plOK many P rule) (hV : plV many wide high bl G P) (hf : f < many) (hR : cRl rule σ) (q0 : mNoPage many wide high bl G P rule f → ∀ σ', cQ [20, 26, 27, 28, 29] [21, 22, 23, 24, 25] σ σ' → Q (some (.int (zI 0))) σ') (q1 : ∀ p σ' c1, mPage many wide high bl G P rule f p → cP [20, 26, 27, 28, 29] [21, 22, 23, 24, 25] σ σ' → σ'.ru = σ.ru → cSh many wide high bl G ad c1 σ' → cPl many (mPut many wide high bl G rule P f) c1 → (∀ g, g ≠ f → c1 g = c g) → c1 f 0 = p → Q (some (.int (zI 1))) σ')  : ∀ (n : Nat) (p : Nat) (σ1 : cS), p ≤ 8 → cQ [20, 26, 27, 28, 29] [21, 22, 23, 24, 25] σ σ1 → (∀ p' : Int, 0 ≤ p' → p' < p → (mRoom many wide high bl G P rule f p').1 = -9) → 8 - p < n → jX0_sets E α 7 [some (.ref (α 0)), some (.ref (ad f)), some (.int (zI (pgM P many))), some (.int (zI (p : Nat)))] [] σ1 Q := by
  intro n
  induction n with
  | zero => intro p σ1 h1 h2 h3 hn; exact absurd hn (Nat.not_lt_zero _)
  | succ n ih =>
    intro p σ1 h1 h2 h3 hn
    have hpb := pgM_b hN many (Nat.le_refl _)
    have hO8 := hO.s
    have hS := hS.up h2 (by decide) (by decide) (by decide) (by decide)
    have hR1 := hR.up h2.2.2
    refine J_iload_n dX0_sets_7 rfl ?_
    refine J_iload_n dX0_sets_8 rfl ?_
    refine J_icmp_gt_z (tgt := 35) dX0_sets_9 (by decide) (by unfold zR; omega) (by unfold zR; omega) (fun c9 => ?_) (fun c9 => ?_)
    · skip
      refine J_iconst (zI 0) dX0_sets_35 rfl ?_
      exact J_zret rfl dX0_sets_36 rfl (by exact q0 (fun p' a1 a2 a3 => h3 p' a1 (by omega)) σ1 h2)
    · skip
      refine J_iload_n dX0_sets_12 rfl ?_
      refine J_bipush (zI 8) dX0_sets_13 rfl ?_
      refine J_icmp_ge_z (tgt := 35) dX0_sets_15 (by decide) (by unfold zR; omega) (by unfold zR; omega) (fun c15 => ?_) (fun c15 => ?_)
      · skip
        refine J_iconst (zI 0) dX0_sets_35 rfl ?_
        exact J_zret rfl dX0_sets_36 rfl (by exact q0 (fun p' a1 a2 a3 => h3 p' a1 (by omega)) σ1 h2)
      · skip
        refine J_aload_n dX0_sets_18 rfl ?_
        refine J_aload_n dX0_sets_19 rfl ?_
        refine J_iload_n dX0_sets_20 rfl ?_
        refine CC_X0_setsOn (by decide) (by decide) (Nat.le_of_ble_eq_true rfl) dX0_sets_21 ?_
        refine c_setsOn hS hO hP hN hV hf (page := (p : Int)) (by omega) hR1  (fun z1 σ2 e2 => ?_) (fun z1 σ2 c1 e2 er s2 g1 g2 => ?_)
        · refine J_ri ?_
          refine J_if_eq_y (tgt := 29) dX0_sets_24 (by decide) (by decide) ?_
          refine J_iinc_z ((((p + 1)) : Nat) : Int) (by omega) dX0_sets_29 rfl rfl (by decide) _ rfl ?_
          refine J_goto (tgt := 7) dX0_sets_32 (by decide) ?_
          exact ih (p + 1) σ2 (by omega) (h2.trans e2) (fun p' a1 a2 => by by_cases z : p' = p; (subst z; exact z1); exact h3 p' a1 (by omega)) (by omega)
        · refine J_ri ?_
          refine J_if_eq_n (tgt := 29) dX0_sets_24 (by decide) (by decide) ?_
          refine J_iconst (zI 1) dX0_sets_27 rfl ?_
          exact J_zret rfl dX0_sets_28 rfl (by exact q1 p σ2 c1 ⟨by omega, by omega, by omega, z1, h3⟩ (h2.1.trans e2) (er.trans h2.2.2) s2 (by rw [mPut_p (p := (p : Int)) ⟨by omega, by omega, by omega, z1, h3⟩]; exact cPl_put hP g1 (by omega) (by have := (mRoom_ok (rule := rule) hO hf (frL_ok (by omega) (by omega) _) z1); omega) g2) g1 g2.1)
theorem c_sets {E : jEnv} {α : Nat → Nat} {σ : cS} {Q : Option Value → cS → Prop} {many : Nat} {wide high bl : Int} {G : Nat → Nat → Int} {ad : Nat → Nat} {c : Nat → Nat → Int} {P : Nat → Nat → Int} {rule : Int} {f : Nat}  (hS : cSh many wide high bl G ad c σ) (hO : shOK many wide high bl G) (hP : cPl many P c) (hN : plOK many P rule) (hV : plV many wide high bl G P) (hf : f < many) (hR : cRl rule σ) (q0 : mNoPage many wide high bl G P rule f → ∀ σ', cQ [20, 26, 27, 28, 29] [21, 22, 23, 24, 25] σ σ' → Q (some (.int (zI 0))) σ') (q1 : ∀ p σ' c1, mPage many wide high bl G P rule f p → cP [20, 26, 27, 28, 29] [21, 22, 23, 24, 25] σ σ' → σ'.ru = σ.ru → cSh many wide high bl G ad c1 σ' → cPl many (mPut many wide high bl G rule P f) c1 → (∀ g, g ≠ f → c1 g = c g) → c1 f 0 = p → Q (some (.int (zI 1))) σ')  : jX0_sets E α 0 [some (.ref (α 0)), some (.ref (ad f)), none, none] [] σ Q := by
  refine J_aload_n dX0_sets_0 rfl ?_
  refine CC_X0_pageMany (by decide) (by decide) (Nat.le_of_ble_eq_true rfl) dX0_sets_1 ?_
  refine c_pageMany hS hO hP hN  ?_
  refine J_ri ?_
  refine J_istore_n dX0_sets_4 rfl (by decide) _ rfl ?_
  refine J_iconst (zI 0) dX0_sets_5 rfl ?_
  refine J_istore_n dX0_sets_6 rfl (by decide) _ rfl ?_
  refine J_fg (L' := [some (.ref (α 0)), some (.ref (ad f)), some (.int (zI (pgM P many))), some (.int (zI ((0 : Nat))))]) (by repeat' constructor) ?_
  exact cl_sets7 hS hO hP hN hV hf hR q0 q1 _ 0 σ (by omega) cQ.refl (fun p' a1 a2 => by omega) (Nat.lt_succ_self _)
theorem c_lifts {E : jEnv} {α : Nat → Nat} {σ : cS} {Q : Option Value → cS → Prop} {many : Nat} {wide high bl : Int} {G : Nat → Nat → Int} {ad : Nat → Nat} {c : Nat → Nat → Int} {f : Nat}  (hS : cSh many wide high bl G ad c σ) (hO : shOK many wide high bl G) (hf : f < many) (hq : Q none (cFr σ f (some (ad f, G f, upI (c f) 0 (-9)))))  : jX0_lifts E α 0 [some (.ref (α 0)), some (.int (zI (f : Nat)))] [] σ Q := by
  refine J_aload_n dX0_lifts_0 rfl ?_
  refine CG_frames dX0_lifts_1 ?_
  refine J_iload_n dX0_lifts_4 rfl ?_
  refine CA_fr (hS.2.2.2.2 _ hf) (by omega) (by have := hO.1; omega) dX0_lifts_5 ?_
  refine J_bipush (zI (-9)) dX0_lifts_6 rfl ?_
  refine FP_page (σ' := cFr _ f (some (ad f, G f, upI (c f) 0 ((-9))))) G f  (hS.w hf hO.1) (hO.k hf) (wC_Fr (Nat.lt_of_lt_of_le hf hO.1) (hS.2.2.2.2 _ hf) _) dX0_lifts_8 ?_
  exact J_vret rfl dX0_lifts_11 (by exact hq)
