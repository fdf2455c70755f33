set_option maxRecDepth 100000
/-! the law's cases: deeds -/
section PZ
variable {many : Nat} {wide high bl : Int} {G P : Nat → Nat → Int} {rule : Int}
theorem plZ_0 : plZ many P0 := fun f _ _ => rfl
theorem plZ_lift (h : plZ many P) (f : Nat) : plZ many (setP P f (-1) 0 0 0) := by
  intro g hg h0
  by_cases z : g = f
  · subst z; exact setP_0.2.2.2
  · rw [setP_n z] at h0 ⊢; exact h g hg h0
theorem plZ_put (h : plZ many P) {f : Nat} {p x y t : Int} (hp : 0 ≤ p) : plZ many (setP P f p x y t) := by
  intro g hg h0
  by_cases z : g = f
  · subst z; rw [setP_0.1] at h0; omega
  · rw [setP_n z] at h0 ⊢; exact h g hg h0
theorem plZ_mPut (h : plZ many P) {f : Nat} : plZ many (mPut many wide high bl G rule P f) := by
  by_cases z : ∃ p, mPage many wide high bl G P rule f p
  · obtain ⟨p, hp⟩ := z
    rw [mPut_p hp]
    exact plZ_put h hp.1
  · have : mFind many wide high bl G rule P f = -9 := by
      unfold mFind
      rw [dif_neg z]
    unfold mPut
    rw [if_pos this]
    exact h
theorem plZ_mAll {o : Int} : ∀ n, plZ many (mAll many wide high bl G rule o n).1
  | 0 => plZ_0
  | n + 1 => plZ_mPut (plZ_mAll n)
theorem plZ_draw {v : Nat} {p : mPl} (h : plZ many p.1) : plZ many (mDraw many wide high bl G v p).1 := by
  unfold mDraw
  split
  · exact h
  · split
    · exact plZ_lift h _
    · split
      · exact h
      · exact plZ_mPut h
theorem plZ_lots {s : Nat} {p : mPl} (h : plZ many p.1) : ∀ n, plZ many (mLots many wide high bl G s p n).1
  | 0 => h
  | n + 1 => plZ_draw (plZ_lots h n)
theorem mNoPage_no {f : Nat} (h : mNoPage many wide high bl G P rule f) (p : Int) : ¬ mPage many wide high bl G P rule f p := fun q => q.2.2.2.1 (h p q.1 q.2.1 q.2.2.1)
theorem good_lots (hO : shOK many wide high bl G) (hm : 0 < many) {s : Nat} {p : mPl} (h : good many wide high bl G p) (n : Nat) : good many wide high bl G (mLots many wide high bl G s p n) := ⟨mLots_ok hO hm h.1 n, plZ_lots h.2.1 n, plD_lots hO hm h.2.2 n⟩
theorem good_upd {dm : Nat} {H : Nat → mPl} {p : mPl} (hH : ∀ d, d < dm → good many wide high bl G (H d)) (h : good many wide high bl G p) : ∀ d, d < dm + 1 → good many wide high bl G (updH H dm p d) := by
  intro d hd
  unfold updH
  by_cases z : d = dm
  · rw [if_pos z]; exact h
  · rw [if_neg z]; exact hH d (by omega)
theorem cLg.keep {dm : Nat} {H : Nat → mPl} {I A : List Nat} {σ σ' : cS} (h : cLg many dm H σ) (e : cP I A σ σ') (hI : 30 ∉ I) (hA : 31 ∉ A) : cLg many dm H σ' := by unfold cLg at *; rw [e.1 30 hI, e.2.1 31 hA]; exact h
theorem cRl.keep {σ σ' : cS} (h : cRl rule σ) (e : σ'.ru = σ.ru) : cRl rule σ' := by unfold cRl at *; rw [e]; exact h
end PZ
theorem s_lift {E : jEnv} {α β : Nat → Nat} {σ : cS} {τ : tS} (h : Inv σ τ) (a : Int32) : Ag (fun Q => jX0_lift E α 0 [some (.ref (α 0)), some (.int a)] [] σ Q) (fun Q => jX2_lift E β 0 [some (.ref (β 0)), some (.int a)] [] τ Q) := by
  intro K hKK
  obtain ⟨many, wide, high, bl, G, P, rule, dm, H, kc, KH, KN, rs, rd, ts, tb, ad, c, hI, hC, hT, hX⟩ := id h
  obtain ⟨hO, hg, hd40, hH, hKp, hDo⟩ := id hI
  obtain ⟨cS_, cP_, cR_, cL_, cK_, cD_, cd_⟩ := id hC
  obtain ⟨tS_, tP_, tL_, tK_, tD_⟩ := id hT
  have hN : plOK many P rule := hg.1.1
  have hV : plV many wide high bl G P := hg.1.2
  obtain ⟨a, ra, rfl⟩ := zI_of a
  by_cases b1 : 0 ≤ a ∧ a < many
  · obtain ⟨f, rfl⟩ : ∃ f : Nat, a = f := ⟨a.toNat, by omega⟩
    have hp := hN.1 f (by omega)
    by_cases b2 : P f 0 = -1
    · exact c_lift_st cS_ hO cP_ hN (by omega) b2 ⟨_, rfl, t_lift_st tS_ hO tP_ hN (by omega) b2 ⟨rfl, hKK _ _ _ h⟩⟩
    · refine c_lift cS_ hO cP_ hN hV cL_ hd40 cR_ (by omega) (by omega) (fun b3 => ⟨_, rfl, t_lift tS_ hO tP_ hN hV tL_ hd40 (by omega) (by omega) (fun _ => ⟨rfl, hKK _ _ _ h⟩) (fun b4 => absurd b4 (by omega))⟩) (fun b3 σ1 c1 e1 u1 S1 P1 L1 => ⟨_, rfl, t_lift tS_ hO tP_ hN hV tL_ hd40 (by omega) (by omega) (fun b4 => absurd b4 (by omega)) (fun _ τ1 e2 Q1 M1 R1 => ⟨rfl, hKK _ _ _ ?_⟩)⟩)
      exact ⟨many, wide, high, bl, G, _, rule, _, _, kc, KH, KN, rs, rd, ts, tb, ad, _, ⟨hO, ⟨R1, plZ_lift hg.2.1 f, plD_lift hg.2.2 f⟩, (by omega), good_upd hH hg, hKp, hDo⟩, (hC.p e1 S1 P1 (cR_.keep u1) L1), (hT.q e2 (by decide) (by decide) Q1 M1), hX.p e1 e2 (by decide) (by decide) (by decide) (by decide) (by decide) (by decide)⟩
  · exact c_lift_bad cS_ hO ra b1 ⟨_, rfl, t_lift_bad tS_ hO ra b1 ⟨rfl, hKK _ _ _ h⟩⟩
theorem s_set {E : jEnv} {α β : Nat → Nat} {σ : cS} {τ : tS} (h : Inv σ τ) (a : Int32) : Ag (fun Q => jX0_set E α 0 [some (.ref (α 0)), some (.int a), none] [] σ Q) (fun Q => jX2_set E β 0 [some (.ref (β 0)), some (.int a), none] [] τ Q) := by
  intro K hKK
  obtain ⟨many, wide, high, bl, G, P, rule, dm, H, kc, KH, KN, rs, rd, ts, tb, ad, c, hI, hC, hT, hX⟩ := id h
  obtain ⟨hO, hg, hd40, hH, hKp, hDo⟩ := id hI
  obtain ⟨cS_, cP_, cR_, cL_, cK_, cD_, cd_⟩ := id hC
  obtain ⟨tS_, tP_, tL_, tK_, tD_⟩ := id hT
  have hN : plOK many P rule := hg.1.1
  have hV : plV many wide high bl G P := hg.1.2
  obtain ⟨a, ra, rfl⟩ := zI_of a
  by_cases b1 : 0 ≤ a ∧ a < many
  · obtain ⟨f, rfl⟩ : ∃ f : Nat, a = f := ⟨a.toNat, by omega⟩
    have hp := hN.1 f (by omega)
    by_cases b2 : P f 0 = -1
    · refine c_setF cS_ hO cP_ hN hV cL_ hd40 cR_ (by omega) b2 (fun b3 σ1 e1 => ⟨_, rfl, t_setF tS_ hO tP_ hN hV tL_ hd40 (by omega) b2 (fun _ τ1 e2 => ⟨rfl, hKK _ _ _ ?_⟩) (fun p' b4 => absurd b4 (mNoPage_no b3 p')) (fun p' b4 => absurd b4 (mNoPage_no b3 p'))⟩) (fun p b3 b4 σ1 c1 e1 u1 S1 P1 => ⟨_, rfl, t_setF tS_ hO tP_ hN hV tL_ hd40 (by omega) b2 (fun b5 => absurd b3 (mNoPage_no b5 p)) (fun p' _ _ τ1 e2 => ⟨rfl, hKK _ _ _ ?_⟩) (fun p' _ b5 => absurd b5 (by omega))⟩) (fun p b3 b4 σ1 c1 e1 u1 S1 P1 L1 => ⟨_, rfl, t_setF tS_ hO tP_ hN hV tL_ hd40 (by omega) b2 (fun b5 => absurd b3 (mNoPage_no b5 p)) (fun p' _ b5 => absurd b5 (by omega)) (fun p' b5 _ τ1 e2 Q1 M1 R1 => ?_)⟩)
      · exact ⟨many, wide, high, bl, G, P, rule, dm, H, kc, KH, KN, rs, rd, ts, tb, ad, c, hI, (hC.q e1 (by decide) (by decide) (by decide) (by decide) (by decide) (by decide)), (hT.s e2 (by decide) (by decide) (by decide) (by decide)), hX.p e1.1 e2 (by decide) (by decide) (by decide) (by decide) (by decide) (by decide)⟩
      · exact ⟨many, wide, high, bl, G, P, rule, dm, H, kc, KH, KN, rs, rd, ts, tb, ad, _, hI, (hC.p e1 S1 P1 (cR_.keep u1) (cL_.keep e1 (by decide) (by decide))), (hT.s e2 (by decide) (by decide) (by decide) (by decide)), hX.p e1 e2 (by decide) (by decide) (by decide) (by decide) (by decide) (by decide)⟩
      · obtain rfl := mPage_u b3 b5
        exact ⟨rfl, hKK _ _ _ ⟨many, wide, high, bl, G, _, rule, _, _, kc, KH, KN, rs, rd, ts, tb, ad, _, ⟨hO, ⟨R1, plZ_mPut hg.2.1, plD_mPut hO hg.2.2 (by omega)⟩, (by omega), good_upd hH hg, hKp, hDo⟩, (hC.p e1 S1 P1 (cR_.keep u1) L1), (hT.q e2 (by decide) (by decide) Q1 M1), hX.p e1 e2 (by decide) (by decide) (by decide) (by decide) (by decide) (by decide)⟩⟩
    · exact c_set_st cS_ hO cP_ hN (by omega) (by omega) ⟨_, rfl, t_set_st tS_ hO tP_ hN (by omega) (by omega) ⟨rfl, hKK _ _ _ h⟩⟩
  · exact c_set_bad cS_ hO ra b1 ⟨_, rfl, t_set_bad tS_ hO ra b1 ⟨rfl, hKK _ _ _ h⟩⟩
theorem s_all {E : jEnv} {α β : Nat → Nat} {σ : cS} {τ : tS} (h : Inv σ τ) (a : Int32) : Ag (fun Q => jX0_all E α 0 [some (.ref (α 0)), some (.int a)] [] σ Q) (fun Q => jX2_all E β 0 [some (.ref (β 0)), some (.int a)] [] τ Q) := by
  intro K hKK
  obtain ⟨many, wide, high, bl, G, P, rule, dm, H, kc, KH, KN, rs, rd, ts, tb, ad, c, hI, hC, hT, hX⟩ := id h
  obtain ⟨hO, hg, hd40, hH, hKp, hDo⟩ := id hI
  obtain ⟨cS_, cP_, cR_, cL_, cK_, cD_, cd_⟩ := id hC
  obtain ⟨tS_, tP_, tL_, tK_, tD_⟩ := id hT
  have hN : plOK many P rule := hg.1.1
  have hV : plV many wide high bl G P := hg.1.2
  obtain ⟨a, ra, rfl⟩ := zI_of a
  by_cases b1 : ¬ (0 ≤ a ∧ a ≤ 2) ∨ many = 0
  · exact c_all_bad cS_ hO ra b1 ⟨_, rfl, t_all_bad tS_ hO ra b1 ⟨rfl, hKK _ _ _ h⟩⟩
  · refine c_all cS_ hO cP_ hN cL_ hd40 cR_ (by omega) (by omega) (fun b3 => ⟨_, rfl, t_all tS_ hO tP_ hN tL_ hd40 (by omega) (by omega) (fun _ => ⟨rfl, hKK _ _ _ h⟩) (fun b4 => absurd b4 (by omega))⟩) (fun b3 σ1 c1 e1 u1 S1 P1 L1 => ⟨_, rfl, t_all tS_ hO tP_ hN tL_ hd40 (by omega) (by omega) (fun b4 => absurd b4 (by omega)) (fun _ τ1 e2 Q1 M1 R1 => ⟨rfl, hKK _ _ _ ?_⟩)⟩)
    exact ⟨many, wide, high, bl, G, _, rule, _, _, kc, KH, KN, rs, rd, ts, tb, ad, _, ⟨hO, ⟨R1, plZ_mAll many, plD_mAll hO many (Nat.le_refl _)⟩, (by omega), good_upd hH hg, hKp, hDo⟩, (hC.p e1 S1 P1 (cR_.keep u1) L1), (hT.q e2 (by decide) (by decide) Q1 M1), hX.p e1 e2 (by decide) (by decide) (by decide) (by decide) (by decide) (by decide)⟩
theorem s_rule {E : jEnv} {α β : Nat → Nat} {σ : cS} {τ : tS} (h : Inv σ τ) (a : Int32) : Ag (fun Q => jX0_rule E α 0 [some (.ref (α 0)), some (.int a), none] [] σ Q) (fun Q => jX2_rule E β 0 [some (.ref (β 0)), some (.int a), none] [] τ Q) := by
  intro K hKK
  obtain ⟨many, wide, high, bl, G, P, rule, dm, H, kc, KH, KN, rs, rd, ts, tb, ad, c, hI, hC, hT, hX⟩ := id h
  obtain ⟨hO, hg, hd40, hH, hKp, hDo⟩ := id hI
  obtain ⟨cS_, cP_, cR_, cL_, cK_, cD_, cd_⟩ := id hC
  obtain ⟨tS_, tP_, tL_, tK_, tD_⟩ := id hT
  have hN : plOK many P rule := hg.1.1
  have hV : plV many wide high bl G P := hg.1.2
  obtain ⟨a, ra, rfl⟩ := zI_of a
  by_cases b1 : 0 ≤ a ∧ a ≤ 3
  · refine c_rule cS_ hO cP_ hN cL_ hd40 cR_ (cd_ 0) b1 (fun b2 => ⟨_, rfl, t_rule tS_ hO tP_ hN tL_ hd40 b1 (fun _ => ⟨rfl, hKK _ _ _ h⟩) (fun b3 => absurd b2 b3) (fun b3 => absurd b2 b3)⟩) (fun b2 b3 => ⟨_, rfl, t_rule tS_ hO tP_ hN tL_ hd40 b1 (fun b4 => absurd b4 b2) (fun _ _ => ⟨rfl, hKK _ _ _ h⟩) (fun _ b4 => absurd b4 (by omega))⟩) (fun b2 b3 σ1 e1 S1 R1 L1 => ⟨_, rfl, t_rule tS_ hO tP_ hN tL_ hd40 b1 (fun b4 => absurd b4 b2) (fun _ b4 => absurd b4 (by omega)) (fun _ _ τ1 e2 Q1 M1 => ⟨rfl, hKK _ _ _ ?_⟩)⟩)
    exact ⟨many, wide, high, bl, G, P, _, _, _, kc, KH, KN, rs, rd, ts, tb, ad, c, ⟨hO, ⟨⟨⟨hN.1, b1⟩, hV⟩, hg.2⟩, (by omega), good_upd hH hg, hKp, hDo⟩, (hC.p e1 S1 cP_ R1 L1), (hT.q e2 (by decide) (by decide) Q1 M1), hX.p e1 e2 (by decide) (by decide) (by decide) (by decide) (by decide) (by decide)⟩
  · exact c_rule_bad ra b1 ⟨_, rfl, t_rule_bad ra b1 ⟨rfl, hKK _ _ _ h⟩⟩
theorem s_undo {E : jEnv} {α β : Nat → Nat} {σ : cS} {τ : tS} (h : Inv σ τ) (a : Int32) : Ag (fun Q => jX0_undo E α 0 [some (.ref (α 0)), some (.int a), none] [] σ Q) (fun Q => jX2_undo E β 0 [some (.ref (β 0)), some (.int a), none, none] [] τ Q) := by
  intro K hKK
  obtain ⟨many, wide, high, bl, G, P, rule, dm, H, kc, KH, KN, rs, rd, ts, tb, ad, c, hI, hC, hT, hX⟩ := id h
  obtain ⟨hO, hg, hd40, hH, hKp, hDo⟩ := id hI
  obtain ⟨cS_, cP_, cR_, cL_, cK_, cD_, cd_⟩ := id hC
  obtain ⟨tS_, tP_, tL_, tK_, tD_⟩ := id hT
  have hN : plOK many P rule := hg.1.1
  have hV : plV many wide high bl G P := hg.1.2
  obtain ⟨a, ra, rfl⟩ := zI_of a
  by_cases b1 : 0 ≤ a ∧ a ≤ dm
  · obtain ⟨m, rfl⟩ : ∃ m : Nat, a = m := ⟨a.toNat, by omega⟩
    by_cases b2 : m < dm
    · refine c_undo cS_ hO cL_ hd40 (cd_ 0) b2 (hH m b2).1.1.2 (fun σ1 c1 e1 S1 P1 R1 L1 => ⟨_, rfl, t_undo tL_ hd40 b2 (fun τ1 e2 Q1 M1 => ⟨rfl, hKK _ _ _ ?_⟩)⟩)
      exact ⟨many, wide, high, bl, G, _, _, _, H, kc, KH, KN, rs, rd, ts, tb, ad, _, ⟨hO, hH m b2, (by omega), (fun d hd => hH d (by omega)), hKp, hDo⟩, (hC.p e1 S1 P1 R1 L1), (hT.q e2 (by decide) (by decide) Q1 M1), hX.p e1 e2 (by decide) (by decide) (by decide) (by decide) (by decide) (by decide)⟩
    · obtain rfl : m = dm := by omega
      refine c_undo_no cL_ hd40 ⟨_, rfl, t_undo_no tL_ hd40 (fun τ1 e2 v2 => ⟨rfl, hKK _ _ _ ?_⟩)⟩
      exact ⟨many, wide, high, bl, G, P, rule, _, H, kc, KH, KN, rs, rd, ts, tb, ad, c, hI, hC, (hT.q e2 (by decide) (by decide) (tP_.keep e2 (by decide)) ⟨v2, by rw [e2.2.1 37 (by decide)]; exact tL_.2⟩), hX.k rfl rfl (e2.1 1 (by decide)) (e2.2.1 2 (by decide)) rfl (e2.1 0 (by decide))⟩
  · exact c_undo_bad cL_ hd40 ra b1 ⟨_, rfl, t_undo_bad tL_ hd40 ra b1 ⟨rfl, hKK _ _ _ h⟩⟩
section IK
variable {many : Nat} {wide high bl : Int} {G P : Nat → Nat → Int} {rule : Int} {dm : Nat} {H : Nat → mPl} {kc kc' : Nat → Int} {KH KH' : Nat → Nat → mPl} {KN KN' : Nat → mPl} {rs : Nat → Int} {rd : Nat → Nat → Int32} {ts : Nat → Int} {tb : Nat → Nat → Int} {ad : Nat → Nat} {c : Nat → Nat → Int} {σ σ' : cS} {τ τ' : tS} {I A : List Nat}
theorem IC.k {k : Nat} (h : IC many wide high bl G P rule dm H kc KH KN rs rd ts tb ad c σ) (e : kQ k σ σ') (hK : cKc many kc' KH' KN' σ') : IC many wide high bl G P rule dm H kc' KH' KN' rs rd ts tb ad c σ' := by
  obtain ⟨a1, a2, a3, a4, a5, a6, a7⟩ := h
  obtain ⟨e1, e2, e3, e4, e5, e6, e7, e8, e9, e10, e11⟩ := e
  refine ⟨?_, a2, ?_, ?_, hK, ?_, ?_⟩
  · unfold cSh at *; rw [e1, e10]; exact a1
  · unfold cRl at *; rw [e11]; exact a3
  · unfold cLg at *; rw [e1, e2]; exact a4
  · unfold cDt at *; rw [e4, e5]; exact a6
  · rw [e9]; exact a7
theorem IT.k (h : IT many wide high bl G P rule dm H kc KH KN rs rd ts tb τ) (e : tEq [] [38, 39] τ τ') (hK : tKp kc' KH' KN' τ') : IT many wide high bl G P rule dm H kc' KH' KN' rs rd ts tb τ' := by
  obtain ⟨a1, a2, a3, a4, a5⟩ := h
  refine ⟨?_, a2.keep e (by decide), a3.keep e (by decide) (by decide), hK, ?_⟩
  · unfold tSh at *; rw [e.1 8 (by decide), e.1 9 (by decide), e.1 10 (by decide), e.1 11 (by decide), e.2.1 12 (by decide)]; exact a1
  · unfold tDt at *; rw [e.2.1 3 (by decide), e.2.1 4 (by decide), e.2.1 6 (by decide), e.2.1 7 (by decide)]; exact a5
end IK
theorem s_keep {E : jEnv} {α β : Nat → Nat} {σ : cS} {τ : tS} (h : Inv σ τ) (a : Int32) : Ag (fun Q => jX0_keep E α 0 [some (.ref (α 0)), some (.int a), none] [] σ Q) (fun Q => jX2_keep E β 0 [some (.ref (β 0)), some (.int a), none] [] τ Q) := by
  intro K hKK
  obtain ⟨many, wide, high, bl, G, P, rule, dm, H, kc, KH, KN, rs, rd, ts, tb, ad, c, hI, hC, hT, hX⟩ := id h
  obtain ⟨hO, hg, hd40, hH, hKp, hDo⟩ := id hI
  obtain ⟨cS_, cP_, cR_, cL_, cK_, cD_, cd_⟩ := id hC
  obtain ⟨tS_, tP_, tL_, tK_, tD_⟩ := id hT
  have hN : plOK many P rule := hg.1.1
  have hV : plV many wide high bl G P := hg.1.2
  obtain ⟨a, ra, rfl⟩ := zI_of a
  by_cases b1 : 0 ≤ a ∧ a ≤ 2
  · obtain ⟨k, rfl⟩ : ∃ k : Nat, a = k := ⟨a.toNat, by omega⟩
    by_cases b2 : many = 0
    · exact c_keep_no cS_ hO (by omega) b2 ⟨_, rfl, t_keep_no tS_ hO (by omega) b2 ⟨rfl, hKK _ _ _ h⟩⟩
    · refine c_keep cS_ hO cP_ hN cL_ hd40 cK_ cR_ (by omega) cd_ (by omega) (fun σ1 e1 K1 => ⟨_, rfl, t_keep tS_ hO tP_ tL_ hd40 tK_ (fun k hk => (hKp k hk).1) (by omega) (by omega) (fun τ1 e2 K2 => ⟨rfl, hKK _ _ _ ?_⟩)⟩)
      refine ⟨many, wide, high, bl, G, P, rule, dm, H, _, _, _, rs, rd, ts, tb, ad, c, ⟨hO, hg, hd40, hH, fun j hj => ?_, hDo⟩, (hC.k e1 K1), (hT.k e2 K2), hX.k (by rw [e1.1]) (by rw [e1.2.1]) (e2.1 1 (by decide)) (e2.2.1 2 (by decide)) (by rw [e1.1]) (e2.1 0 (by decide))⟩
      unfold upk
      by_cases z : j = k
      · rw [if_pos z, if_pos z, if_pos z]
        exact ⟨by omega, fun _ => ⟨hg, fun d hd => hH d (by omega)⟩⟩
      · rw [if_neg z, if_neg z, if_neg z]
        exact hKp j hj
  · exact c_keep_bad ra b1 ⟨_, rfl, t_keep_bad ra b1 ⟨rfl, hKK _ _ _ h⟩⟩
theorem s_on {E : jEnv} {α β : Nat → Nat} {σ : cS} {τ : tS} (h : Inv σ τ) (a : Int32) : Ag (fun Q => jX0_on E α 0 [some (.ref (α 0)), some (.int a), none] [] σ Q) (fun Q => jX2_on E β 0 [some (.ref (β 0)), some (.int a), none] [] τ Q) := by
  intro K hKK
  obtain ⟨many, wide, high, bl, G, P, rule, dm, H, kc, KH, KN, rs, rd, ts, tb, ad, c, hI, hC, hT, hX⟩ := id h
  obtain ⟨hO, hg, hd40, hH, hKp, hDo⟩ := id hI
  obtain ⟨cS_, cP_, cR_, cL_, cK_, cD_, cd_⟩ := id hC
  obtain ⟨tS_, tP_, tL_, tK_, tD_⟩ := id hT
  have hN : plOK many P rule := hg.1.1
  have hV : plV many wide high bl G P := hg.1.2
  obtain ⟨a, ra, rfl⟩ := zI_of a
  by_cases b1 : 0 ≤ a ∧ a ≤ 2
  · obtain ⟨k, rfl⟩ : ∃ k : Nat, a = k := ⟨a.toNat, by omega⟩
    have hk3 := hKp k (by omega)
    by_cases b2 : kc k = -1
    · exact c_on_no cK_ (by omega) b2 ⟨_, rfl, t_on_no tK_ (fun k hk => (hKp k hk).1) (by omega) b2 ⟨rfl, hKK _ _ _ (h.fnd 1 (by decide))⟩⟩
    · obtain ⟨n, hn⟩ : ∃ n : Nat, kc k = n := ⟨(kc k).toNat, by omega⟩
      have hgk := hk3.2 (by omega)
      refine c_on cS_ hO cK_ (cd_ 0) (by omega) hn hgk.1.1.1.2 (fun σ1 c1 e1 S1 P1 R1 L1 => ⟨_, rfl, t_on tK_ (fun k hk => (hKp k hk).1) (by omega) hn (fun τ1 e2 Q1 M1 => ⟨rfl, hKK _ _ _ ?_⟩)⟩)
      exact ⟨many, wide, high, bl, G, _, _, _, _, kc, KH, KN, rs, rd, ts, tb, ad, _, ⟨hO, hgk.1, (by omega), (fun d hd => hgk.2 d (by omega)), hKp, hDo⟩, (hC.p e1 S1 P1 R1 L1), (hT.q e2 (by decide) (by decide) Q1 M1), hX.p e1 e2 (by decide) (by decide) (by decide) (by decide) (by decide) (by decide)⟩
  · exact c_on_bad ra b1 ⟨_, rfl, t_on_bad ra b1 ⟨rfl, hKK _ _ _ h⟩⟩
theorem s_would {E : jEnv} {α β : Nat → Nat} {σ : cS} {τ : tS} (h : Inv σ τ) (a b : Int32) : Ag (fun Q => jX0_would E α 0 [some (.ref (α 0)), some (.int a), some (.int b)] [] σ Q) (fun Q => jX2_would E β 0 [some (.ref (β 0)), some (.int a), some (.int b)] [] τ Q) := by
  intro K hKK
  obtain ⟨many, wide, high, bl, G, P, rule, dm, H, kc, KH, KN, rs, rd, ts, tb, ad, c, hI, hC, hT, hX⟩ := id h
  obtain ⟨hO, hg, hd40, hH, hKp, hDo⟩ := id hI
  obtain ⟨cS_, cP_, cR_, cL_, cK_, cD_, cd_⟩ := id hC
  obtain ⟨tS_, tP_, tL_, tK_, tD_⟩ := id hT
  have hN : plOK many P rule := hg.1.1
  have hV : plV many wide high bl G P := hg.1.2
  obtain ⟨a, ra, rfl⟩ := zI_of a
  obtain ⟨b, rb, rfl⟩ := zI_of b
  by_cases b1 : ¬ (0 ≤ a ∧ a ≤ 3) ∨ ¬ (0 ≤ b ∧ b ≤ 2) ∨ many = 0
  · exact c_would_bad cS_ hO ra rb b1 ⟨_, rfl, t_would_bad tS_ hO ra rb b1 ⟨rfl, hKK _ _ _ h⟩⟩
  · refine c_would cS_ hO cP_ hN cR_ (cd_ 0) (by omega) (by omega) (by omega) (fun σ1 c1 e1 S1 P1 R1 v1 => ⟨_, rfl, t_would tS_ hO tP_ hN hV (by omega) (by omega) (by omega) (fun τ1 e2 Q1 v2 => ⟨rfl, hKK _ _ _ ?_⟩)⟩)
    exact ⟨many, wide, high, bl, G, P, rule, dm, H, kc, KH, KN, rs, rd, ts, tb, ad, _, hI, (hC.p e1 S1 P1 R1 (cL_.keep e1 (by decide) (by decide))), (hT.q e2 (by decide) (by decide) Q1 (tL_.keep e2 (by decide) (by decide))), hX.pa e1 e2 (by decide) (by decide) (by decide) (by decide) (v1.trans v2.symm)⟩
theorem s_best {E : jEnv} {α β : Nat → Nat} {σ : cS} {τ : tS} (h : Inv σ τ) : Ag (fun Q => jX0_best E α 0 [some (.ref (α 0)), none, none, none, none, none, none] [] σ Q) (fun Q => jX2_best E β 0 [some (.ref (β 0)), none, none, none, none, none, none, none] [] τ Q) := by
  intro K hKK
  obtain ⟨many, wide, high, bl, G, P, rule, dm, H, kc, KH, KN, rs, rd, ts, tb, ad, c, hI, hC, hT, hX⟩ := id h
  obtain ⟨hO, hg, hd40, hH, hKp, hDo⟩ := id hI
  obtain ⟨cS_, cP_, cR_, cL_, cK_, cD_, cd_⟩ := id hC
  obtain ⟨tS_, tP_, tL_, tK_, tD_⟩ := id hT
  have hN : plOK many P rule := hg.1.1
  have hV : plV many wide high bl G P := hg.1.2
  by_cases b1 : many = 0
  · exact c_best_no cS_ hO b1 ⟨_, rfl, t_best_no tS_ hO b1 ⟨rfl, hKK _ _ _ h⟩⟩
  · refine c_best cS_ hO cP_ hN cR_ (cd_ 0) (by omega) (fun σ1 c1 e1 S1 P1 R1 v1 => ⟨_, rfl, t_best tS_ hO tP_ hN hV (by omega) (fun τ1 e2 Q1 v2 => ⟨rfl, hKK _ _ _ ?_⟩)⟩)
    exact ⟨many, wide, high, bl, G, P, rule, dm, H, kc, KH, KN, rs, rd, ts, tb, ad, _, hI, (hC.p e1 S1 P1 R1 (cL_.keep e1 (by decide) (by decide))), (hT.q e2 (by decide) (by decide) Q1 (tL_.keep e2 (by decide) (by decide))), hX.pa e1 e2 (by decide) (by decide) (by decide) (by decide) (v1.trans v2.symm)⟩
theorem s_lots {E : jEnv} {α β : Nat → Nat} {σ : cS} {τ : tS} (h : Inv σ τ) (a b : Int32) : Ag (fun Q => jX0_lots E α 0 [some (.ref (α 0)), some (.int a), some (.int b), none, none, none] [] σ Q) (fun Q => jX2_lots E β 0 [some (.ref (β 0)), some (.int a), some (.int b), none, none, none, none, none, none] [] τ Q) := by
  intro K hKK
  obtain ⟨many, wide, high, bl, G, P, rule, dm, H, kc, KH, KN, rs, rd, ts, tb, ad, c, hI, hC, hT, hX⟩ := id h
  obtain ⟨hO, hg, hd40, hH, hKp, hDo⟩ := id hI
  obtain ⟨cS_, cP_, cR_, cL_, cK_, cD_, cd_⟩ := id hC
  obtain ⟨tS_, tP_, tL_, tK_, tD_⟩ := id hT
  have hN : plOK many P rule := hg.1.1
  have hV : plV many wide high bl G P := hg.1.2
  obtain ⟨a, ra, rfl⟩ := zI_of a
  obtain ⟨b, rb, rfl⟩ := zI_of b
  by_cases b1 : ¬ (1 ≤ a ∧ a ≤ 20) ∨ ¬ (1 ≤ b ∧ b ≤ 2147483646)
  · exact c_lots_bad ra rb b1 ⟨_, rfl, t_lots_bad (many := many) (wide := wide) (high := high) (bl := bl) (G := G) ra rb b1 ⟨rfl, hKK _ _ _ h⟩⟩
  · by_cases b2 : many = 0
    · exact c_lots_no cS_ hO (by omega) (by omega) b2 ⟨_, rfl, t_lots_no tS_ hO (by omega) (by omega) b2 ⟨rfl, hKK _ _ _ h⟩⟩
    · by_cases b3 : 40 < (dm : Int) + a
      · exact c_lots_full cS_ hO cL_ hd40 (by omega) (by omega) (by omega) b3 ⟨_, rfl, t_lots_full tS_ hO tL_ hd40 (by omega) (by omega) (by omega) b3 ⟨rfl, hKK _ _ _ h⟩⟩
      · obtain ⟨n, rfl⟩ : ∃ n : Nat, a = n := ⟨a.toNat, by omega⟩
        obtain ⟨s, rfl⟩ : ∃ s : Nat, b = s := ⟨b.toNat, by omega⟩
        refine c_lots cS_ hO cP_ hN hV cL_ hd40 cR_ (cd_ 0) (by omega) (by omega) (by omega) (by omega) (fun σ1 c1 e1 S1 P1 R1 L1 => ⟨_, rfl, t_lots tS_ hO tP_ hN hV tL_ hd40 (by omega) (by omega) (by omega) (by omega) (fun τ1 e2 Q1 M1 => ⟨rfl, hKK _ _ _ ?_⟩)⟩)
        refine ⟨many, wide, high, bl, G, _, _, _, _, kc, KH, KN, rs, rd, ts, tb, ad, _, ⟨hO, good_lots hO (by omega) hg n, (by omega), (fun d hd => ?_), hKp, hDo⟩, (hC.p e1 S1 P1 R1 L1), (hT.q e2 (by decide) (by decide) Q1 M1), hX.p e1 e2 (by decide) (by decide) (by decide) (by decide) (by decide) (by decide)⟩
        unfold mLotsH
        by_cases z : d < dm
        · rw [if_pos z]; exact hH d z
        · rw [if_neg z]; exact good_lots hO (by omega) hg _
theorem s_sheet {E : jEnv} {α β : Nat → Nat} {σ : cS} {τ : tS} (h : Inv σ τ) (a : Int32) : Ag (fun Q => jX0_sheet E α 0 [some (.ref (α 0)), some (.int a), none] [] σ Q) (fun Q => jX2_sheet E β 0 [some (.ref (β 0)), some (.int a), none] [] τ Q) := by
  intro K hKK
  obtain ⟨many, wide, high, bl, G, P, rule, dm, H, kc, KH, KN, rs, rd, ts, tb, ad, c, hI, hC, hT, hX⟩ := id h
  obtain ⟨hO, hg, hd40, hH, hKp, hDo⟩ := id hI
  obtain ⟨cS_, cP_, cR_, cL_, cK_, cD_, cd_⟩ := id hC
  obtain ⟨tS_, tP_, tL_, tK_, tD_⟩ := id hT
  have hN : plOK many P rule := hg.1.1
  have hV : plV many wide high bl G P := hg.1.2
  obtain ⟨a, ra, rfl⟩ := zI_of a
  by_cases b1 : 0 ≤ a ∧ a ≤ 3
  · obtain ⟨r, rfl⟩ : ∃ r : Nat, a = r := ⟨a.toNat, by omega⟩
    have hr := hDo.2.1 r (by omega)
    by_cases b2 : ts r = -1
    · exact c_sheet_no cD_ (by omega) b2 ⟨_, rfl, t_sheet_no tD_ hDo (by omega) b2 ⟨rfl, hKK _ _ _ (h.fnd 1 (by decide))⟩⟩
    · obtain ⟨n, hn⟩ : ∃ n : Nat, ts r = n := ⟨(ts r).toNat, by omega⟩
      refine c_sheet cD_ hDo (by omega) hn cd_ (fun p hm σ1 e1 => ⟨_, rfl, t_sheet tD_ hDo (by omega) hn (fun p' hm' τ1 e2 => ⟨rfl, hKK _ _ _ ?_⟩) (fun s hm' _ _ _ _ _ _ _ => ?_)⟩) (fun s hm hp σ1 ad1 e1 S1 R1 d1 K1 => ⟨_, rfl, t_sheet tD_ hDo (by omega) hn (fun p' hm' τ1 e2 => ?_) (fun s' hm' _ _ τ1 e2 S2 P2 d2 K2 => ?_)⟩)
      · exact ⟨many, wide, high, bl, G, P, rule, dm, H, kc, KH, KN, rs, rd, ts, tb, ad, c, hI, (hC.f e1), (hT.s e2 (by decide) (by decide) (by decide) (by decide)), hX.k (e1.1 0 (by decide)) (by rw [e1.2.1]) (e2.1 1 (by decide)) (e2.2.1 2 (by decide)) (e1.1 2 (by decide)) (e2.1 0 (by decide))⟩
      · cases hm.symm.trans hm'
      · cases hm.symm.trans hm'
      · obtain rfl := Except.ok.inj (hm.symm.trans hm')
        refine ⟨rfl, hKK _ _ _ ⟨s.2.2.2.2.1, s.2.1, s.2.2.1, (if s.2.2.2.1 < 0 then 0 else s.2.2.2.1), s.2.2.2.2.2, P0, 0, 0, H, fun _ => -1, KH, KN, rs, rd, ts, tb, ad1, fun _ => frC0, ?_, ?_, ?_, ?_⟩⟩
        · have hnz := mRead_nz hm
          obtain ⟨p1, p2, p3, p4, p5, p6⟩ := hp
          refine ⟨⟨p2, by omega, by omega, by omega, by omega, fun _ => by omega, by split <;> omega, by split <;> omega, p6⟩, ⟨P0_ok ⟨by decide, by decide⟩, plZ_0, plD_0⟩, by decide, fun d hd => absurd hd (Nat.not_lt_zero _), fun k hk => ⟨⟨(by decide : (-1 : Int) ≤ -1), (by decide : (-1 : Int) ≤ 40)⟩, fun z => absurd z (by decide : ¬ (0 : Int) ≤ -1)⟩, hDo⟩
        · refine ⟨S1, fun f hf => ⟨Or.inl rfl, Or.inl ⟨rfl, rfl⟩⟩, R1, ⟨d1, fun d hd => absurd hd (Nat.not_lt_zero _)⟩, fun k hk => Or.inl ⟨rfl, K1 k hk⟩, ?_, e1.2.2.2.2.2⟩
          unfold cDt at *
          rw [e1.2.2.2.1, e1.2.2.2.2.1]
          exact cD_
        · refine ⟨S2, P2, ⟨d2, fun d hd => absurd hd (Nat.not_lt_zero _)⟩, fun k hk => ⟨K2 k hk, fun z => absurd z (by decide : ¬ (0 : Int) ≤ -1)⟩, ?_⟩
          unfold tDt at *
          rw [e2.2.1 3 (by decide), e2.2.1 4 (by decide), e2.2.1 6 (by decide), e2.2.1 7 (by decide)]
          exact tD_
        · exact hX.k (e1.1 0 (by decide)) (by rw [e1.2.1]) (e2.1 1 (by decide)) (e2.2.1 2 (by decide)) (e1.1 2 (by decide)) (e2.1 0 (by decide))
  · exact c_sheet_bad ra b1 ⟨_, rfl, t_sheet_bad ra b1 ⟨rfl, hKK _ _ _ h⟩⟩
/-- the same for longs -/
def AgL (Jc : (Option Value → cS → Prop) → Prop) (Jt : (Option Value → tS → Prop) → Prop) : Prop := ∀ K : Int64 → cS → tS → Prop, (∀ v σ' τ', Inv σ' τ' → K v σ' τ') → Jc (fun r σ' => ∃ v, r = some (.long v) ∧ Jt (fun r' τ' => r' = some (.long v) ∧ K v σ' τ'))
theorem s_digest {E : jEnv} {α β : Nat → Nat} {σ : cS} {τ : tS} (h : Inv σ τ) : AgL (fun Q => jX0_digest E α 0 [some (.ref (α 0)), none, none, none, none, none, none] [] σ Q) (fun Q => jX2_digest E β 0 [some (.ref (β 0)), none, none] [] τ Q) := by
  intro K hKK
  obtain ⟨many, wide, high, bl, G, P, rule, dm, H, kc, KH, KN, rs, rd, ts, tb, ad, c, hI, hC, hT, hX⟩ := id h
  obtain ⟨hO, hg, hd40, hH, hKp, hDo⟩ := id hI
  obtain ⟨cS_, cP_, cR_, cL_, cK_, cD_, cd_⟩ := id hC
  obtain ⟨tS_, tP_, tL_, tK_, tD_⟩ := id hT
  have hN : plOK many P rule := hg.1.1
  have hV : plV many wide high bl G P := hg.1.2
  refine c_digest cS_ hO cP_ hN hV hg.2.1 cL_ hd40 cR_ cK_ cD_ (fun σ1 e1 => ⟨_, rfl, t_digest tS_ hO tP_ hN hV tL_ hd40 tK_ (fun k hk => (hKp k hk).1) tD_ hDo (fun τ1 e2 => ⟨rfl, hKK _ _ _ ?_⟩)⟩)
  have e3 : tEq [27, 32, 33, 34, 35] [26, 28, 29, 30, 31] τ (τ1.1, τ1.2.1, τ.2.2) := ⟨e2.1, e2.2, rfl⟩
  have hC2 := hC.q e1 (by decide) (by decide) (by decide) (by decide) (by decide) (by decide)
  have hT2 := hT.s e3 (by decide) (by decide) (by decide) (by decide)
  have hX2 := hX.p e1.1 e3 (by decide) (by decide) (by decide) (by decide) (by decide) (by decide)
  exact ⟨many, wide, high, bl, G, P, rule, dm, H, kc, KH, KN, rs, rd, ts, tb, ad, c, hI, hC2, hT2, hX2⟩
