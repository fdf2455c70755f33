set_option maxRecDepth 100000
/-! the law's cases: tellers -/
section IN
variable {many : Nat} {wide high bl : Int} {G P : Nat → Nat → Int} {rule : Int} {dm : Nat} {H : Nat → mPl} {kc : Nat → Int} {KH : Nat → Nat → mPl} {KN : Nat → mPl} {rs : Nat → Int} {rd : Nat → Nat → Int32} {ts : Nat → Int} {tb : Nat → Nat → Int} {ad : Nat → Nat} {c : Nat → Nat → Int} {σ σ' : cS} {τ τ' : tS} {I A : List Nat}
theorem IC.f (h : IC many wide high bl G P rule dm H kc KH KN rs rd ts tb ad c σ) (e : cF σ σ') : IC many wide high bl G P rule dm H kc KH KN rs rd ts tb ad c σ' := by
  obtain ⟨a1, a2, a3, a4, a5, a6, a7⟩ := h
  obtain ⟨e1, e2, e3, e4, e5, e6, e7, e8, e9⟩ := e
  refine ⟨?_, a2, ?_, ?_, ?_, ?_, e9⟩
  · unfold cSh at *; rw [e1 5 (by decide), e1 6 (by decide), e1 7 (by decide), e1 8 (by decide), e6]; exact a1
  · unfold cRl at *; rw [e8]; exact a3
  · unfold cLg at *; rw [e1 30 (by decide), e2]; exact a4
  · unfold cKc at *; rw [e7]; exact a5
  · unfold cDt at *; rw [e4, e5]; exact a6
end IN
theorem uR_out {G : Nat → Nat → Int} : ∀ n, (∀ f, f < n → (0 ≤ G f 0 ∧ G f 0 ≤ 3) ∧ ∀ k, 1 ≤ k → k ≤ 6 → 0 ≤ G f k ∧ G f k ≤ 16) → uR (mOutL G n)
  | 0, _ => fun x hx => by cases hx
  | n + 1, h => by
    rw [mOutL]
    exact uR_app (uR_out n (fun f hf => h f (by omega))) (uR_fr (h n (by omega)).1 (h n (by omega)).2)
theorem shOK.kg {many : Nat} {wide high bl : Int} {G : Nat → Nat → Int} (hO : shOK many wide high bl G) {f : Nat} (hf : f < many) : (0 ≤ G f 0 ∧ G f 0 ≤ 3) ∧ ∀ k, 1 ≤ k → k ≤ 6 → 0 ≤ G f k ∧ G f k ≤ 16 := by
  have h := hO.2.2.2.2.2.2.2.2 f hf
  refine ⟨by omega, fun k k1 k2 => ?_⟩
  obtain rfl | rfl | rfl | rfl | rfl | rfl : k = 1 ∨ k = 2 ∨ k = 3 ∨ k = 4 ∨ k = 5 ∨ k = 6 := by omega
  all_goals omega
theorem mOut_R {many : Nat} {wide high bl : Int} {G : Nat → Nat → Int} (hO : shOK many wide high bl G) : uR (mOut many wide high bl G) := by
  have hw := uR_no (z := wide) ⟨hO.2.1, hO.2.2.1⟩
  have hh := uR_no (z := high) ⟨hO.2.2.2.1, hO.2.2.2.2.1⟩
  have hb := uR_no (z := bl) ⟨hO.2.2.2.2.2.2.1, by have := hO.2.2.2.2.2.2.2.1; omega⟩
  have h59 : uR [59] := fun x hx => by simp only [List.mem_cons, List.not_mem_nil, or_false] at hx; omega
  unfold mOut
  refine uR_app (uR_app (uR_app (uR_app (uR_app ?_ hw) hh) h59) ?_) (uR_out many (fun f hf => hO.kg hf))
  · exact uR.t (i := 0) (by decide)
  · split
    · exact uR_app (uR_app (uR.t (i := 1) (by decide)) hb) h59
    · intro x hx; cases hx
theorem uR.d {u : List Int} (h : uR u) (i : Nat) : -128 ≤ u.getD i 0 ∧ u.getD i 0 ≤ 127 := by
  by_cases hi : i < u.length
  · have := h.at hi; omega
  · rw [List.getD_eq_getElem?_getD, List.getElem?_eq_none (by omega)]
    exact ⟨by decide, by decide⟩
theorem s_fault {E : jEnv} {α β : Nat → Nat} {σ : cS} {τ : tS} (h : Inv σ τ) (a : Int32) : Ag (fun Q => jX0_fault E α 0 [some (.ref (α 0)), some (.int a)] [] σ Q) (fun Q => jX2_fault E β 0 [some (.ref (β 0)), some (.int a)] [] τ Q) := by
  intro K hKK
  obtain ⟨many, wide, high, bl, G, P, rule, dm, H, kc, KH, KN, rs, rd, ts, tb, ad, c, hI, hC, hT, hX⟩ := id h
  obtain ⟨hO, hg, hd40, hH, hKp, hDo⟩ := id hI
  obtain ⟨cS_, cP_, cR_, cL_, cK_, cD_, cd_⟩ := id hC
  obtain ⟨tS_, tP_, tL_, tK_, tD_⟩ := id hT
  have hN : plOK many P rule := hg.1.1
  have hV : plV many wide high bl G P := hg.1.2
  obtain ⟨a, ra, rfl⟩ := zI_of a
  by_cases b1 : 0 ≤ a ∧ a ≤ 3
  · obtain ⟨r, rfl⟩ : ∃ r : Nat, a = r := ⟨a.toNat, by omega⟩
    have hr := hDo.2.1 r (by omega)
    by_cases b2 : ts r = -1
    · exact c_fault_no cD_ (by omega) b2 ⟨_, rfl, t_fault_no tD_ hDo (by omega) b2 ⟨rfl, hKK _ _ _ (h.fnd 1 (by decide))⟩⟩
    · obtain ⟨n, hn⟩ : ∃ n : Nat, ts r = n := ⟨(ts r).toNat, by omega⟩
      refine c_fault cD_ hDo (by omega) hn cd_ (fun p hm σ1 e1 => ⟨_, rfl, t_fault tD_ hDo (by omega) hn (fun p' hm' τ1 e2 => ?_) (fun s hm' τ1 e2 => ?_)⟩) (fun s hm σ1 e1 => ⟨_, rfl, t_fault tD_ hDo (by omega) hn (fun p' hm' τ1 e2 => ?_) (fun s' hm' τ1 e2 => ?_)⟩)
      · obtain rfl := Except.error.inj (hm.symm.trans hm')
        exact ⟨rfl, hKK _ _ _ ⟨many, wide, high, bl, G, P, rule, dm, H, kc, KH, KN, rs, rd, ts, tb, ad, c, hI, (hC.f e1), (hT.s e2 (by decide) (by decide) (by decide) (by decide)), hX.k (e1.1 0 (by decide)) (by rw [e1.2.1]) (e2.1 1 (by decide)) (e2.2.1 2 (by decide)) (e1.1 2 (by decide)) (e2.1 0 (by decide))⟩⟩
      · cases hm.symm.trans hm'
      · cases hm.symm.trans hm'
      · exact ⟨rfl, hKK _ _ _ ⟨many, wide, high, bl, G, P, rule, dm, H, kc, KH, KN, rs, rd, ts, tb, ad, c, hI, (hC.f e1), (hT.s e2 (by decide) (by decide) (by decide) (by decide)), hX.k (e1.1 0 (by decide)) (by rw [e1.2.1]) (e2.1 1 (by decide)) (e2.2.1 2 (by decide)) (e1.1 2 (by decide)) (e2.1 0 (by decide))⟩⟩
  · exact c_fault_bad ra b1 ⟨_, rfl, t_fault_bad ra b1 ⟨rfl, hKK _ _ _ h⟩⟩
theorem s_write {E : jEnv} {α β : Nat → Nat} {σ : cS} {τ : tS} (h : Inv σ τ) (a : Int32) : Ag (fun Q => jX0_write E α 0 [some (.ref (α 0)), some (.int a), none, none, none] [] σ Q) (fun Q => jX2_write E β 0 [some (.ref (β 0)), some (.int a), none, none, none] [] τ Q) := by
  intro K hKK
  obtain ⟨many, wide, high, bl, G, P, rule, dm, H, kc, KH, KN, rs, rd, ts, tb, ad, c, hI, hC, hT, hX⟩ := id h
  obtain ⟨hO, hg, hd40, hH, hKp, hDo⟩ := id hI
  obtain ⟨cS_, cP_, cR_, cL_, cK_, cD_, cd_⟩ := id hC
  obtain ⟨tS_, tP_, tL_, tK_, tD_⟩ := id hT
  have hN : plOK many P rule := hg.1.1
  have hV : plV many wide high bl G P := hg.1.2
  obtain ⟨a, ra, rfl⟩ := zI_of a
  by_cases b1 : 0 ≤ a ∧ a ≤ 3
  · obtain ⟨r, rfl⟩ : ∃ r : Nat, a = r := ⟨a.toNat, by omega⟩
    by_cases b2 : many = 0
    · exact c_write_no cS_ hO (by omega) b2 ⟨_, rfl, t_write_no tS_ hO (by omega) b2 ⟨rfl, hKK _ _ _ h⟩⟩
    · refine c_write cD_ (by omega) cd_ cS_ hO (by omega) (fun b3 => ⟨_, rfl, t_write tS_ hO tD_ hDo (by omega) (by omega) (fun _ τ1 e2 => ⟨rfl, hKK _ _ _ ?_⟩) (fun b4 => absurd b4 (by omega))⟩) (fun b3 σ1 e1 D1 => ⟨_, rfl, t_write tS_ hO tD_ hDo (by omega) (by omega) (fun b4 => absurd b4 (by omega)) (fun _ τ1 e2 D2 => ⟨rfl, hKK _ _ _ ?_⟩)⟩)
      · exact ⟨many, wide, high, bl, G, P, rule, dm, H, kc, KH, KN, rs, rd, ts, tb, ad, c, hI, hC, (hT.s e2 (by decide) (by decide) (by decide) (by decide)), hX.k rfl rfl (e2.1 1 (by decide)) (e2.2.1 2 (by decide)) rfl (e2.1 0 (by decide))⟩
      · exact ⟨many, wide, high, bl, G, P, rule, dm, H, kc, KH, KN, rs, rd, _, _, ad, c, ⟨hO, hg, hd40, hH, hKp, hDo.t (by omega) (fun i => (mOut_R hO).d i)⟩, (hC.t e1 (by decide) (by decide) (by decide) (by decide) (by decide) D1), (hT.d e2 (by decide) (by decide) D2), hX.t e1 e2 (by decide) (by decide) (by decide) (by decide) (by decide)⟩
  · exact c_write_bad ra b1 ⟨_, rfl, t_write_bad ra b1 ⟨rfl, hKK _ _ _ h⟩⟩
theorem s_frame {E : jEnv} {α β : Nat → Nat} {σ : cS} {τ : tS} (h : Inv σ τ) (a b : Int32) : Ag (fun Q => jX0_frame E α 0 [some (.ref (α 0)), some (.int a), some (.int b)] [] σ Q) (fun Q => jX2_frame E β 0 [some (.ref (β 0)), some (.int a), some (.int b)] [] τ Q) := by
  intro K hKK
  obtain ⟨many, wide, high, bl, G, P, rule, dm, H, kc, KH, KN, rs, rd, ts, tb, ad, c, hI, hC, hT, hX⟩ := id h
  obtain ⟨hO, hg, hd40, hH, hKp, hDo⟩ := id hI
  obtain ⟨cS_, cP_, cR_, cL_, cK_, cD_, cd_⟩ := id hC
  obtain ⟨tS_, tP_, tL_, tK_, tD_⟩ := id hT
  have hN : plOK many P rule := hg.1.1
  have hV : plV many wide high bl G P := hg.1.2
  obtain ⟨a, ra, rfl⟩ := zI_of a
  obtain ⟨b, rb, rfl⟩ := zI_of b
  by_cases b1 : ¬ (0 ≤ a ∧ a < many) ∨ ¬ (0 ≤ b ∧ b ≤ 4)
  · exact c_frame_bad cS_ hO ra rb b1 ⟨_, rfl, t_frame_bad tS_ hO ra rb b1 ⟨rfl, hKK _ _ _ h⟩⟩
  · obtain ⟨f, rfl⟩ : ∃ f : Nat, a = f := ⟨a.toNat, by omega⟩
    obtain ⟨k, rfl⟩ : ∃ k : Nat, b = k := ⟨b.toNat, by omega⟩
    exact c_frame cS_ hO (by omega) (by omega) ⟨_, rfl, t_frame tS_ hO (by omega) (by omega) ⟨rfl, hKK _ _ _ (h.ask _)⟩⟩
theorem s_place {E : jEnv} {α β : Nat → Nat} {σ : cS} {τ : tS} (h : Inv σ τ) (a b : Int32) : Ag (fun Q => jX0_place E α 0 [some (.ref (α 0)), some (.int a), some (.int b)] [] σ Q) (fun Q => jX2_place E β 0 [some (.ref (β 0)), some (.int a), some (.int b)] [] τ Q) := by
  intro K hKK
  obtain ⟨many, wide, high, bl, G, P, rule, dm, H, kc, KH, KN, rs, rd, ts, tb, ad, c, hI, hC, hT, hX⟩ := id h
  obtain ⟨hO, hg, hd40, hH, hKp, hDo⟩ := id hI
  obtain ⟨cS_, cP_, cR_, cL_, cK_, cD_, cd_⟩ := id hC
  obtain ⟨tS_, tP_, tL_, tK_, tD_⟩ := id hT
  have hN : plOK many P rule := hg.1.1
  have hV : plV many wide high bl G P := hg.1.2
  obtain ⟨a, ra, rfl⟩ := zI_of a
  obtain ⟨b, rb, rfl⟩ := zI_of b
  by_cases b1 : ¬ (0 ≤ a ∧ a < many) ∨ ¬ (0 ≤ b ∧ b ≤ 3)
  · exact c_place_bad cS_ hO ra rb b1 ⟨_, rfl, t_place_bad tS_ hO ra rb b1 ⟨rfl, hKK _ _ _ h⟩⟩
  · obtain ⟨f, rfl⟩ : ∃ f : Nat, a = f := ⟨a.toNat, by omega⟩
    obtain ⟨k, rfl⟩ : ∃ k : Nat, b = k := ⟨b.toNat, by omega⟩
    have hp := hN.1 f (by omega)
    by_cases b2 : P f 0 = -1
    · exact c_place_no cS_ hO cP_ hN (by omega) (by omega) b2 ⟨_, rfl, t_place_no tS_ hO tP_ hN (by omega) (by omega) b2 ⟨rfl, hKK _ _ _ h⟩⟩
    · exact c_place cS_ hO cP_ hN (by omega) (by omega) (by omega) ⟨_, rfl, t_place tS_ hO tP_ hN (by omega) (by omega) (by omega) ⟨rfl, hKK _ _ _ (h.ask _)⟩⟩
theorem s_mark {E : jEnv} {α β : Nat → Nat} {σ : cS} {τ : tS} (h : Inv σ τ) (a b : Int32) : Ag (fun Q => jX0_mark E α 0 [some (.ref (α 0)), some (.int a), some (.int b), none, none] [] σ Q) (fun Q => jX2_mark E β 0 [some (.ref (β 0)), some (.int a), some (.int b), none, none] [] τ Q) := by
  intro K hKK
  obtain ⟨many, wide, high, bl, G, P, rule, dm, H, kc, KH, KN, rs, rd, ts, tb, ad, c, hI, hC, hT, hX⟩ := id h
  obtain ⟨hO, hg, hd40, hH, hKp, hDo⟩ := id hI
  obtain ⟨cS_, cP_, cR_, cL_, cK_, cD_, cd_⟩ := id hC
  obtain ⟨tS_, tP_, tL_, tK_, tD_⟩ := id hT
  have hN : plOK many P rule := hg.1.1
  have hV : plV many wide high bl G P := hg.1.2
  obtain ⟨a, ra, rfl⟩ := zI_of a
  obtain ⟨b, rb, rfl⟩ := zI_of b
  by_cases b1 : ¬ (0 ≤ a ∧ a < many) ∨ ¬ (1 ≤ b ∧ b ≤ 3)
  · exact c_mark_bad cS_ hO ra rb b1 ⟨_, rfl, t_mark_bad tS_ hO ra rb b1 ⟨rfl, hKK _ _ _ h⟩⟩
  · obtain ⟨f, rfl⟩ : ∃ f : Nat, a = f := ⟨a.toNat, by omega⟩
    refine c_mark cS_ hO (by omega) (by omega) (fun b2 b3 => ⟨_, rfl, t_mark tS_ hO (by omega) (by omega) (fun _ _ => ⟨rfl, hKK _ _ _ (h.fnd 3 (by decide))⟩) (fun b4 => absurd b4 (by omega))⟩) (fun b2 => ⟨_, rfl, t_mark tS_ hO (by omega) (by omega) (fun b3 b4 => absurd b2 (by omega)) (fun _ => ⟨rfl, hKK _ _ _ h⟩)⟩)
theorem s_free {E : jEnv} {α β : Nat → Nat} {σ : cS} {τ : tS} (h : Inv σ τ) (a k u : Int32) : Ag (fun Q => jX0_free E α 0 [some (.ref (α 0)), some (.int a), some (.int k), some (.int u)] [] σ Q) (fun Q => jX2_free E β 0 [some (.ref (β 0)), some (.int a), some (.int k), some (.int u)] [] τ Q) := by
  intro K hKK
  obtain ⟨many, wide, high, bl, G, P, rule, dm, H, kc, KH, KN, rs, rd, ts, tb, ad, c, hI, hC, hT, hX⟩ := id h
  obtain ⟨hO, hg, hd40, hH, hKp, hDo⟩ := id hI
  obtain ⟨cS_, cP_, cR_, cL_, cK_, cD_, cd_⟩ := id hC
  obtain ⟨tS_, tP_, tL_, tK_, tD_⟩ := id hT
  have hN : plOK many P rule := hg.1.1
  have hV : plV many wide high bl G P := hg.1.2
  obtain ⟨a, ra, rfl⟩ := zI_of a
  obtain ⟨k, rk, rfl⟩ := zI_of k
  obtain ⟨u, ru, rfl⟩ := zI_of u
  by_cases b1 : ¬ (0 ≤ a ∧ a < pgM P many) ∨ k < 0 ∨ ¬ (0 ≤ u ∧ u ≤ 3)
  · exact c_free_bad cS_ hO cP_ hN ra rk ru b1 ⟨_, rfl, t_free_bad tS_ hO tP_ hN ra rk ru b1 ⟨rfl, hKK _ _ _ h⟩⟩
  · obtain ⟨k', rfl⟩ : ∃ k' : Nat, k = k' := ⟨k.toNat, by omega⟩
    have hk2 : k' < 2147483648 := by unfold zR at rk; omega
    refine c_free cS_ hO cP_ hN hV (by omega) hk2 (by omega) (fun b2 σ1 e1 => ⟨_, rfl, t_free tS_ hO tP_ hN hV (by omega) hk2 (by omega) (fun _ τ1 e2 => ⟨rfl, hKK _ _ _ ?_⟩) (fun b3 => absurd b3 (by omega))⟩) (fun b2 σ1 e1 v1 => ⟨_, rfl, t_free tS_ hO tP_ hN hV (by omega) hk2 (by omega) (fun b3 => absurd b3 (by omega)) (fun _ τ1 e2 v2 => ⟨rfl, hKK _ _ _ ?_⟩)⟩)
    · exact ⟨many, wide, high, bl, G, P, rule, dm, H, kc, KH, KN, rs, rd, ts, tb, ad, c, hI, (hC.q e1 (by decide) (by decide) (by decide) (by decide) (by decide) (by decide)), (hT.s e2 (by decide) (by decide) (by decide) (by decide)), hX.p e1.1 e2 (by decide) (by decide) (by decide) (by decide) (by decide) (by decide)⟩
    · exact ⟨many, wide, high, bl, G, P, rule, dm, H, kc, KH, KN, rs, rd, ts, tb, ad, c, hI, (hC.q e1 (by decide) (by decide) (by decide) (by decide) (by decide) (by decide)), (hT.s e2 (by decide) (by decide) (by decide) (by decide)), hX.pa e1.1 e2 (by decide) (by decide) (by decide) (by decide) (v1.trans v2.symm)⟩
theorem s_seen {E : jEnv} {α β : Nat → Nat} {σ : cS} {τ : tS} (h : Inv σ τ) (a x y : Int32) : Ag (fun Q => jX0_seen E α 0 [some (.ref (α 0)), some (.int a), some (.int x), some (.int y), none, none, none, none, none, none] [] σ Q) (fun Q => jX2_seen E β 0 [some (.ref (β 0)), some (.int a), some (.int x), some (.int y), none, none, none, none, none, none] [] τ Q) := by
  intro K hKK
  obtain ⟨many, wide, high, bl, G, P, rule, dm, H, kc, KH, KN, rs, rd, ts, tb, ad, c, hI, hC, hT, hX⟩ := id h
  obtain ⟨hO, hg, hd40, hH, hKp, hDo⟩ := id hI
  obtain ⟨cS_, cP_, cR_, cL_, cK_, cD_, cd_⟩ := id hC
  obtain ⟨tS_, tP_, tL_, tK_, tD_⟩ := id hT
  have hN : plOK many P rule := hg.1.1
  have hV : plV many wide high bl G P := hg.1.2
  obtain ⟨a, ra, rfl⟩ := zI_of a
  obtain ⟨x, rx, rfl⟩ := zI_of x
  obtain ⟨y, ry, rfl⟩ := zI_of y
  by_cases b1 : ¬ (0 ≤ a ∧ a < pgM P many) ∨ ¬ (0 ≤ x ∧ x < wide) ∨ ¬ (0 ≤ y ∧ y < high)
  · exact c_seen_bad cS_ hO cP_ hN ra rx ry b1 ⟨_, rfl, t_seen_bad tS_ hO tP_ hN ra rx ry b1 ⟨rfl, hKK _ _ _ h⟩⟩
  · refine c_seen cS_ hO cP_ hN hV hg.2.2 (by omega) (by omega) (by omega) (fun b2 => ⟨_, rfl, t_seen tS_ hO tP_ hN hV (by omega) (by omega) (by omega) (fun _ τ1 e2 => ⟨rfl, hKK _ _ _ ?_⟩) (fun f hf b3 => absurd b3 (by omega))⟩) (fun f hf b2 => ⟨_, rfl, t_seen tS_ hO tP_ hN hV (by omega) (by omega) (by omega) (fun b3 => absurd b3 (by omega)) (fun f' hf' b3 τ1 e2 v2 => ?_)⟩)
    · exact ⟨many, wide, high, bl, G, P, rule, dm, H, kc, KH, KN, rs, rd, ts, tb, ad, c, hI, hC, (hT.s e2 (by decide) (by decide) (by decide) (by decide)), hX.k rfl rfl (e2.1 1 (by decide)) (e2.2.1 2 (by decide)) rfl (e2.1 0 (by decide))⟩
    · obtain rfl : f = f' := by omega
      exact ⟨rfl, hKK _ _ _ ⟨many, wide, high, bl, G, P, rule, dm, H, kc, KH, KN, rs, rd, ts, tb, ad, c, hI, hC, (hT.s e2 (by decide) (by decide) (by decide) (by decide)), hX.g rfl rfl (e2.1 1 (by decide)) (e2.2.1 2 (by decide)) v2.symm⟩⟩
theorem s_point {E : jEnv} {α β : Nat → Nat} {σ : cS} {τ : tS} (h : Inv σ τ) (a x y : Int32) : Ag (fun Q => jX0_point E α 0 [some (.ref (α 0)), some (.int a), some (.int x), some (.int y), none, none, none, none, none] [] σ Q) (fun Q => jX2_point E β 0 [some (.ref (β 0)), some (.int a), some (.int x), some (.int y), none, none, none, none, none] [] τ Q) := by
  intro K hKK
  obtain ⟨many, wide, high, bl, G, P, rule, dm, H, kc, KH, KN, rs, rd, ts, tb, ad, c, hI, hC, hT, hX⟩ := id h
  obtain ⟨hO, hg, hd40, hH, hKp, hDo⟩ := id hI
  obtain ⟨cS_, cP_, cR_, cL_, cK_, cD_, cd_⟩ := id hC
  obtain ⟨tS_, tP_, tL_, tK_, tD_⟩ := id hT
  have hN : plOK many P rule := hg.1.1
  have hV : plV many wide high bl G P := hg.1.2
  obtain ⟨a, ra, rfl⟩ := zI_of a
  obtain ⟨x, rx, rfl⟩ := zI_of x
  obtain ⟨y, ry, rfl⟩ := zI_of y
  by_cases b1 : 0 ≤ a ∧ a < many
  · obtain ⟨f, rfl⟩ : ∃ f : Nat, a = f := ⟨a.toNat, by omega⟩
    by_cases b2 : ¬ (0 ≤ x ∧ x < G f 1) ∨ ¬ (0 ≤ y ∧ y < G f 2)
    · exact c_point_bad2 cS_ hO (by omega) rx ry b2 ⟨_, rfl, t_point_bad2 tS_ hO (by omega) rx ry b2 ⟨rfl, hKK _ _ _ h⟩⟩
    · refine c_point cS_ hO cP_ hN (by omega) (by omega) (by omega) (fun b3 => ⟨_, rfl, t_point tS_ hO tP_ hN (by omega) (by omega) (by omega) (fun _ => ⟨rfl, hKK _ _ _ h⟩) (fun b4 => absurd b4 (by omega)) (fun b4 => absurd b4 (by omega))⟩) (fun b3 b4 => ⟨_, rfl, t_point tS_ hO tP_ hN (by omega) (by omega) (by omega) (fun b5 => absurd b5 (by omega)) (fun _ _ => ⟨rfl, hKK _ _ _ h⟩) (fun _ b5 => absurd b5 b4)⟩) (fun b3 b4 => ⟨_, rfl, t_point tS_ hO tP_ hN (by omega) (by omega) (by omega) (fun b5 => absurd b5 (by omega)) (fun _ b5 => absurd b4 b5) (fun _ _ => ⟨rfl, hKK _ _ _ h⟩)⟩)
  · exact c_point_bad cS_ hO ra b1 ⟨_, rfl, t_point_bad tS_ hO ra rx ry b1 ⟨rfl, hKK _ _ _ h⟩⟩
theorem s_used {E : jEnv} {α β : Nat → Nat} {σ : cS} {τ : tS} (h : Inv σ τ) (a : Int32) : Ag (fun Q => jX0_used E α 0 [some (.ref (α 0)), some (.int a), none] [] σ Q) (fun Q => jX2_used E β 0 [some (.ref (β 0)), some (.int a), none] [] τ Q) := by
  intro K hKK
  obtain ⟨many, wide, high, bl, G, P, rule, dm, H, kc, KH, KN, rs, rd, ts, tb, ad, c, hI, hC, hT, hX⟩ := id h
  obtain ⟨hO, hg, hd40, hH, hKp, hDo⟩ := id hI
  obtain ⟨cS_, cP_, cR_, cL_, cK_, cD_, cd_⟩ := id hC
  obtain ⟨tS_, tP_, tL_, tK_, tD_⟩ := id hT
  have hN : plOK many P rule := hg.1.1
  have hV : plV many wide high bl G P := hg.1.2
  obtain ⟨a, ra, rfl⟩ := zI_of a
  by_cases b1 : 0 ≤ a ∧ a < pgM P many
  · have hm : 0 < many := by
      apply Classical.byContradiction
      intro z
      obtain rfl : many = 0 := by omega
      have : pgM P 0 = 0 := rfl
      omega
    exact c_used cS_ hO cP_ hN b1 hm ⟨_, rfl, t_used tS_ hO tP_ hN b1 hm ⟨rfl, hKK _ _ _ (h.ask _)⟩⟩
  · exact c_used_bad cS_ hO cP_ hN ra b1 ⟨_, rfl, t_used_bad tS_ hO tP_ hN ra b1 ⟨rfl, hKK _ _ _ h⟩⟩
theorem s_takes {E : jEnv} {α β : Nat → Nat} {σ : cS} {τ : tS} (h : Inv σ τ) (a : Int32) : Ag (fun Q => jX0_takes E α 0 [some (.ref (α 0)), some (.int a), none, none, none, none] [] σ Q) (fun Q => jX2_takes E β 0 [some (.ref (β 0)), some (.int a), none, none, none] [] τ Q) := by
  intro K hKK
  obtain ⟨many, wide, high, bl, G, P, rule, dm, H, kc, KH, KN, rs, rd, ts, tb, ad, c, hI, hC, hT, hX⟩ := id h
  obtain ⟨hO, hg, hd40, hH, hKp, hDo⟩ := id hI
  obtain ⟨cS_, cP_, cR_, cL_, cK_, cD_, cd_⟩ := id hC
  obtain ⟨tS_, tP_, tL_, tK_, tD_⟩ := id hT
  have hN : plOK many P rule := hg.1.1
  have hV : plV many wide high bl G P := hg.1.2
  obtain ⟨a, ra, rfl⟩ := zI_of a
  by_cases b1 : 0 ≤ a ∧ a < pgM P many
  · refine c_takes cS_ hO cP_ hN hV b1 (fun σ1 e1 v1 => ⟨_, rfl, t_takes tS_ hO tP_ hN hV b1 (fun τ1 e2 v2 => ⟨rfl, hKK _ _ _ ?_⟩)⟩)
    exact ⟨many, wide, high, bl, G, P, rule, dm, H, kc, KH, KN, rs, rd, ts, tb, ad, c, hI, (hC.q e1 (by decide) (by decide) (by decide) (by decide) (by decide) (by decide)), (hT.s e2 (by decide) (by decide) (by decide) (by decide)), hX.pa e1.1 e2 (by decide) (by decide) (by decide) (by decide) (v1.trans v2.symm)⟩
  · exact c_takes_bad cS_ hO cP_ hN ra b1 ⟨_, rfl, t_takes_bad tS_ hO tP_ hN ra b1 ⟨rfl, hKK _ _ _ h⟩⟩
theorem s_asked {E : jEnv} {α β : Nat → Nat} {σ : cS} {τ : tS} (h : Inv σ τ) : Ag (fun Q => jX0_asked E α 0 [some (.ref (α 0))] [] σ Q) (fun Q => jX2_asked E β 0 [some (.ref (β 0))] [] τ Q) := by
  intro K hKK
  obtain ⟨many, wide, high, bl, G, P, rule, dm, H, kc, KH, KN, rs, rd, ts, tb, ad, c, hI, hC, hT, hX⟩ := id h
  obtain ⟨hO, hg, hd40, hH, hKp, hDo⟩ := id hI
  obtain ⟨cS_, cP_, cR_, cL_, cK_, cD_, cd_⟩ := id hC
  obtain ⟨tS_, tP_, tL_, tK_, tD_⟩ := id hT
  have hN : plOK many P rule := hg.1.1
  have hV : plV many wide high bl G P := hg.1.2
  exact c_asked ⟨_, rfl, t_asked ⟨by rw [hX.2.1], hKK _ _ _ h⟩⟩
theorem s_finding {E : jEnv} {α β : Nat → Nat} {σ : cS} {τ : tS} (h : Inv σ τ) : Ag (fun Q => jX0_finding E α 0 [some (.ref (α 0))] [] σ Q) (fun Q => jX2_finding E β 0 [some (.ref (β 0))] [] τ Q) := by
  intro K hKK
  obtain ⟨many, wide, high, bl, G, P, rule, dm, H, kc, KH, KN, rs, rd, ts, tb, ad, c, hI, hC, hT, hX⟩ := id h
  obtain ⟨hO, hg, hd40, hH, hKp, hDo⟩ := id hI
  obtain ⟨cS_, cP_, cR_, cL_, cK_, cD_, cd_⟩ := id hC
  obtain ⟨tS_, tP_, tL_, tK_, tD_⟩ := id hT
  have hN : plOK many P rule := hg.1.1
  have hV : plV many wide high bl G P := hg.1.2
  exact c_finding ⟨_, rfl, t_finding ⟨by rw [hX.1], hKK _ _ _ h⟩⟩
theorem s_findings {E : jEnv} {α β : Nat → Nat} {σ : cS} {τ : tS} (h : Inv σ τ) (a : Int32) : Ag (fun Q => jX0_findings E α 0 [some (.ref (α 0)), some (.int a)] [] σ Q) (fun Q => jX2_findings E β 0 [some (.ref (β 0)), some (.int a)] [] τ Q) := by
  intro K hKK
  obtain ⟨many, wide, high, bl, G, P, rule, dm, H, kc, KH, KN, rs, rd, ts, tb, ad, c, hI, hC, hT, hX⟩ := id h
  obtain ⟨hO, hg, hd40, hH, hKp, hDo⟩ := id hI
  obtain ⟨cS_, cP_, cR_, cL_, cK_, cD_, cd_⟩ := id hC
  obtain ⟨tS_, tP_, tL_, tK_, tD_⟩ := id hT
  have hN : plOK many P rule := hg.1.1
  have hV : plV many wide high bl G P := hg.1.2
  obtain ⟨a, ra, rfl⟩ := zI_of a
  exact c_findings ra (fun b1 => ⟨_, rfl, t_findings ra (fun _ => ⟨by rw [hX.2.2 a.toNat (by omega) (by omega)], hKK _ _ _ h⟩) (fun b2 => absurd b1 b2)⟩) (fun b1 => ⟨_, rfl, t_findings ra (fun b2 => absurd b2 b1) (fun _ => ⟨rfl, hKK _ _ _ h⟩)⟩)
theorem s_count {E : jEnv} {α β : Nat → Nat} {σ : cS} {τ : tS} (h : Inv σ τ) (a : Int32) : Ag (fun Q => jX0_count E α 0 [some (.ref (α 0)), some (.int a)] [] σ Q) (fun Q => jX2_count E β 0 [some (.ref (β 0)), some (.int a)] [] τ Q) := by
  intro K hKK
  obtain ⟨many, wide, high, bl, G, P, rule, dm, H, kc, KH, KN, rs, rd, ts, tb, ad, c, hI, hC, hT, hX⟩ := id h
  obtain ⟨hO, hg, hd40, hH, hKp, hDo⟩ := id hI
  obtain ⟨cS_, cP_, cR_, cL_, cK_, cD_, cd_⟩ := id hC
  obtain ⟨tS_, tP_, tL_, tK_, tD_⟩ := id hT
  have hN : plOK many P rule := hg.1.1
  have hV : plV many wide high bl G P := hg.1.2
  obtain ⟨a, ra, rfl⟩ := zI_of a
  by_cases b1 : 0 ≤ a ∧ a ≤ 13
  · obtain ⟨k, rfl⟩ : ∃ k : Nat, a = k := ⟨a.toNat, by omega⟩
    refine c_count cS_ hO cP_ hN hV hg.2.1 cL_ hd40 cR_ cK_ cD_ (by omega) (fun σ1 e1 => ⟨_, rfl, t_count tS_ hO tP_ hN hV tL_ hd40 tK_ (fun k hk => (hKp k hk).1) tD_ hDo (by omega) (fun τ1 e2 => ⟨rfl, hKK _ _ _ ?_⟩)⟩)
    exact ⟨many, wide, high, bl, G, P, rule, dm, H, kc, KH, KN, rs, rd, ts, tb, ad, c, hI, (hC.q e1 (by decide) (by decide) (by decide) (by decide) (by decide) (by decide)), (hT.s e2 (by decide) (by decide) (by decide) (by decide)), hX.p e1.1 e2 (by decide) (by decide) (by decide) (by decide) (by decide) (by decide)⟩
  · exact c_count_bad ra b1 ⟨_, rfl, t_count_bad ra b1 ⟨rfl, hKK _ _ _ h⟩⟩
