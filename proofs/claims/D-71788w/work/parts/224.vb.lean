set_option maxRecDepth 100000
/-! the law's cases: data, tellers -/
section IN
variable {σ σ' : cS} {τ τ' : tS} {I A I' A' : List Nat}
theorem IX.g (hX : IX σ τ) (a0 : σ'.i 0 = σ.i 0) (a1 : σ'.a 1 = σ.a 1) (b1 : τ'.1 1 = τ.1 1) (b2 : τ'.2.1 2 = τ.2.1 2) (h2 : σ'.i 2 = τ'.1 0) : IX σ' τ' := ⟨by rw [a0, b1]; exact hX.1, h2, fun k k1 k2 => by rw [a1, b2]; exact hX.2.2 k k1 k2⟩
theorem IX.k (hX : IX σ τ) (a0 : σ'.i 0 = σ.i 0) (a1 : σ'.a 1 = σ.a 1) (b1 : τ'.1 1 = τ.1 1) (b2 : τ'.2.1 2 = τ.2.1 2) (a2 : σ'.i 2 = σ.i 2) (b0 : τ'.1 0 = τ.1 0) : IX σ' τ' := hX.g a0 a1 b1 b2 (by rw [a2, b0]; exact hX.2.1)
theorem IX.t (hX : IX σ τ) (e1 : cT I σ σ') (e2 : tEq I' A' τ τ') (h0 : 0 ∉ I) (h2 : 2 ∉ I) (g0 : 0 ∉ I') (g1 : 1 ∉ I') (g2 : 2 ∉ A') : IX σ' τ' := hX.k (e1.1 0 h0) (by rw [e1.2.1]) (e2.1 1 g1) (e2.2.1 2 g2) (e1.1 2 h2) (e2.1 0 g0)
theorem IX.p (hX : IX σ τ) (e1 : cP I A σ σ') (e2 : tEq I' A' τ τ') (h0 : 0 ∉ I) (h2 : 2 ∉ I) (h1 : 1 ∉ A) (g0 : 0 ∉ I') (g1 : 1 ∉ I') (g2 : 2 ∉ A') : IX σ' τ' := hX.k (e1.1 0 h0) (e1.2.1 1 h1) (e2.1 1 g1) (e2.2.1 2 g2) (e1.1 2 h2) (e2.1 0 g0)
theorem IX.pa (hX : IX σ τ) (e1 : cP I A σ σ') (e2 : tEq I' A' τ τ') (h0 : 0 ∉ I) (h1 : 1 ∉ A) (g1 : 1 ∉ I') (g2 : 2 ∉ A') (h2 : σ'.i 2 = τ'.1 0) : IX σ' τ' := hX.g (e1.1 0 h0) (e1.2.1 1 h1) (e2.1 1 g1) (e2.2.1 2 g2) h2
theorem cQ.rf {I A : List Nat} {σ : cS} : cQ I A σ σ := cQ.refl
end IN
theorem by8_r (z : Int) : -128 ≤ by8 z ∧ by8 z ≤ 127 := by
  have h := pk_fb (zI z)
  simp only [fits, Bool.and_eq_true, decide_eq_true_eq] at h
  have h1 := Int32.le_iff_toInt_le.mp h.1
  have h2 := Int32.le_iff_toInt_le.mp h.2
  have e1 : (-128 : Int32).toInt = -128 := by decide
  have e2 : (127 : Int32).toInt = 127 := by decide
  rw [e1] at h1
  rw [e2] at h2
  exact ⟨h1, h2⟩
theorem dtOK.r {rs ts : Nat → Int} {tb : Nat → Nat → Int} (h : dtOK rs ts tb) {r : Nat} {z : Int} (hz : -1 ≤ z ∧ z ≤ 40) : dtOK (upk rs r z) ts tb := by
  refine ⟨fun q hq => ?_, h.2⟩
  unfold upk
  by_cases e : q = r
  · rw [if_pos e]; exact hz
  · rw [if_neg e]; exact h.1 q hq
theorem dtOK.t {rs ts : Nat → Int} {tb : Nat → Nat → Int} (h : dtOK rs ts tb) {r : Nat} {z : Int} {f : Nat → Int} (hz : -1 ≤ z ∧ z ≤ 120) (hf : ∀ i, -128 ≤ f i ∧ f i ≤ 127) : dtOK rs (upk ts r z) (upk tb r f) := by
  refine ⟨h.1, fun q hq => ?_, fun q i => ?_⟩
  · unfold upk
    by_cases e : q = r
    · rw [if_pos e]; exact hz
    · rw [if_neg e]; exact h.2.1 q hq
  · unfold upk
    by_cases e : q = r
    · rw [if_pos e]; exact hf i
    · rw [if_neg e]; exact h.2.2 q i
theorem dtOK.b {rs ts : Nat → Int} {tb : Nat → Nat → Int} (h : dtOK rs ts tb) {r : Nat} {f : Nat → Int} (hf : ∀ i, -128 ≤ f i ∧ f i ≤ 127) : dtOK rs ts (upk tb r f) := by
  refine ⟨h.1, h.2.1, fun q i => ?_⟩
  unfold upk
  by_cases e : q = r
  · rw [if_pos e]; exact hf i
  · rw [if_neg e]; exact h.2.2 q i
theorem s_row {E : jEnv} {α β : Nat → Nat} {σ : cS} {τ : tS} (h : Inv σ τ) (a b : Int32) : Ag (fun Q => jX0_row E α 0 [some (.ref (α 0)), some (.int a), some (.int b), none] [] σ Q) (fun Q => jX2_row E β 0 [some (.ref (β 0)), some (.int a), some (.int b), none] [] τ Q) := by
  intro K hKK
  obtain ⟨many, wide, high, bl, G, P, rule, dm, H, kc, KH, KN, rs, rd, ts, tb, ad, c, hI, hC, hT, hX⟩ := id h
  obtain ⟨hO, hg, hd40, hH, hKp, hDo⟩ := id hI
  obtain ⟨cS_, cP_, cR_, cL_, cK_, cD_, cd_⟩ := id hC
  obtain ⟨tS_, tP_, tL_, tK_, tD_⟩ := id hT
  have hN : plOK many P rule := hg.1.1
  have hV : plV many wide high bl G P := hg.1.2
  obtain ⟨a, ra, rfl⟩ := zI_of a
  obtain ⟨b, rb, rfl⟩ := zI_of b
  by_cases b1 : ¬ (0 ≤ a ∧ a ≤ 5) ∨ 40 < b
  · exact c_row_bad ra rb b1 ⟨_, rfl, t_row_bad ra rb b1 ⟨rfl, hKK _ _ _ h⟩⟩
  · obtain ⟨r, rfl⟩ : ∃ r : Nat, a = r := ⟨a.toNat, by omega⟩
    by_cases b2 : b < 0
    · exact c_row_neg (by omega) rb b2 ⟨_, rfl, t_row_neg (by omega) rb b2 ⟨rfl, hKK _ _ _ (h.fnd 5 (by decide))⟩⟩
    · obtain ⟨n, rfl⟩ : ∃ n : Nat, b = n := ⟨b.toNat, by omega⟩
      refine c_row cD_ (cd_ 0) (by omega) (by omega) (fun σ1 e1 D1 => ⟨_, rfl, t_row tD_ hDo (by omega) (by omega) (fun τ1 e2 D2 => ⟨rfl, hKK _ _ _ ?_⟩)⟩)
      exact ⟨many, wide, high, bl, G, P, rule, dm, H, kc, KH, KN, _, _, ts, tb, ad, c, ⟨hO, hg, hd40, hH, hKp, hDo.r (by omega)⟩, (hC.t e1 (by decide) (by decide) (by decide) (by decide) (by decide) D1), (hT.d e2 (by decide) (by decide) D2), hX.t e1 e2 (by decide) (by decide) (by decide) (by decide) (by decide)⟩
theorem s_lay {E : jEnv} {α β : Nat → Nat} {σ : cS} {τ : tS} (h : Inv σ τ) (a b x : Int32) : Ag (fun Q => jL E α 0 [some (.ref (α 0)), some (.int a), some (.int b), some (.int x), none] [] σ Q) (fun Q => jX2_lay E β 0 [some (.ref (β 0)), some (.int a), some (.int b), some (.int x), none] [] τ Q) := by
  intro K hKK
  obtain ⟨many, wide, high, bl, G, P, rule, dm, H, kc, KH, KN, rs, rd, ts, tb, ad, c, hI, hC, hT, hX⟩ := id h
  obtain ⟨hO, hg, hd40, hH, hKp, hDo⟩ := id hI
  obtain ⟨cS_, cP_, cR_, cL_, cK_, cD_, cd_⟩ := id hC
  obtain ⟨tS_, tP_, tL_, tK_, tD_⟩ := id hT
  have hN : plOK many P rule := hg.1.1
  have hV : plV many wide high bl G P := hg.1.2
  obtain ⟨a, ra, rfl⟩ := zI_of a
  obtain ⟨b, rb, rfl⟩ := zI_of b
  by_cases b1 : 0 ≤ a ∧ a ≤ 5
  · obtain ⟨r, rfl⟩ : ∃ r : Nat, a = r := ⟨a.toNat, by omega⟩
    have hr := hDo.1 r (by omega)
    by_cases b2 : rs r = -1
    · exact c_lay_no cD_ (by omega) b2 ⟨_, rfl, t_lay_no tD_ hDo (by omega) b2 ⟨rfl, hKK _ _ _ (h.fnd 1 (by decide))⟩⟩
    · by_cases b3 : 0 ≤ b ∧ b < rs r
      · obtain ⟨i, rfl⟩ : ∃ i : Nat, b = i := ⟨b.toNat, by omega⟩
        refine c_layR cD_ (by omega) (by omega) (fun σ1 e1 D1 v1 => ⟨_, rfl, t_layR tD_ hDo (by omega) (by omega) (fun τ1 e2 D2 v2 => ⟨rfl, hKK _ _ _ ?_⟩)⟩)
        exact ⟨many, wide, high, bl, G, P, rule, dm, H, kc, KH, KN, rs, _, ts, tb, ad, c, ⟨hO, hg, hd40, hH, hKp, hDo⟩, (hC.t e1 (by decide) (by decide) (by decide) (by decide) (by decide) D1), (hT.d e2 (by decide) (by decide) D2), hX.g (e1.1 0 (by decide)) (by rw [e1.2.1]) (e2.1 1 (by decide)) (e2.2.1 2 (by decide)) (v1.trans v2.symm)⟩
      · exact c_lay_out cD_ (by omega) (by omega) rb b3 ⟨_, rfl, t_lay_out tD_ hDo (by omega) (by omega) rb b3 ⟨rfl, hKK _ _ _ (h.fnd 2 (by decide))⟩⟩
  · exact c_lay_bad ra b1 ⟨_, rfl, t_lay_bad ra b1 ⟨rfl, hKK _ _ _ h⟩⟩
theorem s_at {E : jEnv} {α β : Nat → Nat} {σ : cS} {τ : tS} (h : Inv σ τ) (a b : Int32) : Ag (fun Q => jX0_at E α 0 [some (.ref (α 0)), some (.int a), some (.int b), none] [] σ Q) (fun Q => jX2_at E β 0 [some (.ref (β 0)), some (.int a), some (.int b)] [] τ Q) := by
  intro K hKK
  obtain ⟨many, wide, high, bl, G, P, rule, dm, H, kc, KH, KN, rs, rd, ts, tb, ad, c, hI, hC, hT, hX⟩ := id h
  obtain ⟨hO, hg, hd40, hH, hKp, hDo⟩ := id hI
  obtain ⟨cS_, cP_, cR_, cL_, cK_, cD_, cd_⟩ := id hC
  obtain ⟨tS_, tP_, tL_, tK_, tD_⟩ := id hT
  have hN : plOK many P rule := hg.1.1
  have hV : plV many wide high bl G P := hg.1.2
  obtain ⟨a, ra, rfl⟩ := zI_of a
  obtain ⟨b, rb, rfl⟩ := zI_of b
  by_cases b1 : 0 ≤ a ∧ a ≤ 5
  · obtain ⟨r, rfl⟩ : ∃ r : Nat, a = r := ⟨a.toNat, by omega⟩
    have hr := hDo.1 r (by omega)
    by_cases b2 : rs r = -1
    · exact c_at_no cD_ (by omega) b2 ⟨_, rfl, t_at_no tD_ hDo (by omega) b2 ⟨rfl, hKK _ _ _ (h.fnd 1 (by decide))⟩⟩
    · by_cases b3 : 0 ≤ b ∧ b < rs r
      · obtain ⟨i, rfl⟩ : ∃ i : Nat, b = i := ⟨b.toNat, by omega⟩
        exact c_at cD_ (by omega) (by omega) ⟨_, rfl, t_at tD_ hDo (by omega) (by omega) ⟨rfl, hKK _ _ _ (h.ask _)⟩⟩
      · exact c_at_out cD_ (by omega) (by omega) rb b3 ⟨_, rfl, t_at_out tD_ hDo (by omega) (by omega) rb b3 ⟨rfl, hKK _ _ _ (h.fnd 2 (by decide))⟩⟩
  · exact c_at_bad ra b1 ⟨_, rfl, t_at_bad ra b1 ⟨rfl, hKK _ _ _ h⟩⟩
theorem s_tear {E : jEnv} {α β : Nat → Nat} {σ : cS} {τ : tS} (h : Inv σ τ) (a : Int32) : Ag (fun Q => jX0_tear E α 0 [some (.ref (α 0)), some (.int a)] [] σ Q) (fun Q => jX2_tear E β 0 [some (.ref (β 0)), some (.int a)] [] τ Q) := by
  intro K hKK
  obtain ⟨many, wide, high, bl, G, P, rule, dm, H, kc, KH, KN, rs, rd, ts, tb, ad, c, hI, hC, hT, hX⟩ := id h
  obtain ⟨hO, hg, hd40, hH, hKp, hDo⟩ := id hI
  obtain ⟨cS_, cP_, cR_, cL_, cK_, cD_, cd_⟩ := id hC
  obtain ⟨tS_, tP_, tL_, tK_, tD_⟩ := id hT
  have hN : plOK many P rule := hg.1.1
  have hV : plV many wide high bl G P := hg.1.2
  obtain ⟨a, ra, rfl⟩ := zI_of a
  by_cases b1 : 0 ≤ a ∧ a ≤ 5
  · obtain ⟨r, rfl⟩ : ∃ r : Nat, a = r := ⟨a.toNat, by omega⟩
    have hr := hDo.1 r (by omega)
    by_cases b2 : rs r = -1
    · exact c_tear_no cD_ (by omega) b2 ⟨_, rfl, t_tear_no tD_ hDo (by omega) b2 ⟨rfl, hKK _ _ _ (h.fnd 1 (by decide))⟩⟩
    · refine c_tear cD_ (by omega) (by omega) ⟨_, rfl, t_tear tD_ hDo (by omega) (by omega) (fun τ1 e2 D2 => ⟨rfl, hKK _ _ _ ?_⟩)⟩
      have e1 : cT [] σ (cRo σ r none) := ⟨fun _ _ => rfl, rfl, rfl, rfl, rfl, rfl, rfl, rfl, rfl⟩
      exact ⟨many, wide, high, bl, G, P, rule, dm, H, kc, KH, KN, _, rd, ts, tb, ad, c, ⟨hO, hg, hd40, hH, hKp, hDo.r (by omega)⟩, (hC.t e1 (by decide) (by decide) (by decide) (by decide) (by decide) (cDt_tear cD_)), (hT.d e2 (by decide) (by decide) D2), hX.t e1 e2 (by decide) (by decide) (by decide) (by decide) (by decide)⟩
  · exact c_tear_bad ra b1 ⟨_, rfl, t_tear_bad ra b1 ⟨rfl, hKK _ _ _ h⟩⟩
theorem s_copy {E : jEnv} {α β : Nat → Nat} {σ : cS} {τ : tS} (h : Inv σ τ) (a i b j n : Int32) : Ag (fun Q => jX0_copy E α 0 [some (.ref (α 0)), some (.int a), some (.int i), some (.int b), some (.int j), some (.int n), none] [] σ Q) (fun Q => jX2_copy E β 0 [some (.ref (β 0)), some (.int a), some (.int i), some (.int b), some (.int j), some (.int n), none] [] τ Q) := by
  intro K hKK
  obtain ⟨many, wide, high, bl, G, P, rule, dm, H, kc, KH, KN, rs, rd, ts, tb, ad, c, hI, hC, hT, hX⟩ := id h
  obtain ⟨hO, hg, hd40, hH, hKp, hDo⟩ := id hI
  obtain ⟨cS_, cP_, cR_, cL_, cK_, cD_, cd_⟩ := id hC
  obtain ⟨tS_, tP_, tL_, tK_, tD_⟩ := id hT
  have hN : plOK many P rule := hg.1.1
  have hV : plV many wide high bl G P := hg.1.2
  obtain ⟨a, ra, rfl⟩ := zI_of a
  obtain ⟨i, ri, rfl⟩ := zI_of i
  obtain ⟨b, rb, rfl⟩ := zI_of b
  obtain ⟨j, rj, rfl⟩ := zI_of j
  obtain ⟨n, rn, rfl⟩ := zI_of n
  by_cases b1 : ¬ (0 ≤ a ∧ a ≤ 5) ∨ ¬ (0 ≤ b ∧ b ≤ 5)
  · exact c_copy_bad ra rb b1 ⟨_, rfl, t_copy_bad ra rb b1 ⟨rfl, hKK _ _ _ h⟩⟩
  · obtain ⟨r, rfl⟩ : ∃ r : Nat, a = r := ⟨a.toNat, by omega⟩
    obtain ⟨q, rfl⟩ : ∃ q : Nat, b = q := ⟨b.toNat, by omega⟩
    have hr := hDo.1 r (by omega)
    have hq := hDo.1 q (by omega)
    by_cases b2 : n < 0
    · exact c_copy_neg (by omega) (by omega) rn b2 ⟨_, rfl, t_copy_neg (by omega) (by omega) rn b2 ⟨rfl, hKK _ _ _ (h.fnd 5 (by decide))⟩⟩
    · by_cases b3 : rs r = -1 ∨ rs q = -1
      · exact c_copy_no cD_ (by omega) (by omega) rn (by omega) b3 ⟨_, rfl, t_copy_no tD_ hDo (by omega) (by omega) rn (by omega) b3 ⟨rfl, hKK _ _ _ (h.fnd 1 (by decide))⟩⟩
      · by_cases b4 : i < 0 ∨ j < 0 ∨ rs r < i + n ∨ rs q < j + n
        · exact c_copy_out cD_ (by omega) (by omega) ri rj rn (by omega) (by omega) b4 ⟨_, rfl, t_copy_out tD_ hDo (by omega) (by omega) ri rj rn (by omega) (by omega) b4 ⟨rfl, hKK _ _ _ (h.fnd 2 (by decide))⟩⟩
        · obtain ⟨i', rfl⟩ : ∃ i' : Nat, i = i' := ⟨i.toNat, by omega⟩
          obtain ⟨j', rfl⟩ : ∃ j' : Nat, j = j' := ⟨j.toNat, by omega⟩
          obtain ⟨n', rfl⟩ : ∃ n' : Nat, n = n' := ⟨n.toNat, by omega⟩
          refine c_copy cD_ (by omega) (by omega) (by omega) (by omega) (fun σ1 e1 D1 => ⟨_, rfl, t_copy tD_ hDo (by omega) (by omega) (by omega) (by omega) (fun τ1 e2 D2 => ⟨rfl, hKK _ _ _ ?_⟩)⟩)
          exact ⟨many, wide, high, bl, G, P, rule, dm, H, kc, KH, KN, rs, _, ts, tb, ad, c, ⟨hO, hg, hd40, hH, hKp, hDo⟩, (hC.t e1 (by decide) (by decide) (by decide) (by decide) (by decide) D1), (hT.d e2 (by decide) (by decide) D2), hX.t e1 e2 (by decide) (by decide) (by decide) (by decide) (by decide)⟩
theorem s_mean {E : jEnv} {α β : Nat → Nat} {σ : cS} {τ : tS} (h : Inv σ τ) (a : Int32) : Ag (fun Q => jX0_mean E α 0 [some (.ref (α 0)), some (.int a), none, none, none, none, none, none] [] σ Q) (fun Q => jX2_mean E β 0 [some (.ref (β 0)), some (.int a), none, none, none] [] τ Q) := by
  intro K hKK
  obtain ⟨many, wide, high, bl, G, P, rule, dm, H, kc, KH, KN, rs, rd, ts, tb, ad, c, hI, hC, hT, hX⟩ := id h
  obtain ⟨hO, hg, hd40, hH, hKp, hDo⟩ := id hI
  obtain ⟨cS_, cP_, cR_, cL_, cK_, cD_, cd_⟩ := id hC
  obtain ⟨tS_, tP_, tL_, tK_, tD_⟩ := id hT
  have hN : plOK many P rule := hg.1.1
  have hV : plV many wide high bl G P := hg.1.2
  obtain ⟨a, ra, rfl⟩ := zI_of a
  by_cases b1 : 0 ≤ a ∧ a ≤ 5
  · obtain ⟨r, rfl⟩ : ∃ r : Nat, a = r := ⟨a.toNat, by omega⟩
    have hr := hDo.1 r (by omega)
    by_cases b2 : rs r = -1
    · exact c_mean_no cD_ (by omega) b2 ⟨_, rfl, t_mean_no tD_ hDo (by omega) b2 ⟨rfl, hKK _ _ _ (h.fnd 1 (by decide))⟩⟩
    · by_cases b3 : rs r = 0
      · exact c_mean_0 cD_ (by omega) b3 ⟨_, rfl, t_mean_0 tD_ hDo (by omega) b3 ⟨rfl, hKK _ _ _ (h.fnd 4 (by decide))⟩⟩
      · obtain ⟨n, hn⟩ : ∃ n : Nat, rs r = n := ⟨(rs r).toNat, by omega⟩
        exact c_mean cD_ (by omega) hn (by omega) ⟨_, rfl, t_mean tD_ hDo (by omega) hn (by omega) ⟨rfl, hKK _ _ _ (h.ask _)⟩⟩
  · exact c_mean_bad ra b1 ⟨_, rfl, t_mean_bad ra b1 ⟨rfl, hKK _ _ _ h⟩⟩
theorem s_text {E : jEnv} {α β : Nat → Nat} {σ : cS} {τ : tS} (h : Inv σ τ) (a b : Int32) : Ag (fun Q => jX0_text E α 0 [some (.ref (α 0)), some (.int a), some (.int b), none, none] [] σ Q) (fun Q => jX2_text E β 0 [some (.ref (β 0)), some (.int a), some (.int b), none] [] τ Q) := by
  intro K hKK
  obtain ⟨many, wide, high, bl, G, P, rule, dm, H, kc, KH, KN, rs, rd, ts, tb, ad, c, hI, hC, hT, hX⟩ := id h
  obtain ⟨hO, hg, hd40, hH, hKp, hDo⟩ := id hI
  obtain ⟨cS_, cP_, cR_, cL_, cK_, cD_, cd_⟩ := id hC
  obtain ⟨tS_, tP_, tL_, tK_, tD_⟩ := id hT
  have hN : plOK many P rule := hg.1.1
  have hV : plV many wide high bl G P := hg.1.2
  obtain ⟨a, ra, rfl⟩ := zI_of a
  obtain ⟨b, rb, rfl⟩ := zI_of b
  by_cases b1 : ¬ (0 ≤ a ∧ a ≤ 3) ∨ 120 < b
  · exact c_text_bad ra rb b1 ⟨_, rfl, t_text_bad ra rb b1 ⟨rfl, hKK _ _ _ h⟩⟩
  · obtain ⟨r, rfl⟩ : ∃ r : Nat, a = r := ⟨a.toNat, by omega⟩
    by_cases b2 : b < 0
    · exact c_text_neg (by omega) rb b2 ⟨_, rfl, t_text_neg (by omega) rb b2 ⟨rfl, hKK _ _ _ (h.fnd 5 (by decide))⟩⟩
    · obtain ⟨n, rfl⟩ : ∃ n : Nat, b = n := ⟨b.toNat, by omega⟩
      refine c_text cD_ (cd_ 0) (by omega) (by omega) (fun σ1 e1 D1 => ⟨_, rfl, t_text tD_ hDo (by omega) (by omega) (fun τ1 e2 D2 => ⟨rfl, hKK _ _ _ ?_⟩)⟩)
      exact ⟨many, wide, high, bl, G, P, rule, dm, H, kc, KH, KN, rs, rd, _, _, ad, c, ⟨hO, hg, hd40, hH, hKp, hDo.t (by omega) (fun _ => by omega)⟩, (hC.t e1 (by decide) (by decide) (by decide) (by decide) (by decide) D1), (hT.d e2 (by decide) (by decide) D2), hX.t e1 e2 (by decide) (by decide) (by decide) (by decide) (by decide)⟩
theorem s_put {E : jEnv} {α β : Nat → Nat} {σ : cS} {τ : tS} (h : Inv σ τ) (a b x : Int32) : Ag (fun Q => jX0_put E α 0 [some (.ref (α 0)), some (.int a), some (.int b), some (.int x), none] [] σ Q) (fun Q => jX2_put E β 0 [some (.ref (β 0)), some (.int a), some (.int b), some (.int x), none] [] τ Q) := by
  intro K hKK
  obtain ⟨many, wide, high, bl, G, P, rule, dm, H, kc, KH, KN, rs, rd, ts, tb, ad, c, hI, hC, hT, hX⟩ := id h
  obtain ⟨hO, hg, hd40, hH, hKp, hDo⟩ := id hI
  obtain ⟨cS_, cP_, cR_, cL_, cK_, cD_, cd_⟩ := id hC
  obtain ⟨tS_, tP_, tL_, tK_, tD_⟩ := id hT
  have hN : plOK many P rule := hg.1.1
  have hV : plV many wide high bl G P := hg.1.2
  obtain ⟨a, ra, rfl⟩ := zI_of a
  obtain ⟨b, rb, rfl⟩ := zI_of b
  obtain ⟨x, rx, rfl⟩ := zI_of x
  by_cases b1 : 0 ≤ a ∧ a ≤ 3
  · obtain ⟨r, rfl⟩ : ∃ r : Nat, a = r := ⟨a.toNat, by omega⟩
    have hr := hDo.2.1 r (by omega)
    by_cases b2 : ts r = -1
    · exact c_put_no cD_ (by omega) b2 ⟨_, rfl, t_put_no tD_ hDo (by omega) b2 ⟨rfl, hKK _ _ _ (h.fnd 1 (by decide))⟩⟩
    · by_cases b3 : 0 ≤ b ∧ b < ts r
      · obtain ⟨i, rfl⟩ : ∃ i : Nat, b = i := ⟨b.toNat, by omega⟩
        refine c_put cD_ (by omega) (by omega) (fun σ1 e1 D1 => ⟨_, rfl, t_put tD_ hDo (by omega) (by omega) (fun τ1 e2 D2 => ⟨rfl, hKK _ _ _ ?_⟩)⟩)
        refine ⟨many, wide, high, bl, G, P, rule, dm, H, kc, KH, KN, rs, rd, ts, _, ad, c, ⟨hO, hg, hd40, hH, hKp, hDo.b (fun j => ?_)⟩, (hC.t e1 (by decide) (by decide) (by decide) (by decide) (by decide) D1), (hT.d e2 (by decide) (by decide) D2), hX.t e1 e2 (by decide) (by decide) (by decide) (by decide) (by decide)⟩
        unfold upk
        by_cases e : j = i
        · rw [if_pos e]; exact by8_r x
        · rw [if_neg e]; exact hDo.2.2 r j
      · exact c_put_out cD_ (by omega) (by omega) rb b3 ⟨_, rfl, t_put_out tD_ hDo (by omega) (by omega) rb b3 ⟨rfl, hKK _ _ _ (h.fnd 2 (by decide))⟩⟩
  · exact c_put_bad ra b1 ⟨_, rfl, t_put_bad ra b1 ⟨rfl, hKK _ _ _ h⟩⟩
