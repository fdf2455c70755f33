set_option maxRecDepth 100000
/-! the law: what holds between two calls -/
def good (many : Nat) (wide high bl : Int) (G : Nat → Nat → Int) (p : mPl) : Prop := plR many wide high bl G p ∧ plZ many p.1 ∧ plD many bl G p.1
def IP (many : Nat) (wide high bl : Int) (G P : Nat → Nat → Int) (rule : Int) (dm : Nat) (H : Nat → mPl) (kc : Nat → Int) (KH : Nat → Nat → mPl) (KN : Nat → mPl) (rs ts : Nat → Int) (tb : Nat → Nat → Int) : Prop := shOK many wide high bl G ∧ good many wide high bl G (P, rule) ∧ dm ≤ 40 ∧ (∀ d, d < dm → good many wide high bl G (H d)) ∧ (∀ k, k < 3 → (-1 ≤ kc k ∧ kc k ≤ 40) ∧ (0 ≤ kc k → good many wide high bl G (KN k) ∧ ∀ d : Nat, (d : Int) < kc k → good many wide high bl G (KH k d))) ∧ dtOK rs ts tb
def IC (many : Nat) (wide high bl : Int) (G P : Nat → Nat → Int) (rule : Int) (dm : Nat) (H : Nat → mPl) (kc : Nat → Int) (KH : Nat → Nat → mPl) (KN : Nat → mPl) (rs : Nat → Int) (rd : Nat → Nat → Int32) (ts : Nat → Int) (tb : Nat → Nat → Int) (ad : Nat → Nat) (c : Nat → Nat → Int) (σ : cS) : Prop := cSh many wide high bl G ad c σ ∧ cPl many P c ∧ cRl rule σ ∧ cLg many dm H σ ∧ cKc many kc KH KN σ ∧ cDt rs rd ts tb σ ∧ ∀ j, σ.d j = none
def IT (many : Nat) (wide high bl : Int) (G P : Nat → Nat → Int) (rule : Int) (dm : Nat) (H : Nat → mPl) (kc : Nat → Int) (KH : Nat → Nat → mPl) (KN : Nat → mPl) (rs : Nat → Int) (rd : Nat → Nat → Int32) (ts : Nat → Int) (tb : Nat → Nat → Int) (τ : tS) : Prop := tSh many wide high bl G τ ∧ tPl P rule τ ∧ tLg dm H τ ∧ tKp kc KH KN τ ∧ tDt rs rd ts tb τ
def IX (σ : cS) (τ : tS) : Prop := σ.i 0 = τ.1 1 ∧ σ.i 2 = τ.1 0 ∧ ∀ k, 1 ≤ k → k ≤ 5 → σ.a 1 k = τ.2.1 2 k
def Inv (σ : cS) (τ : tS) : Prop := ∃ many wide high bl G P rule dm H kc KH KN rs rd ts tb ad c, IP many wide high bl G P rule dm H kc KH KN rs ts tb ∧ IC many wide high bl G P rule dm H kc KH KN rs rd ts tb ad c σ ∧ IT many wide high bl G P rule dm H kc KH KN rs rd ts tb τ ∧ IX σ τ
/-- two calls, one behind the other, answer alike and keep what holds -/
def Ag (Jc : (Option Value → cS → Prop) → Prop) (Jt : (Option Value → tS → Prop) → Prop) : Prop := ∀ K : Int32 → cS → tS → Prop, (∀ v σ' τ', Inv σ' τ' → K v σ' τ') → Jc (fun r σ' => ∃ v, r = some (.int v) ∧ Jt (fun r' τ' => r' = some (.int v) ∧ K v σ' τ'))
section IN
variable {many : Nat} {wide high bl : Int} {G P : Nat → Nat → Int} {rule : Int} {dm : Nat} {H : Nat → mPl} {kc : Nat → Int} {KH : Nat → Nat → mPl} {KN : Nat → mPl} {rs : Nat → Int} {rd : Nat → Nat → Int32} {ts : Nat → Int} {tb : Nat → Nat → Int} {ad : Nat → Nat} {c : Nat → Nat → Int} {σ σ' : cS} {τ τ' : tS} {I A : List Nat}
theorem IC.q (h : IC many wide high bl G P rule dm H kc KH KN rs rd ts tb ad c σ) (e : cQ I A σ σ') (h5 : 5 ∉ I) (h6 : 6 ∉ I) (h7 : 7 ∉ I) (h8 : 8 ∉ I) (h30 : 30 ∉ I) (h31 : 31 ∉ A) : IC many wide high bl G P rule dm H kc KH KN rs rd ts tb ad c σ' := by
  obtain ⟨a1, a2, a3, a4, a5, a6, a7⟩ := h
  refine ⟨a1.up e h5 h6 h7 h8, a2, ?_, ?_, ?_, ?_, ?_⟩
  · unfold cRl at *; rw [e.2.2]; exact a3
  · unfold cLg at *; rw [e.1.1 30 h30, e.1.2.1 31 h31]; exact a4
  · unfold cKc at *; rw [e.1.2.2.2.2.2.2.1]; exact a5
  · unfold cDt at *; rw [e.1.2.2.2.1, e.1.2.2.2.2.1]; exact a6
  · rw [e.1.2.2.2.2.2.2.2.2]; exact a7
theorem IC.p {P' : Nat → Nat → Int} {rule' : Int} {dm' : Nat} {H' : Nat → mPl} {c' : Nat → Nat → Int} (h : IC many wide high bl G P rule dm H kc KH KN rs rd ts tb ad c σ) (e : cP I A σ σ') (S : cSh many wide high bl G ad c' σ') (hP : cPl many P' c') (hR : cRl rule' σ') (hL : cLg many dm' H' σ') : IC many wide high bl G P' rule' dm' H' kc KH KN rs rd ts tb ad c' σ' := by
  obtain ⟨a1, a2, a3, a4, a5, a6, a7⟩ := h
  refine ⟨S, hP, hR, hL, ?_, ?_, ?_⟩
  · unfold cKc at *; rw [e.2.2.2.2.2.2.1]; exact a5
  · unfold cDt at *; rw [e.2.2.2.1, e.2.2.2.2.1]; exact a6
  · rw [e.2.2.2.2.2.2.2.2]; exact a7
theorem IC.t {rs' : Nat → Int} {rd' : Nat → Nat → Int32} {ts' : Nat → Int} {tb' : Nat → Nat → Int} (h : IC many wide high bl G P rule dm H kc KH KN rs rd ts tb ad c σ) (e : cT I σ σ') (h5 : 5 ∉ I) (h6 : 6 ∉ I) (h7 : 7 ∉ I) (h8 : 8 ∉ I) (h30 : 30 ∉ I) (hD : cDt rs' rd' ts' tb' σ') : IC many wide high bl G P rule dm H kc KH KN rs' rd' ts' tb' ad c σ' := by
  obtain ⟨a1, a2, a3, a4, a5, a6, a7⟩ := h
  refine ⟨?_, a2, ?_, ?_, ?_, hD, ?_⟩
  · unfold cSh at *; rw [e.1 5 h5, e.1 6 h6, e.1 7 h7, e.1 8 h8, e.2.2.2.1]; exact a1
  · unfold cRl at *; rw [e.2.2.2.2.2.2.1]; exact a3
  · unfold cLg at *; rw [e.1 30 h30, e.2.1]; exact a4
  · unfold cKc at *; rw [e.2.2.2.2.2.1]; exact a5
  · rw [e.2.2.2.2.2.2.2.2]; exact a7
theorem IT.q {P' : Nat → Nat → Int} {rule' : Int} {dm' : Nat} {H' : Nat → mPl} (h : IT many wide high bl G P rule dm H kc KH KN rs rd ts tb τ) (e : tEq I A τ τ') (hI : 8 ∉ I ∧ 9 ∉ I ∧ 10 ∉ I ∧ 11 ∉ I) (hA : 12 ∉ A ∧ 38 ∉ A ∧ 39 ∉ A ∧ 3 ∉ A ∧ 4 ∉ A ∧ 6 ∉ A ∧ 7 ∉ A) (hP : tPl P' rule' τ') (hL : tLg dm' H' τ') : IT many wide high bl G P' rule' dm' H' kc KH KN rs rd ts tb τ' := by
  obtain ⟨a1, a2, a3, a4, a5⟩ := h
  refine ⟨?_, hP, hL, ?_, ?_⟩
  · unfold tSh at *; rw [e.1 8 hI.1, e.1 9 hI.2.1, e.1 10 hI.2.2.1, e.1 11 hI.2.2.2, e.2.1 12 hA.1]; exact a1
  · unfold tKp at *; rw [e.2.1 38 hA.2.1, e.2.1 39 hA.2.2.1]; exact a4
  · unfold tDt at *; rw [e.2.1 3 hA.2.2.2.1, e.2.1 4 hA.2.2.2.2.1, e.2.1 6 hA.2.2.2.2.2.1, e.2.1 7 hA.2.2.2.2.2.2]; exact a5
theorem tPl.keep (h : tPl P rule τ) (e : tEq I A τ τ') (hA : 23 ∉ A) : tPl P rule τ' := by unfold tPl at *; rw [e.2.1 23 hA]; exact h
theorem tLg.keep (h : tLg dm H τ) (e : tEq I A τ τ') (hI : 36 ∉ I) (hA : 37 ∉ A) : tLg dm H τ' := by unfold tLg at *; rw [e.1 36 hI, e.2.1 37 hA]; exact h
theorem IT.s (h : IT many wide high bl G P rule dm H kc KH KN rs rd ts tb τ) (e : tEq I A τ τ') (hI : 8 ∉ I ∧ 9 ∉ I ∧ 10 ∉ I ∧ 11 ∉ I) (hA : 12 ∉ A ∧ 38 ∉ A ∧ 39 ∉ A ∧ 3 ∉ A ∧ 4 ∉ A ∧ 6 ∉ A ∧ 7 ∉ A) (h36 : 36 ∉ I) (h23 : 23 ∉ A ∧ 37 ∉ A) : IT many wide high bl G P rule dm H kc KH KN rs rd ts tb τ' := h.q e hI hA (h.2.1.keep e h23.1) (h.2.2.1.keep e h36 h23.2)
theorem IT.d {rs' : Nat → Int} {rd' : Nat → Nat → Int32} {ts' : Nat → Int} {tb' : Nat → Nat → Int} (h : IT many wide high bl G P rule dm H kc KH KN rs rd ts tb τ) (e : tEq I A τ τ') (hI : 8 ∉ I ∧ 9 ∉ I ∧ 10 ∉ I ∧ 11 ∉ I ∧ 36 ∉ I) (hA : 12 ∉ A ∧ 38 ∉ A ∧ 39 ∉ A ∧ 23 ∉ A ∧ 37 ∉ A) (hD : tDt rs' rd' ts' tb' τ') : IT many wide high bl G P rule dm H kc KH KN rs' rd' ts' tb' τ' := by
  obtain ⟨a1, a2, a3, a4, a5⟩ := h
  refine ⟨?_, a2.keep e hA.2.2.2.1, a3.keep e hI.2.2.2.2 hA.2.2.2.2, ?_, hD⟩
  · unfold tSh at *; rw [e.1 8 hI.1, e.1 9 hI.2.1, e.1 10 hI.2.2.1, e.1 11 hI.2.2.2.1, e.2.1 12 hA.1]; exact a1
  · unfold tKp at *; rw [e.2.1 38 hA.2.1, e.2.1 39 hA.2.2.1]; exact a4
theorem Inv.fnd (h : Inv σ τ) (m : Nat) (hm : 1 ≤ m ∧ m ≤ 5) : Inv (cAr (cI σ 0 (zI m)) 1 (upd (σ.a 1) m (σ.a 1 m + zI 1))) (setA (setI τ 1 (zI m)) 2 (upd (τ.2.1 2) m (τ.2.1 2 m + zI 1))) := by
  obtain ⟨many, wide, high, bl, G, P, rule, dm, H, kc, KH, KN, rs, rd, ts, tb, ad, c, h1, h2, h3, h4⟩ := h
  refine ⟨many, wide, high, bl, G, P, rule, dm, H, kc, KH, KN, rs, rd, ts, tb, ad, c, h1, ?_, ?_, rfl, h4.2.1, fun k k1 k2 => ?_⟩
  · exact h2
  · exact h3
  · show upd (σ.a 1) m (σ.a 1 m + zI 1) k = upd (τ.2.1 2) m (τ.2.1 2 m + zI 1) k
    by_cases z : k = m
    · subst z; rw [upd_s, upd_s, h4.2.2 k k1 k2]
    · rw [upd_n z, upd_n z, h4.2.2 k k1 k2]
theorem Inv.ask (h : Inv σ τ) (v : Int32) : Inv (cI σ 2 v) (setI τ 0 v) := by
  obtain ⟨many, wide, high, bl, G, P, rule, dm, H, kc, KH, KN, rs, rd, ts, tb, ad, c, h1, h2, h3, h4⟩ := h
  exact ⟨many, wide, high, bl, G, P, rule, dm, H, kc, KH, KN, rs, rd, ts, tb, ad, c, h1, h2, h3, h4.1, rfl, h4.2.2⟩
end IN
