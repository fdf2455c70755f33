/-! plain words: which is next, from the end; what is not set; frames lie apart; areas -/
/-- the next one so far, from j on -/
def slC (wt : Nat → Int) (m n j : Nat) (z : Int) : Prop := (z = -9 ∧ ∀ k, j ≤ k → k < n → m.testBit k = true) ∨ ∃ k : Nat, z = k ∧ j ≤ k ∧ k < n ∧ m.testBit k = false ∧ ∀ i, j ≤ i → i < n → m.testBit i = false → wt i ≤ wt k ∧ (i < k → wt i < wt k)
theorem slC_0 (wt : Nat → Int) (m n : Nat) : slC wt m n n (-9) := Or.inl ⟨rfl, fun k a b => by omega⟩
theorem slC_y {wt : Nat → Int} {m n j : Nat} {z : Int} (h : slC wt m n (j + 1) z) (hj : j < n) (hm : m.testBit j = false) (hw : z = -9 ∨ wt z.toNat ≤ wt j) : slC wt m n j (j : Int) := by
  refine Or.inr ⟨j, rfl, Nat.le_refl _, hj, hm, fun i a b c => ?_⟩
  by_cases e : i = j
  · subst e; exact ⟨Int.le_refl _, fun q => by omega⟩
  · rcases h with ⟨h1, h2⟩ | ⟨k, h1, h2, h3, h4, h5⟩
    · have := h2 i (by omega) b
      rw [c] at this; cases this
    · have := h5 i (by omega) b c
      subst h1
      rcases hw with w | w
      · omega
      · simp only [Int.toNat_natCast] at w
        exact ⟨by omega, fun q => by omega⟩
theorem slC_n1 {wt : Nat → Int} {m n j : Nat} {z : Int} (h : slC wt m n (j + 1) z) (hm : m.testBit j = true) : slC wt m n j z := by
  have key : ∀ i, j ≤ i → m.testBit i = false → j + 1 ≤ i := by
    intro i a b
    by_cases e : i = j
    · subst e; rw [hm] at b; cases b
    · omega
  rcases h with ⟨h1, h2⟩ | ⟨k, h1, h2, h3, h4, h5⟩
  · refine Or.inl ⟨h1, fun i a b => ?_⟩
    by_cases e : i = j
    · subst e; exact hm
    · exact h2 i (by omega) b
  · exact Or.inr ⟨k, h1, by omega, h3, h4, fun i a b c => h5 i (key i a c) b c⟩
theorem slC_n2 {wt : Nat → Int} {m n j : Nat} {z : Int} (h : slC wt m n (j + 1) z) (hz : z ≠ -9) (hw : wt j < wt z.toNat) : slC wt m n j z := by
  rcases h with ⟨h1, h2⟩ | ⟨k, h1, h2, h3, h4, h5⟩
  · exact absurd h1 hz
  · subst h1
    simp only [Int.toNat_natCast] at hw
    refine Or.inr ⟨k, rfl, by omega, h3, h4, fun i a b c => ?_⟩
    by_cases e : i = j
    · subst e; exact ⟨by omega, fun _ => hw⟩
    · exact h5 i (by omega) b c
theorem mSel_c (wt : Nat → Int) (m : Nat) : ∀ n, slC wt m n 0 (mSel wt m n)
  | 0 => Or.inl ⟨rfl, fun k a b => by omega⟩
  | n + 1 => by
    have ih := mSel_c wt m n
    rw [mSel]
    split
    · rename_i h
      refine Or.inr ⟨n, rfl, by omega, by omega, h.1, fun i a b c => ?_⟩
      by_cases e : i = n
      · subst e; exact ⟨Int.le_refl _, fun q => by omega⟩
      · rcases ih with ⟨h1, h2⟩ | ⟨k, h1, h2, h3, h4, h5⟩
        · have := h2 i (by omega) (by omega)
          rw [c] at this; cases this
        · rcases h.2 with w | w
          · rw [h1] at w; omega
          · rw [h1] at w
            simp only [Int.toNat_natCast] at w
            have := h5 i (by omega) (by omega) c
            exact ⟨by omega, fun _ => by omega⟩
    · rename_i h
      rcases ih with ⟨h1, h2⟩ | ⟨k, h1, h2, h3, h4, h5⟩
      · refine Or.inl ⟨h1, fun i a b => ?_⟩
        by_cases e : i = n
        · subst e
          cases hb : m.testBit i with
          | true => rfl
          | false => exact absurd ⟨hb, Or.inl h1⟩ h
        · exact h2 i (by omega) (by omega)
      · refine Or.inr ⟨k, h1, by omega, by omega, h4, fun i a b c => ?_⟩
        by_cases e : i = n
        · subst e
          have : ¬ wt (mSel wt m i).toNat < wt i := fun q => h ⟨c, Or.inr q⟩
          rw [h1] at this
          simp only [Int.toNat_natCast] at this
          exact ⟨by omega, fun q => by omega⟩
        · exact h5 i (by omega) (by omega) c
theorem slC_end {wt : Nat → Int} {m n : Nat} {z : Int} (h : slC wt m n 0 z) : z = mSel wt m n := by
  rcases h with ⟨h1, h2⟩ | ⟨k, h1, h2, h3, h4, h5⟩ <;> rcases mSel_c wt m n with ⟨g1, g2⟩ | ⟨l, g1, g2, g3, g4, g5⟩
  · rw [h1, g1]
  · have := h2 l (by omega) g3
    rw [g4] at this; cases this
  · have := g2 k (by omega) h3
    rw [h4] at this; cases this
  · have a := h5 l (by omega) g3 g4
    have b := g5 k (by omega) h3 h4
    rw [h1, g1]
    rcases Nat.lt_trichotomy k l with z | z | z
    · have := b.2 z; omega
    · omega
    · have := a.2 z; omega
/-- frames lie apart -/
def plD (many : Nat) (bl : Int) (G P : Nat → Nat → Int) : Prop := ∀ f g, f < many → g < many → f ≠ g → 0 ≤ P f 0 → P f 0 = P g 0 → P f 1 + mNX bl G f (P f 3) ≤ P g 1 ∨ P g 1 + mNX bl G g (P g 3) ≤ P f 1 ∨ P f 2 + mNY bl G f (P f 3) ≤ P g 2 ∨ P g 2 + mNY bl G g (P g 3) ≤ P f 2
section PD
variable {many : Nat} {wide high bl : Int} {G P : Nat → Nat → Int} {rule : Int}
theorem plD_0 : plD many bl G P0 := fun f g _ _ _ h _ => by
  have : P0 f 0 = -1 := rfl
  omega
theorem setP_0 {f : Nat} {a b c d : Int} : setP P f a b c d f 0 = a ∧ setP P f a b c d f 1 = b ∧ setP P f a b c d f 2 = c ∧ setP P f a b c d f 3 = d := by simp [setP]
theorem setP_n {f g : Nat} {a b c d : Int} (h : g ≠ f) (k : Nat) : setP P f a b c d g k = P g k := by simp [setP, h]
theorem plD_lift (h : plD many bl G P) (f : Nat) : plD many bl G (setP P f (-1) 0 0 0) := by
  intro a b ha hb hab h0 he
  by_cases z : a = f
  · subst z
    rw [setP_0.1] at h0; omega
  · by_cases y : b = f
    · subst y
      rw [he, setP_0.1] at h0; omega
    · simp only [setP_n z, setP_n y] at *
      exact h a b ha hb hab h0 he
theorem plD_put (hO : shOK many wide high bl G) (h : plD many bl G P) {f : Nat} (hf : f < many) {p : Int} (hp : 0 ≤ p) {r : rct} {t : Int} (hr : frB wide high (gO bl G P p many) r.1 r.2.1 r.2.2.1 r.2.2.2) (h1 : mNX bl G f t ≤ r.2.2.1) (h2 : mNY bl G f t ≤ r.2.2.2) : plD many bl G (setP P f p r.1 r.2.1 t) := by
  have key : ∀ b, b < many → P b 0 = p → r.1 + mNX bl G f t ≤ P b 1 ∨ P b 1 + mNX bl G b (P b 3) ≤ r.1 ∨ r.2.1 + mNY bl G f t ≤ P b 2 ∨ P b 2 + mNY bl G b (P b 3) ≤ r.2.1 := by
    intro b hb hq
    rcases Classical.em (r.1 + mNX bl G f t ≤ P b 1 ∨ P b 1 + mNX bl G b (P b 3) ≤ r.1 ∨ r.2.1 + mNY bl G f t ≤ P b 2 ∨ P b 2 + mNY bl G b (P b 3) ≤ r.2.1) with z | z
    · exact z
    · exfalso
      have nx := mNX_b hO hb (P b 3)
      have ny := mNY_b hO hb (P b 3)
      have mx := mNX_b hO hf t
      have my := mNY_b hO hf t
      have hx : ∃ x, r.1 ≤ x ∧ x < r.1 + mNX bl G f t ∧ P b 1 ≤ x ∧ x < P b 1 + mNX bl G b (P b 3) := by
        by_cases k : P b 1 ≤ r.1
        · exact ⟨r.1, by omega, by omega, by omega, by omega⟩
        · exact ⟨P b 1, by omega, by omega, by omega, by omega⟩
      have hy : ∃ y, r.2.1 ≤ y ∧ y < r.2.1 + mNY bl G f t ∧ P b 2 ≤ y ∧ y < P b 2 + mNY bl G b (P b 3) := by
        by_cases k : P b 2 ≤ r.2.1
        · exact ⟨r.2.1, by omega, by omega, by omega, by omega⟩
        · exact ⟨P b 2, by omega, by omega, by omega, by omega⟩
      obtain ⟨x, x1, x2, x3, x4⟩ := hx
      obtain ⟨y, y1, y2, y3, y4⟩ := hy
      exact (gO_free many).mp (hr.2.2.2.2 x y x1 (by omega) y1 (by omega)) b hb hq ⟨x3, x4, y3, y4⟩
  intro a b ha hb hab h0 he
  by_cases z : a = f
  · subst z
    have y : b ≠ a := fun e => hab e.symm
    rw [setP_0.1, setP_n y] at he
    simp only [setP_n y]
    rw [setP_0.2.1, setP_0.2.2.1, setP_0.2.2.2]
    exact key b hb he.symm
  · by_cases y : b = f
    · subst y
      rw [setP_0.1, setP_n z] at he
      simp only [setP_n z]
      rw [setP_0.2.1, setP_0.2.2.1, setP_0.2.2.2]
      have := key a ha he
      omega
    · simp only [setP_n z, setP_n y] at *
      exact h a b ha hb hab h0 he
theorem plD_mPut (hO : shOK many wide high bl G) (h : plD many bl G P) {f : Nat} (hf : f < many) : plD many bl G (mPut many wide high bl G rule P f) := by
  have hs := hO.s
  by_cases z : ∃ p, mPage many wide high bl G P rule f p
  · obtain ⟨p, hp⟩ := z
    rw [mPut_p hp]
    obtain ⟨-, -, -, a, b, c⟩ := mRoom_ok hO hf (frL_ok (by omega) (by omega) _) hp.2.2.2.1
    exact plD_put hO h hf hp.1 a.2.2.1 b c
  · have : mFind many wide high bl G rule P f = -9 := by
      unfold mFind
      rw [dif_neg z]
    unfold mPut
    rw [if_pos this]
    exact h
theorem plD_mAll (hO : shOK many wide high bl G) {o : Int} : ∀ n, n ≤ many → plD many bl G (mAll many wide high bl G rule o n).1
  | 0, _ => plD_0
  | n + 1, hn => by
    have hs := hO.s
    have := mAll_sel (bl := bl) (wide := wide) (high := high) (G := G) (rule := rule) (o := o) hs.1 (n := n) (by omega)
    exact plD_mPut hO (plD_mAll hO n (by omega)) (by omega)
theorem plD_draw (hO : shOK many wide high bl G) (hm : 0 < many) {v : Nat} {p : mPl} (h : plD many bl G p.1) : plD many bl G (mDraw many wide high bl G v p).1 := by
  have hv : v / 8 % many < many := Nat.mod_lt _ hm
  unfold mDraw
  split
  · exact h
  · split
    · exact plD_lift h _
    · split
      · exact h
      · exact plD_mPut hO h hv
theorem plD_lots (hO : shOK many wide high bl G) (hm : 0 < many) {s : Nat} {p : mPl} (h : plD many bl G p.1) : ∀ n, plD many bl G (mLots many wide high bl G s p n).1
  | 0 => h
  | n + 1 => plD_draw hO hm (plD_lots hO hm h n)
/-- a place on a page is one frame's -/
theorem plD_one (h : plD many bl G P) {page i j : Int} (hp : 0 ≤ page) {f : Nat} (hf : f < many) (h0 : P f 0 = page) (h1 : P f 1 ≤ i ∧ i < P f 1 + mNX bl G f (P f 3) ∧ P f 2 ≤ j ∧ j < P f 2 + mNY bl G f (P f 3)) : gO bl G P page many i j = f := by
  rcases gO_cases (bl := bl) (G := G) (P := P) (page := page) (i := i) (j := j) many with z | ⟨g, hg, e, q⟩
  · exact absurd h1 ((gO_free many).mp z f hf h0)
  · rw [e]
    by_cases k : f = g
    · rw [k]
    · have := h f g hf hg k (by omega) (by omega)
      omega
end PD
/-- what is not set, behind n turns -/
noncomputable def mNot (many : Nat) (wide high bl : Int) (G : Nat → Nat → Int) (rule o : Int) : Nat → Nat
  | 0 => 0
  | n + 1 => if mFind many wide high bl G rule (mAll many wide high bl G rule o n).1 (mSel (fun k => mWt bl G k o) (mAll many wide high bl G rule o n).2 many).toNat = -9 then mNot many wide high bl G rule o n ||| 2 ^ (mSel (fun k => mWt bl G k o) (mAll many wide high bl G rule o n).2 many).toNat else mNot many wide high bl G rule o n
section NT
variable {many : Nat} {wide high bl : Int} {G : Nat → Nat → Int} {rule o : Int}
theorem mFind_c {P : Nat → Nat → Int} {f : Nat} : mFind many wide high bl G rule P f = -9 ∨ mPage many wide high bl G P rule f (mFind many wide high bl G rule P f) := by
  by_cases z : ∃ p, mPage many wide high bl G P rule f p
  · obtain ⟨p, hp⟩ := z
    rw [mFind_p hp]
    exact Or.inr hp
  · left
    unfold mFind
    rw [dif_neg z]
theorem mPut_0 {P : Nat → Nat → Int} {f : Nat} (g : Nat) : mPut many wide high bl G rule P f g 0 = if g = f ∧ mFind many wide high bl G rule P f ≠ -9 then mFind many wide high bl G rule P f else P g 0 := by
  unfold mPut
  by_cases z : mFind many wide high bl G rule P f = -9
  · rw [if_pos z, if_neg (fun q => q.2 z)]
  · rw [if_neg z]
    by_cases y : g = f
    · subst y
      rw [if_pos ⟨rfl, z⟩, setP_0.1]
    · rw [if_neg (fun q => y q.1), setP_n y]
theorem mNot_ok (hm : many ≤ 8) : ∀ n, n ≤ many → ∀ f, f < many → ((mAll many wide high bl G rule o n).2.testBit f = false → (mAll many wide high bl G rule o n).1 f 0 = -1) ∧ (mNot many wide high bl G rule o n).testBit f = ((mAll many wide high bl G rule o n).2.testBit f && decide (¬ 0 ≤ (mAll many wide high bl G rule o n).1 f 0))
  | 0, _, f, _ => by
    refine ⟨fun _ => rfl, ?_⟩
    show (0 : Nat).testBit f = ((0 : Nat).testBit f && _)
    simp
  | n + 1, hn, f, hf => by
    obtain ⟨i1, i2⟩ := mNot_ok hm n (by omega) f hf
    have sb := mAll_sel (bl := bl) (wide := wide) (high := high) (G := G) (rule := rule) (o := o) hm (n := n) (by omega)
    have e1 : (mAll many wide high bl G rule o (n + 1)).1 = mPut many wide high bl G rule (mAll many wide high bl G rule o n).1 (mSel (fun k => mWt bl G k o) (mAll many wide high bl G rule o n).2 many).toNat := rfl
    have e2 : (mAll many wide high bl G rule o (n + 1)).2 = (mAll many wide high bl G rule o n).2 ||| 2 ^ (mSel (fun k => mWt bl G k o) (mAll many wide high bl G rule o n).2 many).toNat := rfl
    have sb2 := mSel_b (fun k => mWt bl G k o) (mAll many wide high bl G rule o n).2 many
    rw [e1, e2, mPut_0, mask_tb, mNot]
    generalize hS : (mSel (fun k => mWt bl G k o) (mAll many wide high bl G rule o n).2 many).toNat = S at *
    have hb : (mAll many wide high bl G rule o n).2.testBit S = false := by
      rcases sb2 with z | z
      · omega
      · exact z.2.2
    by_cases z : f = S
    · subst z
      have h0 := i1 hb
      rcases mFind_c (many := many) (wide := wide) (high := high) (bl := bl) (G := G) (rule := rule) (P := (mAll many wide high bl G rule o n).1) (f := f) with y | y
      · rw [if_neg (fun q => q.2 y), if_pos y]
        refine ⟨fun q => by simp at q, ?_⟩
        rw [mask_tb, h0]
        simp
      · have hp := y.1
        have hne : mFind many wide high bl G rule (mAll many wide high bl G rule o n).1 f ≠ -9 := by omega
        rw [if_pos ⟨rfl, hne⟩, if_neg hne]
        refine ⟨fun q => by simp at q, ?_⟩
        rw [i2, hb]
        simp [hp]
    · rw [if_neg (fun q => z q.1)]
      refine ⟨fun q => ?_, ?_⟩
      · simp only [Bool.or_eq_false_iff] at q
        exact i1 q.1
      · have hd : decide (S = f) = false := decide_eq_false (fun e => z e.symm)
        rw [hd, Bool.or_false, ← i2]
        split
        · rw [mask_tb, hd, Bool.or_false]
        · rfl
theorem mNot_hi (hm : many ≤ 8) : ∀ n, n ≤ many → mNot many wide high bl G rule o n < 256 ∧ ∀ f, many ≤ f → (mNot many wide high bl G rule o n).testBit f = false
  | 0, _ => ⟨by show 0 < 256; omega, fun f _ => by show (0 : Nat).testBit f = false; simp⟩
  | n + 1, hn => by
    have ih := mNot_hi hm n (by omega)
    have sb := mAll_sel (bl := bl) (wide := wide) (high := high) (G := G) (rule := rule) (o := o) hm (n := n) (by omega)
    rw [mNot]
    split
    · refine ⟨mask_lt _ ih.1 _ (by omega), fun f hf => ?_⟩
      rw [mask_tb, ih.2 f hf]
      simp
      omega
    · exact ih
theorem mMiss_tb (P : Nat → Nat → Int) (f : Nat) : ∀ n, (mMiss P n).testBit f = (decide (f < n) && decide (¬ 0 ≤ P f 0))
  | 0 => by simp [mMiss]
  | n + 1 => by
    rw [mMiss]
    split
    · rename_i h
      rw [mMiss_tb P f n]
      by_cases z : f = n
      · subst z; simp [h]
      · have : (f < n + 1) = (f < n) := by rw [eq_iff_iff]; omega
        simp only [this]
    · rename_i h
      rw [mask_tb, mMiss_tb P f n]
      by_cases z : f = n
      · subst z; simp [h]
      · have : (f < n + 1) = (f < n) := by rw [eq_iff_iff]; omega
        have hd : decide (n = f) = false := decide_eq_false (fun e => z e.symm)
        simp only [this, hd, Bool.or_false]
theorem cntB_all {m : Nat} : ∀ n, cntB m n = n → ∀ f, f < n → m.testBit f = true
  | 0, _, f, h => by omega
  | n + 1, e, f, h => by
    have := cntB_le m n
    rw [cntB] at e
    by_cases b : m.testBit n = true
    · rw [if_pos b] at e
      by_cases z : f = n
      · subst z; exact b
      · exact cntB_all n (by omega) f (by omega)
    · rw [if_neg b] at e
      omega
theorem mNot_end (hm : many ≤ 8) : mNot many wide high bl G rule o many = mMiss (mAll many wide high bl G rule o many).1 many := by
  refine Nat.eq_of_testBit_eq fun f => ?_
  rw [mMiss_tb]
  by_cases z : f < many
  · rw [(mNot_ok hm many (Nat.le_refl _) f z).2, cntB_all many (mAll_ok hm many (Nat.le_refl _)).2 f z]
    simp [z]
  · rw [(mNot_hi hm many (Nat.le_refl _)).2 f (by omega)]
    simp [z]
end NT
/-! areas -/
def sm (f : Nat → Nat) : Nat → Nat
  | 0 => 0
  | n + 1 => sm f n + f n
theorem sm_add {f g h : Nat → Nat} : ∀ n, (∀ i, i < n → h i = f i + g i) → sm h n = sm f n + sm g n
  | 0, _ => rfl
  | n + 1, e => by
    rw [sm, sm, sm, sm_add n (fun i hi => e i (by omega)), e n (by omega)]
    omega
theorem sm_le {f : Nat → Nat} {c : Nat} : ∀ n, (∀ i, i < n → f i ≤ c) → sm f n ≤ c * n
  | 0, _ => by simp [sm]
  | n + 1, e => by
    have := sm_le n (fun i hi => e i (by omega))
    have := e n (by omega)
    rw [sm, Nat.mul_succ]
    omega
theorem sm_eq {f g : Nat → Nat} : ∀ n, (∀ i, i < n → f i = g i) → sm f n = sm g n
  | 0, _ => rfl
  | n + 1, e => by rw [sm, sm, sm_eq n (fun i hi => e i (by omega)), e n (by omega)]
theorem sm_in {a b c : Nat} : ∀ n, b ≤ n → a ≤ b → sm (fun i => if a ≤ i ∧ i < b then c else 0) n = c * (b - a)
  | 0, h, h2 => by
    have : b - a = 0 := by omega
    simp [sm, this]
  | n + 1, h, h2 => by
    rw [sm]
    by_cases z : b ≤ n
    · rw [sm_in n z h2, if_neg (by omega)]; omega
    · by_cases y : a = b
      · have : sm (fun i => if a ≤ i ∧ i < b then c else 0) n = sm (fun _ => 0) n := sm_eq n (fun i hi => if_neg (by omega))
        rw [this, if_neg (by omega)]
        have h0 := sm_le (f := fun _ => 0) (c := 0) n (fun _ _ => Nat.le_refl _)
        have : b - a = 0 := by omega
        rw [this]
        omega
      · have e1 : sm (fun i => if a ≤ i ∧ i < b then c else 0) n = sm (fun i => if a ≤ i ∧ i < n then c else 0) n := sm_eq n (fun i hi => by
          by_cases w : a ≤ i
          · rw [if_pos (by omega), if_pos (by omega)]
          · rw [if_neg (by omega), if_neg (by omega)])
        rw [e1, sm_in n (Nat.le_refl _) (by omega), if_pos (by omega)]
        have : b - a = n - a + 1 := by omega
        rw [this, Nat.mul_succ]
/-- how many places of the page are taken -/
def cvr (g : Int → Int → Int) : Nat := sm (fun j => sm (fun i => if g (i : Int) (j : Int) = -9 then 0 else 1) 16) 16
theorem cvr_le (g : Int → Int → Int) : cvr g ≤ 256 := by
  refine sm_le (c := 16) 16 (fun j _ => ?_)
  refine sm_le (c := 1) 16 (fun i _ => ?_)
  split <;> omega
theorem taken_cvr {many : Nat} {wide high bl : Int} {G P : Nat → Nat → Int} {page : Int} (hO : shOK many wide high bl G) {rule : Int} (hN : plOK many P rule) (hV : plV many wide high bl G P) (hD : plD many bl G P) (hp : 0 ≤ page) : ∀ n, n ≤ many → mTaken bl G P page n = (cvr (gO bl G P page n) : Nat)
  | 0, _ => by
    have : cvr (gO bl G P page 0) = 0 := by
      have h := sm_le (f := fun j => sm (fun i => if gO bl G P page 0 ((i : Nat) : Int) ((j : Nat) : Int) = -9 then 0 else 1) 16) (c := 0) 16 (fun j _ => by
        have h := sm_le (f := fun i => if gO bl G P page 0 ((i : Nat) : Int) ((j : Nat) : Int) = -9 then 0 else 1) (c := 0) 16 (fun i _ => by simp [gO])
        simpa using h)
      unfold cvr
      omega
    rw [this]; rfl
  | n + 1, hn => by
    have ih := taken_cvr hO hN hV hD hp n (by omega)
    rw [mTaken]
    by_cases z : P n 0 = page
    · rw [if_pos z, ih, ← mN_prod (P n 3)]
      have hs := hO.s
      have b := hN.1 n (by omega)
      have v := hV n (by omega) (by omega)
      have nx := mNX_b hO (f := n) (by omega) (P n 3)
      have ny := mNY_b hO (f := n) (by omega) (P n 3)
      obtain ⟨x, hx⟩ := Int.eq_ofNat_of_zero_le (a := P n 1) (by omega)
      obtain ⟨y, hy⟩ := Int.eq_ofNat_of_zero_le (a := P n 2) (by omega)
      obtain ⟨w, hw⟩ := Int.eq_ofNat_of_zero_le (a := mNX bl G n (P n 3)) (by omega)
      obtain ⟨h, hh⟩ := Int.eq_ofNat_of_zero_le (a := mNY bl G n (P n 3)) (by omega)
      have key : cvr (gO bl G P page (n + 1)) = cvr (gO bl G P page n) + sm (fun j => sm (fun i => if x ≤ i ∧ i < x + w then (if y ≤ j ∧ j < y + h then 1 else 0) else 0) 16) 16 := by
        refine sm_add 16 (fun j hj => sm_add 16 (fun i hi => ?_))
        have e1 := gO_free (bl := bl) (G := G) (P := P) (page := page) (i := (i : Int)) (j := (j : Int)) n
        rw [gO]
        by_cases q : P n 0 = page ∧ P n 1 ≤ (i : Int) ∧ (i : Int) < P n 1 + mNX bl G n (P n 3) ∧ P n 2 ≤ (j : Int) ∧ (j : Int) < P n 2 + mNY bl G n (P n 3)
        · rw [if_pos q, if_neg (show ¬ ((n : Nat) : Int) = -9 by omega), if_pos (show x ≤ i ∧ i < x + w by omega), if_pos (show y ≤ j ∧ j < y + h by omega), if_pos]
          rw [e1]
          intro f hf h0 k
          have := hD n f (by omega) (by omega) (by omega) (by omega) (by omega)
          omega
        · rw [if_neg q]
          by_cases q1 : x ≤ i ∧ i < x + w
          · rw [if_pos q1, if_neg (show ¬ (y ≤ j ∧ j < y + h) by intro k; exact q ⟨z, by omega, by omega, by omega, by omega⟩)]
            omega
          · rw [if_neg q1]
            omega
      have e2 : sm (fun j => sm (fun i => if x ≤ i ∧ i < x + w then (if y ≤ j ∧ j < y + h then 1 else 0) else 0) 16) 16 = w * h := by
        have : ∀ j, j < 16 → sm (fun i => if x ≤ i ∧ i < x + w then (if y ≤ j ∧ j < y + h then 1 else 0) else 0) 16 = if y ≤ j ∧ j < y + h then w else 0 := by
          intro j _
          rw [sm_in 16 (by omega) (by omega)]
          split <;> simp
        rw [sm_eq 16 this, sm_in 16 (by omega) (by omega), Nat.add_sub_cancel_left]
      rw [key, e2, hw, hh]
      push_cast
      rfl
    · rw [if_neg z, ih]
      have : gO bl G P page (n + 1) = gO bl G P page n := funext fun i => funext fun j => gO_skip z
      rw [this]
      omega
theorem taken_b {many : Nat} {wide high bl : Int} {G P : Nat → Nat → Int} {page : Int} (hO : shOK many wide high bl G) {rule : Int} (hN : plOK many P rule) (hV : plV many wide high bl G P) (hD : plD many bl G P) (hp : 0 ≤ page) : 0 ≤ mTaken bl G P page many ∧ mTaken bl G P page many ≤ 256 := by
  rw [taken_cvr hO hN hV hD hp many (Nat.le_refl _)]
  have := cvr_le (gO bl G P page many)
  omega
/-- how good, as one number -/
def mBy (c : mC) : Int := (c.1 * 100 + c.2.1) * 1000 + c.2.2
theorem mBy_iff {a b : mC} (a1 : 0 ≤ a.2.1 ∧ a.2.1 ≤ 8) (a2 : 0 ≤ a.2.2 ∧ a.2.2 ≤ 256) (b1 : 0 ≤ b.2.1 ∧ b.2.1 ≤ 8) (b2 : 0 ≤ b.2.2 ∧ b.2.2 ≤ 256) : mBy a < mBy b ↔ bLess a b := by
  unfold mBy bLess
  omega
theorem mCand_l {many : Nat} {wide high bl : Int} {G : Nat → Nat → Int} (hO : shOK many wide high bl G) {c : Nat} (hc : c < 12) : 0 ≤ (mCand many wide high bl G c).2.2 ∧ (mCand many wide high bl G c).2.2 ≤ 256 := by
  have hR := mAll_R (o := ((c % 3 : Nat) : Int)) (rule := ((c / 3 : Nat) : Int)) hO (by omega) many (Nat.le_refl _)
  have hD := plD_mAll (o := ((c % 3 : Nat) : Int)) (rule := ((c / 3 : Nat) : Int)) hO many (Nat.le_refl _)
  have hb : 0 ≤ pgM (mAll many wide high bl G ((c / 3 : Nat) : Int) ((c % 3 : Nat) : Int) many).1 many ∧ _ := pgM_b hR.1 many (Nat.le_refl _)
  unfold mCand mLast
  simp only
  split
  · omega
  · exact taken_b hO hR.1 hR.2 hD (by omega)
theorem mBst_l {many : Nat} {wide high bl : Int} {G : Nat → Nat → Int} (hO : shOK many wide high bl G) : ∀ c, c ≤ 12 → 0 ≤ (mBst many wide high bl G c).2.2.2 ∧ (mBst many wide high bl G c).2.2.2 ≤ 256
  | 0, _ => by simp [mBst]
  | c + 1, h => by
    have ih := mBst_l hO c (by omega)
    by_cases z : (mBst many wide high bl G c).1 = -9 ∨ bLess (mCand many wide high bl G c) (mBst many wide high bl G c).2
    · rw [mBst_y z]; exact mCand_l hO (by omega)
    · rw [mBst_n z]; exact ih
