/-! plain words: setting all, one by one -/
set_option maxRecDepth 100000
theorem mask_bit : ∀ m, m < 256 → ∀ k, k < 8 → (nI m >>> (zI (k : Nat) &&& 31)) &&& zI 1 = if m.testBit k then zI 1 else zI 0 := by decide +kernel
theorem mask_or : ∀ m, m < 256 → ∀ k, k < 8 → nI m ||| (zI 1 <<< (zI (k : Nat) &&& 31)) = nI (m ||| 2 ^ k) := by decide +kernel
theorem mask_lt : ∀ m, m < 256 → ∀ k, k < 8 → m ||| 2 ^ k < 256 := by decide +kernel
theorem mask_tb {m k j : Nat} : (m ||| 2 ^ k).testBit j = (m.testBit j || decide (k = j)) := by
  rw [Nat.testBit_or, Nat.testBit_two_pow]
def cntB (m : Nat) : Nat → Nat
  | 0 => 0
  | n + 1 => cntB m n + (if m.testBit n then 1 else 0)
theorem cntB_le (m : Nat) : ∀ n, cntB m n ≤ n
  | 0 => Nat.le_refl _
  | n + 1 => by
    have := cntB_le m n
    simp only [cntB]
    split <;> omega
theorem cntB_0 : ∀ n, cntB 0 n = 0
  | 0 => rfl
  | n + 1 => by simp [cntB, cntB_0 n]
theorem cntB_or {m f : Nat} (h : m.testBit f = false) : ∀ n, cntB (m ||| 2 ^ f) n = cntB m n + (if f < n then 1 else 0)
  | 0 => by simp [cntB]
  | n + 1 => by
    simp only [cntB]
    rw [cntB_or h n, mask_tb]
    by_cases z : f = n
    · subst z
      simp [h]
    · have : decide (f = n) = false := by simp [z]
      rw [this, Bool.or_false]
      by_cases y : f < n
      · simp [y, Nat.lt_succ_of_lt y]; omega
      · simp [y, show ¬ f < n + 1 by omega]
theorem cntB_ex {m : Nat} : ∀ n, cntB m n < n → ∃ k, k < n ∧ m.testBit k = false
  | 0, h => absurd h (by omega)
  | n + 1, h => by
    cases hb : m.testBit n with
    | false => exact ⟨n, by omega, hb⟩
    | true =>
      simp only [cntB, hb, if_true] at h
      obtain ⟨k, h1, h2⟩ := cntB_ex (m := m) n (by omega)
      exact ⟨k, by omega, h2⟩
/-- the one that is next: not done, the heaviest, of alike ones the first -/
def mSel (wt : Nat → Int) (m : Nat) : Nat → Int
  | 0 => -9
  | n + 1 => if m.testBit n = false ∧ (mSel wt m n = -9 ∨ wt (mSel wt m n).toNat < wt n) then (n : Int) else mSel wt m n
theorem mSel_b (wt : Nat → Int) (m : Nat) : ∀ n : Nat, mSel wt m n = -9 ∨ (0 ≤ mSel wt m n ∧ mSel wt m n < n ∧ m.testBit (mSel wt m n).toNat = false)
  | 0 => Or.inl rfl
  | n + 1 => by
    have h := mSel_b wt m n
    simp only [mSel]
    split
    · rename_i z
      right
      refine ⟨by omega, by omega, ?_⟩
      rw [Int.toNat_natCast]
      exact z.1
    · rcases h with h | h
      · exact Or.inl h
      · exact Or.inr ⟨h.1, by omega, h.2.2⟩
theorem mSel_y {wt : Nat → Int} {m n : Nat} {z : Int} (e : z = mSel wt m n) (h : m.testBit n = false) (h2 : z = -9 ∨ wt z.toNat < wt n) : (n : Int) = mSel wt m (n + 1) := by
  simp only [mSel]
  rw [← e, if_pos ⟨h, h2⟩]
theorem mSel_n1 {wt : Nat → Int} {m n : Nat} {z : Int} (e : z = mSel wt m n) (h : m.testBit n = true) : z = mSel wt m (n + 1) := by
  simp only [mSel]
  rw [← e, if_neg (fun q => by rw [h] at q; cases q.1)]
theorem mSel_n2 {wt : Nat → Int} {m n : Nat} {z : Int} (e : z = mSel wt m n) (h : z ≠ -9) (h2 : wt n ≤ wt z.toNat) : z = mSel wt m (n + 1) := by
  simp only [mSel]
  rw [← e, if_neg (fun q => by rcases q.2 with r | r <;> omega)]
theorem mSel_ne {wt : Nat → Int} {m : Nat} : ∀ {n k : Nat}, k < n → m.testBit k = false → mSel wt m n ≠ -9
  | 0, k, h, _ => absurd h (by omega)
  | n + 1, k, h, hb => by
    simp only [mSel]
    split
    · omega
    · rename_i z
      by_cases e : k = n
      · subst e
        intro q
        exact z ⟨hb, Or.inl q⟩
      · exact mSel_ne (by omega) hb
section SA
variable (many : Nat) (wide high bl : Int) (G : Nat → Nat → Int) (rule : Int)
/-- the page found, or -9 -/
noncomputable def mFind (P : Nat → Nat → Int) (f : Nat) : Int := @dite _ (∃ p, mPage many wide high bl G P rule f p) (Classical.propDecidable _) (fun h => Classical.choose h) (fun _ => -9)
/-- a frame set where there is room for it -/
noncomputable def mPut (P : Nat → Nat → Int) (f : Nat) : Nat → Nat → Int := if mFind many wide high bl G rule P f = -9 then P else setP P f (mFind many wide high bl G rule P f) (mRect many wide high bl G P rule f (mFind many wide high bl G rule P f)).1 (mRect many wide high bl G P rule f (mFind many wide high bl G rule P f)).2.1 (mRoom many wide high bl G P rule f (mFind many wide high bl G rule P f)).2.1
/-- behind n turns: places, those done -/
noncomputable def mAll (o : Int) : Nat → (Nat → Nat → Int) × Nat
  | 0 => (P0, 0)
  | n + 1 => (mPut many wide high bl G rule (mAll o n).1 (mSel (fun k => mWt bl G k o) (mAll o n).2 many).toNat, (mAll o n).2 ||| 2 ^ (mSel (fun k => mWt bl G k o) (mAll o n).2 many).toNat)
end SA
section SB
variable {many : Nat} {wide high bl : Int} {G P : Nat → Nat → Int} {rule : Int}
theorem mPage_u {f : Nat} {p q : Int} (h : mPage many wide high bl G P rule f p) (k : mPage many wide high bl G P rule f q) : p = q := by
  obtain ⟨h1, h2, h3, h4, h5⟩ := h
  obtain ⟨k1, k2, k3, k4, k5⟩ := k
  rcases Int.lt_trichotomy p q with z | z | z
  · exact absurd (k5 p h1 z) h4
  · exact z
  · exact absurd (h5 q k1 z) k4
theorem mFind_p {f : Nat} {p : Int} (h : mPage many wide high bl G P rule f p) : mFind many wide high bl G rule P f = p := by
  have hx : ∃ p, mPage many wide high bl G P rule f p := ⟨p, h⟩
  unfold mFind
  rw [dif_pos hx]
  exact mPage_u (Classical.choose_spec hx) h
theorem mFind_n {f : Nat} (h : mNoPage many wide high bl G P rule f) : mFind many wide high bl G rule P f = -9 := by
  have hx : ¬ ∃ p, mPage many wide high bl G P rule f p := fun ⟨p, q⟩ => q.2.2.2.1 (h p q.1 q.2.1 q.2.2.1)
  unfold mFind
  rw [dif_neg hx]
theorem mPut_p {f : Nat} {p : Int} (h : mPage many wide high bl G P rule f p) : mPut many wide high bl G rule P f = setP P f p (mRect many wide high bl G P rule f p).1 (mRect many wide high bl G P rule f p).2.1 (mRoom many wide high bl G P rule f p).2.1 := by
  unfold mPut
  rw [mFind_p h, if_neg]
  have := h.1
  omega
theorem mPut_n {f : Nat} (h : mNoPage many wide high bl G P rule f) : mPut many wide high bl G rule P f = P := by
  unfold mPut
  rw [mFind_n h, if_pos rfl]
theorem mPut_ok (hO : shOK many wide high bl G) (hR : plR many wide high bl G (P, rule)) {f : Nat} (hf : f < many) : plR many wide high bl G (mPut many wide high bl G rule P f, rule) := by
  have hs := hO.s
  rcases Classical.em (∃ p, mPage many wide high bl G P rule f p) with ⟨p, h⟩ | h
  · rw [mPut_p h]
    exact set_ok hO hR.1 hR.2 hf ⟨h.1, h.2.2.1⟩ (frL_ok (by omega) (by omega) _) h.2.2.2.1
  · have : mFind many wide high bl G rule P f = -9 := by
      unfold mFind
      rw [dif_neg h]
    unfold mPut
    rw [if_pos this]
    exact hR
/-- what holds of the turns -/
theorem mAll_ok {o : Int} (hm : many ≤ 8) : ∀ n, n ≤ many → (mAll many wide high bl G rule o n).2 < 256 ∧ cntB (mAll many wide high bl G rule o n).2 many = n
  | 0, _ => ⟨by show 0 < 256; omega, cntB_0 many⟩
  | n + 1, hn => by
    obtain ⟨h1, h2⟩ := mAll_ok (o := o) hm n (by omega)
    obtain ⟨k, h3, h4⟩ := cntB_ex (m := (mAll many wide high bl G rule o n).2) many (by omega)
    rcases mSel_b (fun k => mWt bl G k o) (mAll many wide high bl G rule o n).2 many with z | z
    · exact absurd z (mSel_ne h3 h4)
    · simp only [mAll]
      refine ⟨mask_lt _ h1 _ (by omega), ?_⟩
      rw [cntB_or z.2.2, h2, if_pos (by omega)]
theorem mAll_sel {o : Int} (hm : many ≤ 8) {n : Nat} (hn : n < many) : 0 ≤ mSel (fun k => mWt bl G k o) (mAll many wide high bl G rule o n).2 many ∧ mSel (fun k => mWt bl G k o) (mAll many wide high bl G rule o n).2 many < many := by
  obtain ⟨h1, h2⟩ := mAll_ok (rule := rule) (o := o) (wide := wide) (high := high) (bl := bl) (G := G) hm n (by omega)
  obtain ⟨k, h3, h4⟩ := cntB_ex (m := (mAll many wide high bl G rule o n).2) many (by omega)
  rcases mSel_b (fun k => mWt bl G k o) (mAll many wide high bl G rule o n).2 many with z | z
  · exact absurd z (mSel_ne h3 h4)
  · exact ⟨z.1, z.2.1⟩
theorem mAll_R {o : Int} (hO : shOK many wide high bl G) (hr : 0 ≤ rule ∧ rule ≤ 3) : ∀ n, n ≤ many → plR many wide high bl G ((mAll many wide high bl G rule o n).1, rule)
  | 0, _ => P0_ok hr
  | n + 1, hn => by
    have h := mAll_R (o := o) hO hr n (by omega)
    have hs := mAll_sel (wide := wide) (high := high) (bl := bl) (G := G) (rule := rule) (o := o) hO.1 (show n < many by omega)
    simp only [mAll]
    exact mPut_ok hO h (by omega)
end SB
def mTaken (bl : Int) (G P : Nat → Nat → Int) (page : Int) : Nat → Int
  | 0 => 0
  | n + 1 => mTaken bl G P page n + (if P n 0 = page then mNX bl G n 0 * mNY bl G n 0 else 0)
theorem mTaken_b {many : Nat} {wide high bl : Int} {G P : Nat → Nat → Int} {page : Int} (hO : shOK many wide high bl G) : ∀ n, n ≤ many → 0 ≤ mTaken bl G P page n ∧ mTaken bl G P page n ≤ 484 * n
  | 0, _ => by simp [mTaken]
  | n + 1, hn => by
    have h1 := mTaken_b (P := P) (page := page) hO n (by omega)
    have h2 := mul_b (mNX_b hO (f := n) (by omega) 0) (mNY_b hO (f := n) (by omega) 0)
    simp only [mTaken]
    split <;> omega
def mSetN (P : Nat → Nat → Int) : Nat → Int
  | 0 => 0
  | n + 1 => mSetN P n + (if 0 ≤ P n 0 then 1 else 0)
theorem mSetN_b (P : Nat → Nat → Int) : ∀ n : Nat, 0 ≤ mSetN P n ∧ mSetN P n ≤ n
  | 0 => by simp [mSetN]
  | n + 1 => by
    have := mSetN_b P n
    simp only [mSetN]
    split <;> omega
