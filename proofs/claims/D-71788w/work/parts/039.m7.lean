/-! plain words: what is seen, taken, counted -/
set_option maxRecDepth 100000
theorem gO_cases {bl : Int} {G P : Nat → Nat → Int} {page i j : Int} : ∀ n, gO bl G P page n i j = -9 ∨ ∃ f : Nat, f < n ∧ gO bl G P page n i j = f ∧ P f 0 = page ∧ P f 1 ≤ i ∧ i < P f 1 + mNX bl G f (P f 3) ∧ P f 2 ≤ j ∧ j < P f 2 + mNY bl G f (P f 3)
  | 0 => Or.inl rfl
  | n + 1 => by
    simp only [gO]
    split
    · rename_i h
      exact Or.inr ⟨n, by omega, rfl, h⟩
    · rcases gO_cases (bl := bl) (G := G) (P := P) (page := page) (i := i) (j := j) n with h | ⟨f, h1, h2, h3⟩
      · exact Or.inl h
      · exact Or.inr ⟨f, by omega, h2, h3⟩
def mCl (v m : Int) : Int := if v < 0 then 0 else if m < v then m else v
def mSeen (bl : Int) (G P : Nat → Nat → Int) (f : Nat) (x y : Int) : Int := 100 * (mCl (if P f 3 = 1 then y - P f 2 - mEd bl G f else x - P f 1 - mEd bl G f) (mAc G f - 1) + mLf G f) + (mCl (if P f 3 = 1 then x - P f 1 - mEd bl G f else y - P f 2 - mEd bl G f) (mDn G f - 1) + mAb G f)
theorem mCl_b {v m : Int} (h : 0 ≤ m) : 0 ≤ mCl v m ∧ mCl v m ≤ m := by
  unfold mCl
  repeat' split
  all_goals omega
def mTk (bl : Int) (G P : Nat → Nat → Int) (l : List rct) : Nat → Nat
  | 0 => 0
  | n + 1 => if P n 0 = -1 ∧ (mBest bl G 0 n l l.length).1 ≠ -9 then mTk bl G P l n ||| 2 ^ n else mTk bl G P l n
theorem mTk_lt (bl : Int) (G P : Nat → Nat → Int) (l : List rct) : ∀ n, n ≤ 8 → mTk bl G P l n < 256
  | 0, _ => by simp [mTk]
  | n + 1, h => by
    have := mTk_lt bl G P l n (by omega)
    simp only [mTk]
    split
    · exact mask_lt _ this _ (by omega)
    · exact this
theorem mTk_y {bl : Int} {G P : Nat → Nat → Int} {l : List rct} {n : Nat} (hn : n < 8) (h : P n 0 = -1) (h2 : (mBest bl G 0 n l l.length).1 ≠ -9) : nI (mTk bl G P l n) ||| (zI 1 <<< (zI (n : Nat) &&& 31)) = nI (mTk bl G P l (n + 1)) := by
  simp only [mTk]
  rw [if_pos ⟨h, h2⟩]
  exact mask_or _ (mTk_lt bl G P l n (by omega)) _ hn
theorem mTk_n {bl : Int} {G P : Nat → Nat → Int} {l : List rct} {n : Nat} (h : ¬ (P n 0 = -1 ∧ (mBest bl G 0 n l l.length).1 ≠ -9)) : nI (mTk bl G P l n) ||| zI 0 = nI (mTk bl G P l (n + 1)) := by
  simp only [mTk]
  rw [if_neg h, or_z0]
def mMost (l : List rct) : Nat → Int
  | 0 => 0
  | k + 1 => if mMost l k < (l.getD k (0, 0, 0, 0)).2.2.1 * (l.getD k (0, 0, 0, 0)).2.2.2 then (l.getD k (0, 0, 0, 0)).2.2.1 * (l.getD k (0, 0, 0, 0)).2.2.2 else mMost l k
theorem getD_ok {l : List rct} (hl : ∀ r ∈ l, rOK r) {k : Nat} (hk : k < l.length) : rOK (l.getD k (0, 0, 0, 0)) := by
  rw [List.getD_eq_getElem?_getD, List.getElem?_eq_getElem hk]
  exact hl _ (List.getElem_mem _)
theorem area_b {r : rct} (h : rOK r) : 1 ≤ r.2.2.1 * r.2.2.2 ∧ r.2.2.1 * r.2.2.2 ≤ 256 := by
  unfold rOK at h
  exact mul_b (a := r.2.2.1) (b := r.2.2.2) (c := 16) (d := 16) (by omega) (by omega)
theorem mMost_b {l : List rct} (hl : ∀ r ∈ l, rOK r) : ∀ k, k ≤ l.length → 0 ≤ mMost l k ∧ mMost l k ≤ 256
  | 0, _ => by simp [mMost]
  | k + 1, h => by
    have h1 := mMost_b hl k (by omega)
    have h2 := area_b (getD_ok hl (show k < l.length by omega))
    simp only [mMost]
    split <;> omega
def mSumT (bl : Int) (G P : Nat → Nat → Int) (many : Nat) : Nat → Int
  | 0 => 0
  | p + 1 => mSumT bl G P many p + mTaken bl G P (p : Int) many
theorem mSumT_b {many : Nat} {wide high bl : Int} {G P : Nat → Nat → Int} (hO : shOK many wide high bl G) : ∀ p : Nat, 0 ≤ mSumT bl G P many p ∧ mSumT bl G P many p ≤ 3872 * p
  | 0 => by simp [mSumT]
  | p + 1 => by
    have h1 := mSumT_b (P := P) hO p
    have h2 := mTaken_b (P := P) (page := (p : Int)) hO many (Nat.le_refl _)
    have := hO.1
    simp only [mSumT]
    omega
noncomputable def mSumF (many : Nat) (wide high bl : Int) (G P : Nat → Nat → Int) : Nat → Int
  | 0 => 0
  | p + 1 => mSumF many wide high bl G P p + ((frL wide high (gO bl G P (p : Int) many)).length : Int)
theorem mSumF_b {many : Nat} {wide high bl : Int} {G P : Nat → Nat → Int} (hO : shOK many wide high bl G) : ∀ p : Nat, 0 ≤ mSumF many wide high bl G P p ∧ mSumF many wide high bl G P p ≤ 4096 * p
  | 0 => by simp [mSumF]
  | p + 1 => by
    have h1 := mSumF_b (P := P) hO p
    have hs := hO.s
    have h2 := (frL_ok (wide := wide) (high := high) (by omega) (by omega) (gO bl G P (p : Int) many)).2.2
    simp only [mSumF]
    omega
def mTurnN (P : Nat → Nat → Int) : Nat → Int
  | 0 => 0
  | n + 1 => mTurnN P n + P n 3
def mThere (rs : Nat → Int) : Nat → Int
  | 0 => 0
  | n + 1 => mThere rs n + (if 0 ≤ rs n then 1 else 0)
theorem mThere_b (rs : Nat → Int) : ∀ n : Nat, 0 ≤ mThere rs n ∧ mThere rs n ≤ n
  | 0 => by simp [mThere]
  | n + 1 => by
    have := mThere_b rs n
    simp only [mThere]
    split <;> omega
def dtOK (rs ts : Nat → Int) (tb : Nat → Nat → Int) : Prop := (∀ r, r < 6 → -1 ≤ rs r ∧ rs r ≤ 40) ∧ (∀ t, t < 4 → -1 ≤ ts t ∧ ts t ≤ 120) ∧ ∀ t i, -128 ≤ tb t i ∧ tb t i ≤ 127
noncomputable def mCnt (many : Nat) (wide high bl : Int) (G P : Nat → Nat → Int) (rule : Int) (dm : Nat) (rs ts kc : Nat → Int) (k : Nat) : Int := match k with
  | 0 => many
  | 1 => mSetN P many
  | 2 => pgM P many
  | 3 => wide
  | 4 => high
  | 5 => bl
  | 6 => rule
  | 7 => mSumT bl G P many (pgM P many).toNat
  | 8 => mSumF many wide high bl G P (pgM P many).toNat
  | 9 => mTurnN P many
  | 10 => dm
  | 11 => mThere rs 6
  | 12 => mThere ts 4
  | _ => mThere kc 3
