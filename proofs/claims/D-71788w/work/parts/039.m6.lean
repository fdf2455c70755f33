/-! plain words: what would be; lots -/
set_option maxRecDepth 100000
def mMiss (P : Nat → Nat → Int) : Nat → Nat
  | 0 => 0
  | n + 1 => if 0 ≤ P n 0 then mMiss P n else mMiss P n ||| 2 ^ n
theorem mMiss_lt (P : Nat → Nat → Int) : ∀ n, n ≤ 8 → mMiss P n < 256
  | 0, _ => by simp [mMiss]
  | n + 1, h => by
    have := mMiss_lt P n (by omega)
    simp only [mMiss]
    split
    · exact this
    · exact mask_lt _ this _ (by omega)
theorem or_z0 (x : Int32) : x ||| zI 0 = x := by
  show x ||| 0 = x
  exact Int32.or_zero
theorem mMiss_y {P : Nat → Nat → Int} {n : Nat} (h : 0 ≤ P n 0) : nI (mMiss P n) ||| zI 0 = nI (mMiss P (n + 1)) := by
  simp only [mMiss]
  rw [if_pos h, or_z0]
theorem mMiss_n {P : Nat → Nat → Int} {n : Nat} (hn : n < 8) (h : P n 0 = -1) : nI (mMiss P n) ||| (zI 1 <<< (zI (n : Nat) &&& 31)) = nI (mMiss P (n + 1)) := by
  simp only [mMiss]
  rw [if_neg (by omega)]
  exact mask_or _ (mMiss_lt P n (by omega)) _ hn
def mLast (bl : Int) (G P : Nat → Nat → Int) (many : Nat) : Int := if pgM P many = 0 then 0 else mTaken bl G P (pgM P many - 1) many
theorem bits_s : ∀ m, m < 256 → m ≠ 0 → nI m &&& (nI m - zI 1) = nI (m &&& (m - 1)) ∧ m &&& (m - 1) < m ∧ cntB (m &&& (m - 1)) 8 + 1 = cntB m 8 := by decide +kernel
theorem nI_0_iff {m : Nat} (h : m < 256) : nI m = 0 ↔ m = 0 := by
  have := nI_eq (a := m) (b := 0) (by omega) (by omega)
  rw [nI_0] at this
  exact this
abbrev mC : Type := Int × Int × Int
def bLess (a b : mC) : Prop := a.1 < b.1 ∨ (a.1 = b.1 ∧ (a.2.1 < b.2.1 ∨ (a.2.1 = b.2.1 ∧ a.2.2 < b.2.2)))
/-- how good a rule and an order would be -/
noncomputable def mCand (many : Nat) (wide high bl : Int) (G : Nat → Nat → Int) (c : Nat) : mC :=
  ((cntB (mMiss (mAll many wide high bl G (c / 3 : Nat) (c % 3 : Nat) many).1 many) 8 : Int), pgM (mAll many wide high bl G (c / 3 : Nat) (c % 3 : Nat) many).1 many, mLast bl G (mAll many wide high bl G (c / 3 : Nat) (c % 3 : Nat) many).1 many)
noncomputable def mBst (many : Nat) (wide high bl : Int) (G : Nat → Nat → Int) : Nat → Int × mC
  | 0 => (-9, 0, 0, 0)
  | c + 1 => @ite _ ((mBst many wide high bl G c).1 = -9 ∨ bLess (mCand many wide high bl G c) (mBst many wide high bl G c).2) (Classical.propDecidable _) ((10 * ((c / 3 : Nat) : Int) + ((c % 3 : Nat) : Int) : Int), mCand many wide high bl G c) (mBst many wide high bl G c)
/-- one draw: v is the number behind it -/
noncomputable def mDraw (many : Nat) (wide high bl : Int) (G : Nat → Nat → Int) (v : Nat) (p : mPl) : mPl :=
  if v % 8 = 0 then (p.1, ((v / 64 % 4 : Nat) : Int)) else if 4 < v % 8 then (setP p.1 (v / 8 % many) (-1) 0 0 0, p.2) else if 0 ≤ p.1 (v / 8 % many) 0 then p else (mPut many wide high bl G p.2 p.1 (v / 8 % many), p.2)
def mLcg : Nat → Nat → Nat
  | s, 0 => s
  | s, n + 1 => 48271 * mLcg s n % 2147483647
/-- places and rule behind n draws -/
noncomputable def mLots (many : Nat) (wide high bl : Int) (G : Nat → Nat → Int) (s : Nat) (p : mPl) : Nat → mPl
  | 0 => p
  | n + 1 => mDraw many wide high bl G (mLcg s (n + 1)) (mLots many wide high bl G s p n)
theorem mLcg_b {s : Nat} (h : s < 2147483647) : ∀ n, mLcg s n < 2147483647
  | 0 => h
  | n + 1 => by simp only [mLcg]; omega
theorem mLast_b {many : Nat} {wide high bl : Int} {G P : Nat → Nat → Int} (hO : shOK many wide high bl G) : 0 ≤ mLast bl G P many ∧ mLast bl G P many ≤ 3872 := by
  have h1 := mTaken_b (P := P) (page := pgM P many - 1) hO many (Nat.le_refl _)
  have := hO.1
  unfold mLast
  split <;> omega
theorem mCand_b {many : Nat} {wide high bl : Int} {G : Nat → Nat → Int} (hO : shOK many wide high bl G) {c : Nat} (hc : c < 12) : 0 ≤ (mCand many wide high bl G c).1 ∧ (mCand many wide high bl G c).1 ≤ 8 ∧ 0 ≤ (mCand many wide high bl G c).2.1 ∧ (mCand many wide high bl G c).2.1 ≤ 8 ∧ 0 ≤ (mCand many wide high bl G c).2.2 ∧ (mCand many wide high bl G c).2.2 ≤ 3872 := by
  have h1 := cntB_le (mMiss (mAll many wide high bl G (c / 3 : Nat) (c % 3 : Nat) many).1 many) 8
  have h2 := pgM_b (mAll_R (o := ((c % 3 : Nat) : Int)) hO (rule := ((c / 3 : Nat) : Int)) (by omega) many (Nat.le_refl _)).1 many (Nat.le_refl _)
  have h3 := mLast_b (P := (mAll many wide high bl G (c / 3 : Nat) (c % 3 : Nat) many).1) hO
  unfold mCand
  simp only at h2 ⊢
  omega
theorem mBst_b {many : Nat} {wide high bl : Int} {G : Nat → Nat → Int} (hO : shOK many wide high bl G) : ∀ c, c ≤ 12 → -9 ≤ (mBst many wide high bl G c).1 ∧ (mBst many wide high bl G c).1 ≤ 100 ∧ 0 ≤ (mBst many wide high bl G c).2.1 ∧ (mBst many wide high bl G c).2.1 ≤ 8 ∧ 0 ≤ (mBst many wide high bl G c).2.2.1 ∧ (mBst many wide high bl G c).2.2.1 ≤ 8 ∧ 0 ≤ (mBst many wide high bl G c).2.2.2 ∧ (mBst many wide high bl G c).2.2.2 ≤ 3872
  | 0, _ => by simp [mBst]
  | c + 1, hc => by
    have h1 := mBst_b hO c (by omega)
    have h2 := mCand_b hO (c := c) (by omega)
    simp only [mBst]
    split
    · simp only
      omega
    · exact h1
theorem mBst_y {many : Nat} {wide high bl : Int} {G : Nat → Nat → Int} {c : Nat} (h : (mBst many wide high bl G c).1 = -9 ∨ bLess (mCand many wide high bl G c) (mBst many wide high bl G c).2) : mBst many wide high bl G (c + 1) = ((10 * ((c / 3 : Nat) : Int) + ((c % 3 : Nat) : Int) : Int), mCand many wide high bl G c) := by
  simp only [mBst]
  exact if_pos h
theorem mBst_n {many : Nat} {wide high bl : Int} {G : Nat → Nat → Int} {c : Nat} (h : ¬ ((mBst many wide high bl G c).1 = -9 ∨ bLess (mCand many wide high bl G c) (mBst many wide high bl G c).2)) : mBst many wide high bl G (c + 1) = mBst many wide high bl G c := by
  simp only [mBst]
  exact if_neg h
theorem l_mul {a b : Nat} {y : Int64} (e : y = lN b) : lN a * y = lN (b * a) := by
  subst e
  rw [lN_mul, Nat.mul_comm]
theorem l_div {a b : Nat} {y : Int64} (e : y = lN b) (ha : a < 2 ^ 63) (h0 : 0 < b) (hb : b < 2 ^ 63) : lN a / y = lN (a / b) := by
  subst e
  exact pk_lDiv ha h0 hb
theorem l_rem {a b : Nat} {y : Int64} (e : y = lN b) (ha : a < 2 ^ 63) (h0 : 0 < b) (hb : b < 2 ^ 63) : lN a - lN a / y * y = lN (a % b) := by
  subst e
  exact pk_lRem ha h0 hb
theorem l_of {a : Nat} (h : a < 2 ^ 31) : (zI (a : Nat)).toInt64 = lN a := by
  rw [zI_nI]
  exact nI_l h
theorem l_i (a : Nat) : (lN a).toInt32 = zI (a : Nat) := by
  rw [zI_nI]
  exact lN_i a
theorem l_ne {a : Nat} (h : a < 2 ^ 31) (h0 : 0 < a) : ¬ lN a = 0 := by
  intro z
  have := (lN_eq (a := a) (b := 0) h (by omega)).mp z
  omega
section LT
variable {many : Nat} {wide high bl : Int} {G : Nat → Nat → Int}
theorem mDraw_r {v : Nat} {p : mPl} (h : v % 8 = 0) : mDraw many wide high bl G v p = (p.1, ((v / 64 % 4 : Nat) : Int)) := if_pos h
theorem mDraw_l {v : Nat} {p : mPl} (h : v % 8 ≠ 0) (h2 : 4 < v % 8) : mDraw many wide high bl G v p = (setP p.1 (v / 8 % many) (-1) 0 0 0, p.2) := by
  unfold mDraw
  rw [if_neg h, if_pos h2]
theorem mDraw_a {v : Nat} {p : mPl} (h : v % 8 ≠ 0) (h2 : ¬ 4 < v % 8) (h3 : 0 ≤ p.1 (v / 8 % many) 0) : mDraw many wide high bl G v p = p := by
  unfold mDraw
  rw [if_neg h, if_neg h2, if_pos h3]
theorem mDraw_s {v : Nat} {p : mPl} (h : v % 8 ≠ 0) (h2 : ¬ 4 < v % 8) (h3 : ¬ 0 ≤ p.1 (v / 8 % many) 0) : mDraw many wide high bl G v p = (mPut many wide high bl G p.2 p.1 (v / 8 % many), p.2) := by
  unfold mDraw
  rw [if_neg h, if_neg h2, if_neg h3]
theorem mDraw_ok (hO : shOK many wide high bl G) (hm : 0 < many) {v : Nat} {p : mPl} (h : plR many wide high bl G p) : plR many wide high bl G (mDraw many wide high bl G v p) := by
  have hf : v / 8 % many < many := Nat.mod_lt _ hm
  unfold mDraw
  split
  · exact ⟨⟨h.1.1, by simp only; omega⟩, h.2⟩
  · split
    · exact lift_ok h.1 h.2 _
    · split
      · exact h
      · exact mPut_ok hO h hf
theorem mLots_ok (hO : shOK many wide high bl G) (hm : 0 < many) {s : Nat} {p : mPl} (h : plR many wide high bl G p) : ∀ n, plR many wide high bl G (mLots many wide high bl G s p n)
  | 0 => h
  | n + 1 => mDraw_ok hO hm (mLots_ok hO hm h n)
/-- the deeds ahead of the draws -/
noncomputable def mLotsH (many : Nat) (wide high bl : Int) (G : Nat → Nat → Int) (s : Nat) (p : mPl) (dm : Nat) (H : Nat → mPl) : Nat → mPl := fun d => if d < dm then H d else mLots many wide high bl G s p (d - dm)
theorem mLotsH_u {s : Nat} {p q : mPl} {dm k : Nat} {H : Nat → mPl} (h : mLots many wide high bl G s p k = q) : updH (mLotsH many wide high bl G s p dm H) (dm + k) q = mLotsH many wide high bl G s p dm H := by
  funext d
  unfold updH mLotsH
  by_cases z : d = dm + k
  · subst z
    rw [if_pos rfl, if_neg (by omega), ← h]
    congr 1
    omega
  · rw [if_neg z]
end LT
