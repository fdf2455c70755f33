/-! plain words: what is set stays right; rows of places -/
set_option maxRecDepth 100000
theorem cpy_step {s d a : Nat → Int32} {o2 o1 i : Nat} (h : a = va_cpy s d o2 o1 i) : upd a (o1 + i) (s (o2 + i)) = va_cpy s d o2 o1 (i + 1) := by
  funext j
  subst h
  by_cases z : j = o1 + i
  · subst z
    rw [upd, if_pos rfl, pk_cpy_in (by omega) (by omega)]
    congr 1
    omega
  · rw [upd, if_neg z]
    by_cases y : o1 ≤ j ∧ j < o1 + i
    · rw [pk_cpy_in y.1 y.2, pk_cpy_in y.1 (by omega)]
    · rw [pk_cpy_out (by omega), pk_cpy_out (by omega)]
theorem cpy_stepE {s d a s' : Nat → Int32} {o2 o1 i p q : Nat} (h : a = va_cpy s d o2 o1 i) (hs : s' = s) (e1 : p = o1 + i) (e2 : q = o2 + i) : upd a p (s' q) = va_cpy s d o2 o1 (i + 1) := by
  subst hs; subst e1; subst e2
  exact cpy_step h
theorem cpy_0 {s d : Nat → Int32} {o2 o1 : Nat} : d = va_cpy s d o2 o1 0 := by
  funext j
  rw [pk_cpy_out (by omega)]
abbrev mPl : Type := (Nat → Nat → Int) × Int
/-- a row of 33 cells from o on: places and rule -/
def tRow (a : Nat → Int32) (o : Nat) (p : mPl) : Prop := (∀ f k, f < 8 → k < 4 → a (o + (4 * f + k)) = zI (p.1 f k)) ∧ a (o + 32) = zI p.2
theorem tRow.cpy {s d : Nat → Int32} {o2 o1 n : Nat} {p : mPl} {m : Nat} (h : tRow s (o2 + m) p) (hm : m + 33 ≤ n) : tRow (va_cpy s d o2 o1 n) (o1 + m) p := by
  refine ⟨fun f k hf hk => ?_, ?_⟩
  · rw [pk_cpy_in (by omega) (by omega), ← h.1 f k hf hk]
    congr 1
    omega
  · rw [pk_cpy_in (by omega) (by omega), ← h.2]
    congr 1
    omega
theorem tRow.out {s d : Nat → Int32} {o2 o1 n : Nat} {p : mPl} {o : Nat} (h : tRow d o p) (hm : o + 33 ≤ o1 ∨ o1 + n ≤ o) : tRow (va_cpy s d o2 o1 n) o p := by
  refine ⟨fun f k hf hk => ?_, ?_⟩
  · rw [pk_cpy_out (by omega)]
    exact h.1 f k hf hk
  · rw [pk_cpy_out (by omega)]
    exact h.2
def updH (H : Nat → mPl) (d : Nat) (p : mPl) : Nat → mPl := fun d' => if d' = d then p else H d'
section OK
variable {many : Nat} {wide high bl : Int} {G P : Nat → Nat → Int} {rule : Int}
/-- places and rule are right for a sheet -/
def plR (many : Nat) (wide high bl : Int) (G : Nat → Nat → Int) (p : mPl) : Prop := plOK many p.1 p.2 ∧ plV many wide high bl G p.1
theorem mTry_fits {f : Nat} {l : List rct} {k : Nat} {t : Int} {b : rct} (hk : k < l.length) (h : b.1 = -9 ∨ (mNX bl G f b.2.1 ≤ (l.getD b.1.toNat (0, 0, 0, 0)).2.2.1 ∧ mNY bl G f b.2.1 ≤ (l.getD b.1.toNat (0, 0, 0, 0)).2.2.2)) :
    (mTry bl G rule f (l.getD k (0, 0, 0, 0)) k t b).1 = -9 ∨ (mNX bl G f (mTry bl G rule f (l.getD k (0, 0, 0, 0)) k t b).2.1 ≤ (l.getD (mTry bl G rule f (l.getD k (0, 0, 0, 0)) k t b).1.toNat (0, 0, 0, 0)).2.2.1 ∧ mNY bl G f (mTry bl G rule f (l.getD k (0, 0, 0, 0)) k t b).2.1 ≤ (l.getD (mTry bl G rule f (l.getD k (0, 0, 0, 0)) k t b).1.toNat (0, 0, 0, 0)).2.2.2) := by
  unfold mTry
  split
  · rename_i z
    right
    simp only [Int.toNat_natCast]
    exact ⟨z.1, z.2.1⟩
  · exact h
theorem mBest_fits {f : Nat} {l : List rct} : ∀ k, k ≤ l.length → (mBest bl G rule f l k).1 = -9 ∨ (mNX bl G f (mBest bl G rule f l k).2.1 ≤ (l.getD (mBest bl G rule f l k).1.toNat (0, 0, 0, 0)).2.2.1 ∧ mNY bl G f (mBest bl G rule f l k).2.1 ≤ (l.getD (mBest bl G rule f l k).1.toNat (0, 0, 0, 0)).2.2.2)
  | 0, _ => Or.inl rfl
  | k + 1, hk => by
    have h := mBest_fits (f := f) (l := l) k (by omega)
    unfold mBest
    split
    · exact mTry_fits (by omega) h
    · exact mTry_fits (by omega) (mTry_fits (by omega) h)
/-- what a found room is -/
theorem mRoom_ok (hO : shOK many wide high bl G) {f : Nat} (hf : f < many) {p : Int} (hL : frOK wide high (gO bl G P p many) (frL wide high (gO bl G P p many))) (h : (mRoom many wide high bl G P rule f p).1 ≠ -9) :
    0 ≤ (mRoom many wide high bl G P rule f p).1 ∧ (mRoom many wide high bl G P rule f p).1.toNat < (frL wide high (gO bl G P p many)).length ∧ ((mRoom many wide high bl G P rule f p).2.1 = 0 ∨ (mRoom many wide high bl G P rule f p).2.1 = 1) ∧ mxR wide high (gO bl G P p many) (mRect many wide high bl G P rule f p) ∧ mNX bl G f (mRoom many wide high bl G P rule f p).2.1 ≤ (mRect many wide high bl G P rule f p).2.2.1 ∧ mNY bl G f (mRoom many wide high bl G P rule f p).2.1 ≤ (mRect many wide high bl G P rule f p).2.2.2 := by
  have hs := hO.s
  have hb := mBest_ok hO hf (rule := rule) (hL.ok (by omega) (by omega)) _ (Nat.le_refl _)
  have hfi := mBest_fits (bl := bl) (G := G) (rule := rule) (f := f) (l := frL wide high (gO bl G P p many)) _ (Nat.le_refl _)
  unfold bOK at hb
  rcases hb with hb | hb
  · exact absurd hb h
  · rcases hfi with z | z
    · exact absurd z h
    · have hlt : (mRoom many wide high bl G P rule f p).1.toNat < (frL wide high (gO bl G P p many)).length := by
        unfold mRoom
        omega
      refine ⟨hb.1, hlt, hb.2.2.1, (hL.2.1 _).mp ?_, z.1, z.2⟩
      unfold mRect
      rw [List.getD_eq_getElem?_getD, List.getElem?_eq_getElem hlt]
      exact List.getElem_mem _
theorem set_ok (hO : shOK many wide high bl G) (hN : plOK many P rule) (hV : plV many wide high bl G P) {f : Nat} (hf : f < many) {p : Int} (hp : 0 ≤ p ∧ p < 8) (hL : frOK wide high (gO bl G P p many) (frL wide high (gO bl G P p many))) (h : (mRoom many wide high bl G P rule f p).1 ≠ -9) :
    plR many wide high bl G (setP P f p (mRect many wide high bl G P rule f p).1 (mRect many wide high bl G P rule f p).2.1 (mRoom many wide high bl G P rule f p).2.1, rule) := by
  have hs := hO.s
  obtain ⟨a1, a2, a3, a4, a5, a6⟩ := mRoom_ok hO hf hL h
  have ok := mx_ok a4 (by omega) (by omega)
  obtain ⟨m1, m2, m3, -⟩ := a4
  have := m3.2.2.1
  have := m3.2.2.2.1
  unfold rOK at ok
  refine ⟨⟨fun g hg => ?_, hN.2⟩, fun g hg => ?_⟩
  · by_cases z : g = f
    · subst z
      simp only [setP, if_pos]
      omega
    · simp only [setP, if_neg z]
      exact hN.1 g hg
  · by_cases z : g = f
    · subst z
      simp only [setP, if_pos]
      omega
    · simp only [setP, if_neg z]
      exact hV g hg
theorem lift_ok (hN : plOK many P rule) (hV : plV many wide high bl G P) (f : Nat) : plR many wide high bl G (setP P f (-1) 0 0 0, rule) := by
  refine ⟨⟨fun g hg => ?_, hN.2⟩, fun g hg => ?_⟩
  · by_cases z : g = f
    · subst z
      simp [setP]
    · simp only [setP, if_neg z]
      exact hN.1 g hg
  · by_cases z : g = f
    · subst z
      simp [setP]
    · simp only [setP, if_neg z]
      exact hV g hg
theorem P0_ok (h : 0 ≤ rule ∧ rule ≤ 3) : plR many wide high bl G (P0, rule) := by
  refine ⟨⟨fun g hg => ?_, h⟩, fun g hg => ?_⟩
  · simp [P0]
  · simp [P0]
end OK
