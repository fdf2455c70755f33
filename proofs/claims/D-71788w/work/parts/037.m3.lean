/-! plain words: which free rectangle a rule takes -/
set_option maxRecDepth 100000
def mFirst (bl : Int) (G : Nat → Nat → Int) (rule : Int) (f : Nat) (t : Int) (r : rct) : Int :=
  if rule = 0 then (if r.2.2.1 - mNX bl G f t < r.2.2.2 - mNY bl G f t then r.2.2.1 - mNX bl G f t else r.2.2.2 - mNY bl G f t)
  else if rule = 1 then r.2.2.1 * r.2.2.2 - mNX bl G f t * mNY bl G f t
  else if rule = 2 then r.2.1 + mNY bl G f t
  else (if r.2.2.2 - mNY bl G f t < r.2.2.1 - mNX bl G f t then r.2.2.1 - mNX bl G f t else r.2.2.2 - mNY bl G f t)
def mSecond (bl : Int) (G : Nat → Nat → Int) (rule : Int) (f : Nat) (t : Int) (r : rct) : Int :=
  if rule = 0 then (if r.2.2.2 - mNY bl G f t < r.2.2.1 - mNX bl G f t then r.2.2.1 - mNX bl G f t else r.2.2.2 - mNY bl G f t)
  else if rule = 2 then r.1
  else (if r.2.2.1 - mNX bl G f t < r.2.2.2 - mNY bl G f t then r.2.2.1 - mNX bl G f t else r.2.2.2 - mNY bl G f t)
def mFits (bl : Int) (G : Nat → Nat → Int) (f : Nat) (t : Int) (r : rct) : Prop := mNX bl G f t ≤ r.2.2.1 ∧ mNY bl G f t ≤ r.2.2.2
def rOK (r : rct) : Prop := 0 ≤ r.1 ∧ r.1 ≤ 16 ∧ 0 ≤ r.2.1 ∧ r.2.1 ≤ 16 ∧ 1 ≤ r.2.2.1 ∧ r.2.2.1 ≤ 16 ∧ 1 ≤ r.2.2.2 ∧ r.2.2.2 ≤ 16
/-- the best so far: (which or -9, turned, first, second); one more try -/
def mTry (bl : Int) (G : Nat → Nat → Int) (rule : Int) (f : Nat) (r : rct) (k : Nat) (t : Int) (b : rct) : rct :=
  if mNX bl G f t ≤ r.2.2.1 ∧ mNY bl G f t ≤ r.2.2.2 ∧ (b.1 = -9 ∨ mFirst bl G rule f t r < b.2.2.1 ∨ (mFirst bl G rule f t r = b.2.2.1 ∧ mSecond bl G rule f t r < b.2.2.2)) then ((k : Int), t, mFirst bl G rule f t r, mSecond bl G rule f t r) else b
def mTurn (G : Nat → Nat → Int) (f : Nat) : Prop := ¬ (G f 0 = 1 ∨ G f 0 = 3)
def mBest (bl : Int) (G : Nat → Nat → Int) (rule : Int) (f : Nat) (l : List rct) : Nat → rct
  | 0 => (-9, 0, 0, 0)
  | k + 1 => if G f 0 = 1 ∨ G f 0 = 3 then mTry bl G rule f (l.getD k (0, 0, 0, 0)) k 0 (mBest bl G rule f l k) else mTry bl G rule f (l.getD k (0, 0, 0, 0)) k 1 (mTry bl G rule f (l.getD k (0, 0, 0, 0)) k 0 (mBest bl G rule f l k))
section MS
variable {many : Nat} {wide high bl : Int} {G : Nat → Nat → Int}
theorem mul_b {a b c d : Int} (ha : 1 ≤ a ∧ a ≤ c) (hb : 1 ≤ b ∧ b ≤ d) : 1 ≤ a * b ∧ a * b ≤ c * d := by
  have h1 : 0 ≤ (a - 1) * b := Int.mul_nonneg (by omega) (by omega)
  have h2 : 0 ≤ (c - a) * b := Int.mul_nonneg (by omega) (by omega)
  have h3 : 0 ≤ c * (d - b) := Int.mul_nonneg (by omega) (by omega)
  rw [Int.sub_mul] at h1 h2
  rw [Int.mul_sub] at h3
  omega
theorem mFirst_b (hO : shOK many wide high bl G) {f : Nat} (hf : f < many) {rule t : Int} {r : rct} (hr : rOK r) (h1 : mNX bl G f t ≤ r.2.2.1) (h2 : mNY bl G f t ≤ r.2.2.2) : 0 ≤ mFirst bl G rule f t r ∧ mFirst bl G rule f t r ≤ 300 := by
  have a := mNX_b hO hf t
  have b := mNY_b hO hf t
  have c := mul_b (a := mNX bl G f t) (b := mNY bl G f t) (c := r.2.2.1) (d := r.2.2.2) ⟨a.1, h1⟩ ⟨b.1, h2⟩
  unfold rOK at hr
  have d := mul_b (a := r.2.2.1) (b := r.2.2.2) (c := 16) (d := 16) (by omega) (by omega)
  unfold mFirst
  repeat' split
  all_goals omega
theorem mSecond_b (hO : shOK many wide high bl G) {f : Nat} (hf : f < many) {rule t : Int} {r : rct} (hr : rOK r) (h1 : mNX bl G f t ≤ r.2.2.1) (h2 : mNY bl G f t ≤ r.2.2.2) : 0 ≤ mSecond bl G rule f t r ∧ mSecond bl G rule f t r ≤ 300 := by
  have a := mNX_b hO hf t
  have b := mNY_b hO hf t
  unfold rOK at hr
  unfold mSecond
  repeat' split
  all_goals omega
/-- what holds of a best one -/
def bOK (k : Nat) (b : rct) : Prop := b.1 = -9 ∨ (0 ≤ b.1 ∧ b.1 < k ∧ (b.2.1 = 0 ∨ b.2.1 = 1) ∧ 0 ≤ b.2.2.1 ∧ b.2.2.1 ≤ 300 ∧ 0 ≤ b.2.2.2 ∧ b.2.2.2 ≤ 300)
theorem bOK.mono {k k' : Nat} {b : rct} (h : bOK k b) (hk : k ≤ k') : bOK k' b := by
  unfold bOK at *; omega
theorem mTry_ok (hO : shOK many wide high bl G) {f : Nat} (hf : f < many) {rule t : Int} (ht : t = 0 ∨ t = 1) {r : rct} (hr : rOK r) {k : Nat} {b : rct} (hb : bOK (k + 1) b) : bOK (k + 1) (mTry bl G rule f r k t b) := by
  unfold mTry
  split
  · rename_i h
    have h1 := mFirst_b (rule := rule) hO hf hr h.1 h.2.1
    have h2 := mSecond_b (rule := rule) hO hf hr h.1 h.2.1
    unfold bOK
    right
    simp only
    omega
  · exact hb
theorem mBest_ok (hO : shOK many wide high bl G) {f : Nat} (hf : f < many) {rule : Int} {l : List rct} (hl : ∀ r ∈ l, rOK r) : ∀ k, k ≤ l.length → bOK k (mBest bl G rule f l k)
  | 0, _ => Or.inl rfl
  | k + 1, hk => by
    have h := (mBest_ok hO hf (rule := rule) hl k (by omega)).mono (Nat.le_succ k)
    have hr : rOK (l.getD k (0, 0, 0, 0)) := by
      rw [List.getD_eq_getElem?_getD, List.getElem?_eq_getElem (by omega)]
      exact hl _ (List.getElem_mem _)
    unfold mBest
    split
    · exact mTry_ok hO hf (Or.inl rfl) hr h
    · exact mTry_ok hO hf (Or.inr rfl) hr (mTry_ok hO hf (Or.inl rfl) hr h)
end MS
/-- the free rectangles of a page, in order -/
def frOK (wide high : Int) (g : Int → Int → Int) (l : List rct) : Prop := l.Pairwise klt ∧ (∀ r, r ∈ l ↔ mxR wide high g r) ∧ l.length ≤ 4096
noncomputable def frL (wide high : Int) (g : Int → Int → Int) : List rct := @dite _ (∃ l, frOK wide high g l) (Classical.propDecidable _) (fun h => Classical.choose h) (fun _ => [])
theorem frL_eq {wide high : Int} {g : Int → Int → Int} {l : List rct} (h : frOK wide high g l) : l = frL wide high g := by
  have hx : ∃ l, frOK wide high g l := ⟨l, h⟩
  unfold frL
  rw [dif_pos hx]
  have h2 := Classical.choose_spec hx
  exact klt_uniq _ _ h.1 h2.1 (fun r => (h.2.1 r).trans (h2.2.1 r).symm)
theorem frI_w {wide high : Int} {g : Int → Int → Int} {x y : Int} (h1 : wide ≤ 16) (hx : 0 ≤ x) : ∀ (n : Nat) (w : Int) (l : List rct), 1 ≤ w → w ≤ 17 → (17 - w).toNat < n → frI wide high g l y x w → ∃ l', frI wide high g l' y (x + 1) 1
  | 0, w, l, _, _, h, _ => absurd h (by omega)
  | n + 1, w, l, hw, hw2, hn, I => by
    rcases Classical.em (frB wide high g x y w 1) with z | z
    · have hmax : ∀ m : Nat, ∃ h : Int, 1 ≤ h ∧ frB wide high g x y w h ∧ (¬ frB wide high g x y w (h + 1) ∨ m + 1 ≤ h) := by
        intro m
        induction m with
        | zero => exact ⟨1, by omega, z, Or.inr (by omega)⟩
        | succ m ih =>
          obtain ⟨h, a, b, c⟩ := ih
          rcases c with c | c
          · exact ⟨h, a, b, Or.inl c⟩
          · rcases Classical.em (frB wide high g x y w (h + 1)) with e | e
            · exact ⟨h + 1, by omega, e, Or.inr (by omega)⟩
            · exact ⟨h, a, b, Or.inl e⟩
      obtain ⟨h, a, b, c⟩ := hmax (high - y).toNat
      have hb := b.2.2.2.1
      have hxw := b.2.2.1
      have N : ¬ frB wide high g x y w (h + 1) := by
        rcases c with c | c
        · exact c
        · omega
      rcases Classical.em (frG wide high g x y w h) with e | e
      · exact frI_w h1 hx n (w + 1) _ (by omega) (by omega) (by omega) (I.push hw b a N e)
      · exact frI_w h1 hx n (w + 1) _ (by omega) (by omega) (by omega) (I.skip b a N e)
    · exact ⟨l, I.endw hw hw2 z⟩
theorem frI_x {wide high : Int} {g : Int → Int → Int} {y : Int} (h1 : wide ≤ 16) : ∀ (n : Nat) (x : Int) (l : List rct), 0 ≤ x → x ≤ 16 → (16 - x).toNat < n → frI wide high g l y x 1 → ∃ l', frI wide high g l' (y + 1) 0 1
  | 0, x, l, _, _, h, _ => absurd h (by omega)
  | n + 1, x, l, hx, hx2, hn, I => by
    by_cases z : wide ≤ x
    · exact ⟨l, I.endx z hx2⟩
    · obtain ⟨l', I'⟩ := frI_w (g := g) h1 hx 18 1 l (by omega) (by omega) (by omega) I
      exact frI_x h1 n (x + 1) l' (by omega) (by omega) (by omega) I'
theorem frI_y {wide high : Int} {g : Int → Int → Int} (h1 : wide ≤ 16) (h2 : high ≤ 16) : ∀ (n : Nat) (y : Int) (l : List rct), 0 ≤ y → y ≤ 16 → (16 - y).toNat < n → frI wide high g l y 0 1 → ∃ l', frOK wide high g l'
  | 0, y, l, _, _, h, _ => absurd h (by omega)
  | n + 1, y, l, hy, hy2, hn, I => by
    by_cases z : high ≤ y
    · exact ⟨l, I.endy z hy2⟩
    · obtain ⟨l', I'⟩ := frI_x (g := g) h1 17 0 l (by omega) (by omega) (by omega) I
      exact frI_y h1 h2 n (y + 1) l' (by omega) (by omega) (by omega) I'
theorem frL_ok {wide high : Int} (h1 : wide ≤ 16) (h2 : high ≤ 16) (g : Int → Int → Int) : frOK wide high g (frL wide high g) := by
  obtain ⟨l, h⟩ := frI_y (g := g) h1 h2 17 0 [] (by omega) (by omega) (by omega) frI.nil
  rw [← frL_eq h]
  exact h
theorem mx_ok {wide high : Int} {g : Int → Int → Int} {r : rct} (h : mxR wide high g r) (h1 : wide ≤ 16) (h2 : high ≤ 16) : rOK r := by
  obtain ⟨a, b, c, -⟩ := h
  have := c.1
  have := c.2.1
  have := c.2.2.1
  have := c.2.2.2.1
  unfold rOK
  omega
theorem frOK.ok {wide high : Int} {g : Int → Int → Int} {l : List rct} (h : frOK wide high g l) (h1 : wide ≤ 16) (h2 : high ≤ 16) : ∀ r ∈ l, rOK r := fun r hr => mx_ok ((h.2.1 r).mp hr) h1 h2
/-- a frame's place set -/
def setP (P : Nat → Nat → Int) (f : Nat) (a b c d : Int) : Nat → Nat → Int := fun g k => if g = f then (match k with | 0 => a | 1 => b | 2 => c | _ => d) else P g k
def P0 : Nat → Nat → Int := fun _ k => if k = 0 then -1 else 0
/-- of a page the best place for a frame -/
noncomputable def mRoom (many : Nat) (wide high bl : Int) (G P : Nat → Nat → Int) (rule : Int) (f : Nat) (p : Int) : rct := mBest bl G rule f (frL wide high (gO bl G P p many)) (frL wide high (gO bl G P p many)).length
/-- the rectangle that it is in -/
noncomputable def mRect (many : Nat) (wide high bl : Int) (G P : Nat → Nat → Int) (rule : Int) (f : Nat) (p : Int) : rct := (frL wide high (gO bl G P p many)).getD (mRoom many wide high bl G P rule f p).1.toNat (0, 0, 0, 0)
/-- the page that is found -/
def mPage (many : Nat) (wide high bl : Int) (G P : Nat → Nat → Int) (rule : Int) (f : Nat) (p : Int) : Prop := 0 ≤ p ∧ p ≤ pgM P many ∧ p < 8 ∧ (mRoom many wide high bl G P rule f p).1 ≠ -9 ∧ ∀ p', 0 ≤ p' → p' < p → (mRoom many wide high bl G P rule f p').1 = -9
def mNoPage (many : Nat) (wide high bl : Int) (G P : Nat → Nat → Int) (rule : Int) (f : Nat) : Prop := ∀ p, 0 ≤ p → p ≤ pgM P many → p < 8 → (mRoom many wide high bl G P rule f p).1 = -9
