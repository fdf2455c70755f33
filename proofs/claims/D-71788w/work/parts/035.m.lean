/-! plain words: frames of a sheet (G f k: 0 kind, 1 w, 2 h, 3 left, 4 above, 5 right, 6 below), places (P f k: 0 page or -1, 1 x, 2 y, 3 turned) -/
set_option maxRecDepth 100000
def mAc (G : Nat → Nat → Int) (f : Nat) : Int := if G f 0 = 3 then G f 1 else G f 1 - G f 3 - G f 5
def mDn (G : Nat → Nat → Int) (f : Nat) : Int := if G f 0 = 3 then G f 2 else G f 2 - G f 4 - G f 6
def mLf (G : Nat → Nat → Int) (f : Nat) : Int := if G f 0 = 3 then 0 else G f 3
def mAb (G : Nat → Nat → Int) (f : Nat) : Int := if G f 0 = 3 then 0 else G f 4
def mEd (bl : Int) (G : Nat → Nat → Int) (f : Nat) : Int := bl + (if G f 0 = 2 then 1 else 0)
def mNX (bl : Int) (G : Nat → Nat → Int) (f : Nat) (t : Int) : Int := 2 * mEd bl G f + (if t = 0 then mAc G f else mDn G f)
def mNY (bl : Int) (G : Nat → Nat → Int) (f : Nat) (t : Int) : Int := 2 * mEd bl G f + (if t = 0 then mDn G f else mAc G f)
def shOK (many : Nat) (wide high bl : Int) (G : Nat → Nat → Int) : Prop := many ≤ 8 ∧ 0 ≤ wide ∧ wide ≤ 16 ∧ 0 ≤ high ∧ high ≤ 16 ∧ (0 < many → 4 ≤ wide ∧ 4 ≤ high) ∧ 0 ≤ bl ∧ bl ≤ 2 ∧ ∀ f, f < many → 0 ≤ G f 0 ∧ G f 0 ≤ 3 ∧ 1 ≤ G f 1 ∧ G f 1 ≤ 16 ∧ 1 ≤ G f 2 ∧ G f 2 ≤ 16 ∧ 0 ≤ G f 3 ∧ G f 3 ≤ 9 ∧ 0 ≤ G f 4 ∧ G f 4 ≤ 9 ∧ 0 ≤ G f 5 ∧ G f 5 ≤ 9 ∧ 0 ≤ G f 6 ∧ G f 6 ≤ 9 ∧ G f 3 + G f 5 < G f 1 ∧ G f 4 + G f 6 < G f 2
def plOK (many : Nat) (P : Nat → Nat → Int) (rule : Int) : Prop := (∀ f, f < many → -1 ≤ P f 0 ∧ P f 0 ≤ 7 ∧ 0 ≤ P f 1 ∧ P f 1 ≤ 16 ∧ 0 ≤ P f 2 ∧ P f 2 ≤ 16 ∧ 0 ≤ P f 3 ∧ P f 3 ≤ 1) ∧ 0 ≤ rule ∧ rule ≤ 3
section MB
variable {many : Nat} {wide high bl : Int} {G : Nat → Nat → Int} {P : Nat → Nat → Int} {rule : Int}
theorem shOK.g (h : shOK many wide high bl G) {f : Nat} (hf : f < many) : 0 ≤ G f 0 ∧ G f 0 ≤ 3 ∧ 1 ≤ G f 1 ∧ G f 1 ≤ 16 ∧ 1 ≤ G f 2 ∧ G f 2 ≤ 16 ∧ 0 ≤ G f 3 ∧ G f 3 ≤ 9 ∧ 0 ≤ G f 4 ∧ G f 4 ≤ 9 ∧ 0 ≤ G f 5 ∧ G f 5 ≤ 9 ∧ 0 ≤ G f 6 ∧ G f 6 ≤ 9 ∧ G f 3 + G f 5 < G f 1 ∧ G f 4 + G f 6 < G f 2 := h.2.2.2.2.2.2.2.2 f hf
theorem shOK.s (h : shOK many wide high bl G) : many ≤ 8 ∧ 0 ≤ wide ∧ wide ≤ 16 ∧ 0 ≤ high ∧ high ≤ 16 ∧ 0 ≤ bl ∧ bl ≤ 2 := ⟨h.1, h.2.1, h.2.2.1, h.2.2.2.1, h.2.2.2.2.1, h.2.2.2.2.2.2.1, h.2.2.2.2.2.2.2.1⟩
theorem mAc_b (h : shOK many wide high bl G) {f : Nat} (hf : f < many) : 1 ≤ mAc G f ∧ mAc G f ≤ 16 := by
  have := h.g hf
  unfold mAc; split <;> omega
theorem mDn_b (h : shOK many wide high bl G) {f : Nat} (hf : f < many) : 1 ≤ mDn G f ∧ mDn G f ≤ 16 := by
  have := h.g hf
  unfold mDn; split <;> omega
theorem mLf_b (h : shOK many wide high bl G) {f : Nat} (hf : f < many) : 0 ≤ mLf G f ∧ mLf G f ≤ 9 := by
  have := h.g hf
  unfold mLf; split <;> omega
theorem mAb_b (h : shOK many wide high bl G) {f : Nat} (hf : f < many) : 0 ≤ mAb G f ∧ mAb G f ≤ 9 := by
  have := h.g hf
  unfold mAb; split <;> omega
theorem mEd_b (h : shOK many wide high bl G) (f : Nat) : 0 ≤ mEd bl G f ∧ mEd bl G f ≤ 3 := by
  have := h.s
  unfold mEd; split <;> omega
theorem mNX_b (h : shOK many wide high bl G) {f : Nat} (hf : f < many) (t : Int) : 1 ≤ mNX bl G f t ∧ mNX bl G f t ≤ 22 := by
  have := mAc_b h hf
  have := mDn_b h hf
  have := mEd_b h f
  unfold mNX; split <;> omega
theorem mNY_b (h : shOK many wide high bl G) {f : Nat} (hf : f < many) (t : Int) : 1 ≤ mNY bl G f t ∧ mNY bl G f t ≤ 22 := by
  have := mAc_b h hf
  have := mDn_b h hf
  have := mEd_b h f
  unfold mNY; split <;> omega
theorem mNY_X {f : Nat} {t : Int} (h : t = 0 ∨ t = 1) : mNX bl G f (1 - t) = mNY bl G f t := by
  rcases h with rfl | rfl <;> simp [mNX, mNY]
theorem mN_prod {f : Nat} (t : Int) : mNX bl G f t * mNY bl G f t = mNX bl G f 0 * mNY bl G f 0 := by
  unfold mNX mNY
  by_cases h : t = 0
  · simp [h]
  · simp [h, Int.mul_comm]
def mWt (bl : Int) (G : Nat → Nat → Int) (f : Nat) (o : Int) : Int := if o = 0 then 0 else if o = 1 then mNX bl G f 0 * mNY bl G f 0 else if mNY bl G f 0 < mNX bl G f 0 then mNX bl G f 0 else mNY bl G f 0
/-- how many pages the first n frames need -/
def pgM (P : Nat → Nat → Int) : Nat → Int
  | 0 => 0
  | n + 1 => if pgM P n ≤ P n 0 then P n 0 + 1 else pgM P n
theorem pgM_b (h : plOK many P rule) : ∀ n, n ≤ many → 0 ≤ pgM P n ∧ pgM P n ≤ 8
  | 0, _ => by simp [pgM]
  | n + 1, hn => by
    have := pgM_b h n (by omega)
    have := h.1 n (by omega)
    unfold pgM; split <;> omega
end MB
