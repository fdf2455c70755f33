/-! plain words: reading a text (b: its bytes, n: how many) -/
set_option maxRecDepth 100000
def isL (z : Int) : Bool := decide (97 ≤ z ∧ z ≤ 122)
def isF (z : Int) : Bool := decide (48 ≤ z ∧ z ≤ 57)
def isB (z : Int) : Bool := decide (z = 32)
/-- from a on as long as p holds -/
def scn (p : Int → Bool) (b : Nat → Int) : Nat → Nat → Nat
  | 0, a => a
  | k + 1, a => if p (b a) = true then scn p b k (a + 1) else a
def sc (p : Int → Bool) (b : Nat → Int) (n a : Nat) : Nat := scn p b (n - a) a
theorem sc_y {p : Int → Bool} {b : Nat → Int} {n a : Nat} (h : a < n) (hp : p (b a) = true) : sc p b n a = sc p b n (a + 1) := by
  unfold sc
  rw [show n - a = (n - (a + 1)) + 1 by omega, scn, if_pos hp]
theorem sc_n {p : Int → Bool} {b : Nat → Int} {n a : Nat} (h : ¬ (a < n ∧ p (b a) = true)) : sc p b n a = a := by
  unfold sc
  by_cases z : a < n
  · rw [show n - a = (n - (a + 1)) + 1 by omega, scn, if_neg (fun q => h ⟨z, q⟩)]
  · rw [show n - a = 0 by omega, scn]
theorem scn_b (p : Int → Bool) (b : Nat → Int) : ∀ k a, a ≤ scn p b k a ∧ scn p b k a ≤ a + k
  | 0, a => by simp [scn]
  | k + 1, a => by
    have := scn_b p b k (a + 1)
    simp only [scn]
    split <;> omega
theorem sc_b {p : Int → Bool} {b : Nat → Int} {n a : Nat} (h : a ≤ n) : a ≤ sc p b n a ∧ sc p b n a ≤ n := by
  have := scn_b p b (n - a) a
  unfold sc
  omega
theorem scn_in (p : Int → Bool) (b : Nat → Int) : ∀ k a i, a ≤ i → i < scn p b k a → p (b i) = true
  | 0, a, i, h1, h2 => by simp only [scn] at h2; omega
  | k + 1, a, i, h1, h2 => by
    simp only [scn] at h2
    split at h2
    · rename_i z
      by_cases e : i = a
      · rw [e]; exact z
      · exact scn_in p b k (a + 1) i (by omega) h2
    · omega
theorem sc_in {p : Int → Bool} {b : Nat → Int} {n a i : Nat} (h1 : a ≤ i) (h2 : i < sc p b n a) : p (b i) = true := scn_in p b _ a i h1 h2
theorem sc_end {p : Int → Bool} {b : Nat → Int} {n : Nat} : ∀ (k a : Nat), n - a < k → a ≤ n → sc p b n a < n → p (b (sc p b n a)) = false
  | 0, a, h, _, _ => absurd h (by omega)
  | k + 1, a, h, ha, h2 => by
    by_cases z : a < n ∧ p (b a) = true
    · rw [sc_y z.1 z.2] at h2 ⊢
      exact sc_end k (a + 1) (by omega) (by omega) h2
    · rw [sc_n z] at h2 ⊢
      cases hp : p (b a) with
      | false => rfl
      | true => exact absurd ⟨h2, hp⟩ z
abbrev sk (b : Nat → Int) (n a : Nat) : Nat := sc isB b n a
/-- a number's value, 1000 at most -/
def nvT (b : Nat → Int) (s : Nat) : Nat → Int
  | 0 => 0
  | k + 1 => if 99 < nvT b s k then 1000 else 10 * nvT b s k + b (s + k) - 48
theorem nvT_b {b : Nat → Int} {s : Nat} : ∀ k, (∀ i, i < k → isF (b (s + i)) = true) → 0 ≤ nvT b s k ∧ nvT b s k ≤ 1000
  | 0, _ => by simp [nvT]
  | k + 1, h => by
    have h1 := nvT_b k (fun i hi => h i (by omega))
    have h2 := h k (by omega)
    unfold isF at h2
    have h3 := of_decide_eq_true h2
    simp only [nvT]
    split <;> omega
def mNum (b : Nat → Int) (n : Nat) (lo hi : Int) (a : Nat) : Except Nat (Int × Nat) :=
  if sk b n a < sc isF b n (sk b n a) ∧ lo ≤ nvT b (sk b n a) (sc isF b n (sk b n a) - sk b n a) ∧ nvT b (sk b n a) (sc isF b n (sk b n a) - sk b n a) ≤ hi then .ok (nvT b (sk b n a) (sc isF b n (sk b n a) - sk b n a), sc isF b n (sk b n a)) else .error (sk b n a)
def mEnd (b : Nat → Int) (n a : Nat) : Except Nat Nat := if sk b n a < n ∧ b (sk b n a) = 59 then .ok (sk b n a + 1) else .error (sk b n a)
/-- what the next token is: 0 the end, 1 a word, 2 a number, 3 a stop, 4 another -/
def tkR (b : Nat → Int) (n s : Nat) (tk : Int) (e : Nat) (v : Int) : Prop :=
  (tk = 0 ∧ s = n ∧ e = s) ∨ (tk = 1 ∧ s < n ∧ isL (b s) = true ∧ e = sc isL b n s) ∨ (tk = 2 ∧ s < n ∧ isF (b s) = true ∧ e = sc isF b n s ∧ v = nvT b s (e - s)) ∨ (tk = 3 ∧ s < n ∧ b s = 59 ∧ e = s + 1) ∨ (tk = 4 ∧ s < n ∧ isL (b s) = false ∧ isF (b s) = false ∧ b s ≠ 59 ∧ e = s + 1)
theorem isL_iff {z : Int} : isL z = true ↔ 97 ≤ z ∧ z ≤ 122 := by unfold isL; exact decide_eq_true_iff
theorem isF_iff {z : Int} : isF z = true ↔ 48 ≤ z ∧ z ≤ 57 := by unfold isF; exact decide_eq_true_iff
theorem isB_iff {z : Int} : isB z = true ↔ z = 32 := by unfold isB; exact decide_eq_true_iff
theorem isL_n {z : Int} : isL z = false ↔ ¬ (97 ≤ z ∧ z ≤ 122) := by unfold isL; exact decide_eq_false_iff_not
theorem isF_n {z : Int} : isF z = false ↔ ¬ (48 ≤ z ∧ z ≤ 57) := by unfold isF; exact decide_eq_false_iff_not
/-- a word by its letters to the base of 27; 0: too long -/
def wcd (b : Nat → Int) (s : Nat) : Nat → Int
  | 0 => 0
  | k + 1 => 27 * wcd b s k + b (s + k) - 96
def mWord (b : Nat → Int) (s e : Nat) : Int := if 6 < e - s then 0 else wcd b s (e - s)
theorem wcd_b {b : Nat → Int} {s : Nat} : ∀ k, (∀ i, i < k → isL (b (s + i)) = true) → 0 ≤ wcd b s k ∧ wcd b s k < 27 ^ k
  | 0, _ => by simp [wcd]
  | k + 1, h => by
    have h1 := wcd_b k (fun i hi => h i (by omega))
    have h2 := isL_iff.mp (h k (by omega))
    simp only [wcd]
    rw [Int.pow_succ]
    omega
/-- the six numbers of a frame: from the k-th on, j of them -/
def mFrS (b : Nat → Int) (n : Nat) : Nat → Nat → Nat → (Nat → Int) → Except Nat ((Nat → Int) × Nat)
  | 0, _, a, R => .ok (R, a)
  | j + 1, k, a, R => match mNum b n (if k < 3 then 1 else 0) (if k < 3 then 16 else 9) a with
    | .error p => .error p
    | .ok (v, e) => if 4 < k ∧ R (k - 4) ≤ R (k - 2) + v then .error (sk b n a) else mFrS b n j (k + 1) e (fun i => if i = k then v else R i)
abbrev pS : Type := Nat × Int × Int × Int × Nat × (Nat → Nat → Int)
def mPgS (b : Nat → Int) (n : Nat) (a : Nat) (s : pS) : Except Nat pS := match mNum b n 4 16 a with
  | .error p => .error p
  | .ok (w, e) => match mNum b n 4 16 e with
    | .error p => .error p
    | .ok (h, e2) => match mEnd b n e2 with
      | .error p => .error p
      | .ok e3 => .ok (e3, w, h, s.2.2.2.1, s.2.2.2.2.1, s.2.2.2.2.2)
def mBlS (b : Nat → Int) (n : Nat) (t a : Nat) (s : pS) : Except Nat pS := if 0 ≤ s.2.2.2.1 then .error t else match mNum b n 0 2 a with
  | .error p => .error p
  | .ok (v, e) => match mEnd b n e with
    | .error p => .error p
    | .ok e3 => .ok (e3, s.2.1, s.2.2.1, v, s.2.2.2.2.1, s.2.2.2.2.2)
def mFrm (b : Nat → Int) (n : Nat) (kind : Int) (t a : Nat) (s : pS) : Except Nat pS := if s.2.2.2.2.1 = 8 then .error t else match mFrS b n 6 1 a (fun _ => kind) with
  | .error p => .error p
  | .ok (R, e) => match mEnd b n e with
    | .error p => .error p
    | .ok e3 => .ok (e3, s.2.1, s.2.2.1, s.2.2.2.1, s.2.2.2.2.1 + 1, fun f => if f = s.2.2.2.2.1 then R else s.2.2.2.2.2 f)
/-- one statement -/
def mOne (b : Nat → Int) (n : Nat) (s : pS) : Except Nat pS :=
  let t := sk b n s.1
  let e := sc isL b n t
  let w := mWord b t e
  if w = 315851 then (if s.2.1 = 0 then mPgS b n e s else .error t) else if s.2.1 = 0 then .error t
  else if w = 1302862 then mBlS b n t e s else if w = 3544025 then mFrm b n 0 t e s else if w = 179753 then mFrm b n 1 t e s else if w = 37026792 then mFrm b n 2 t e s else if w = 247335 then mFrm b n 3 t e s else .error t
def mPs (b : Nat → Int) (n : Nat) : Nat → pS → Except Nat pS
  | 0, s => .ok s
  | k + 1, s => if s.1 < n then (match mOne b n s with
    | .error p => .error p
    | .ok s2 => mPs b n k (sk b n s2.1, s2.2)) else .ok s
/-- a text read: where it can't go on, or what it says -/
def mRead (b : Nat → Int) (n : Nat) : Except Nat pS := match mPs b n (n + 1) (sk b n 0, 0, 0, -1, 0, fun _ _ => 0) with
  | .error p => .error p
  | .ok s => if s.2.2.2.2.1 = 0 then .error n else .ok s
theorem sc_gt {p : Int → Bool} {b : Nat → Int} {n a : Nat} (h : a < n) (hp : p (b a) = true) : a < sc p b n a := by
  rw [sc_y h hp]
  have := sc_b (p := p) (b := b) (n := n) (a := a + 1) (by omega)
  omega
theorem tkR_b {b : Nat → Int} {n s : Nat} {tk : Int} {e : Nat} {v : Int} (h : tkR b n s tk e v) (hs : s ≤ n) : 0 ≤ tk ∧ tk ≤ 4 ∧ s ≤ e ∧ e ≤ n ∧ (tk = 2 → 0 ≤ v ∧ v ≤ 1000) := by
  have h1 := sc_b (p := isL) (b := b) hs
  have h2 := sc_b (p := isF) (b := b) hs
  rcases h with h | h | h | h | h
  · omega
  · omega
  · obtain ⟨a1, a2, a3, a4, a5⟩ := h
    have := nvT_b (b := b) (s := s) (e - s) (fun i hi => sc_in (n := n) (a := s) (by omega) (by rw [← a4]; omega))
    omega
  · omega
  · omega
theorem mNum_y {b : Nat → Int} {n a : Nat} {tk : Int} {e : Nat} {v lo hi : Int} (h : tkR b n (sk b n a) tk e v) (ht : tk = 2) (hv : lo ≤ v ∧ v ≤ hi) : mNum b n lo hi a = .ok (v, e) := by
  rcases h with h | h | h | h | h
  · omega
  · omega
  · obtain ⟨a1, a2, a3, a4, a5⟩ := h
    have := sc_gt a2 a3
    subst a4
    unfold mNum
    rw [if_pos ⟨this, by rw [← a5]; exact hv⟩, ← a5]
  · omega
  · omega
theorem mNum_n {b : Nat → Int} {n a : Nat} {tk : Int} {e : Nat} {v lo hi : Int} (ha : a ≤ n) (h : tkR b n (sk b n a) tk e v) (hv : ¬ (tk = 2 ∧ lo ≤ v ∧ v ≤ hi)) : mNum b n lo hi a = .error (sk b n a) := by
  unfold mNum
  rw [if_neg]
  intro z
  have hs : a ≤ sk b n a ∧ sk b n a ≤ n := sc_b ha
  have h2 := sc_b (p := isF) (b := b) hs.2
  have hf : isF (b (sk b n a)) = true := sc_in (n := n) (Nat.le_refl _) z.1
  have hlt : sk b n a < n := by omega
  have hi := isF_iff.mp hf
  rcases h with h | h | h | h | h
  · omega
  · have := isL_iff.mp h.2.2.1
    omega
  · obtain ⟨a1, a2, a3, a4, a5⟩ := h
    subst a4
    rw [← a5] at z
    exact hv ⟨a1, z.2⟩
  · omega
  · rw [h.2.2.2.1] at hf
    cases hf
theorem mEnd_y {b : Nat → Int} {n a : Nat} {tk : Int} {e : Nat} {v : Int} (h : tkR b n (sk b n a) tk e v) (ht : tk = 3) : mEnd b n a = .ok e := by
  rcases h with h | h | h | h | h
  · omega
  · omega
  · omega
  · unfold mEnd
    rw [if_pos ⟨h.2.1, h.2.2.1⟩, h.2.2.2]
  · omega
theorem mEnd_n {b : Nat → Int} {n a : Nat} {tk : Int} {e : Nat} {v : Int} (h : tkR b n (sk b n a) tk e v) (ht : tk ≠ 3) : mEnd b n a = .error (sk b n a) := by
  unfold mEnd
  rw [if_neg]
  intro z
  rcases h with h | h | h | h | h
  · omega
  · have := isL_iff.mp h.2.2.1
    omega
  · have := isF_iff.mp h.2.2.1
    omega
  · omega
  · exact h.2.2.2.2.1 z.2
theorem mNum_b {b : Nat → Int} {n a e : Nat} {lo hi v : Int} (ha : a ≤ n) (h : mNum b n lo hi a = .ok (v, e)) : lo ≤ v ∧ v ≤ hi ∧ a < e ∧ e ≤ n := by
  unfold mNum at h
  split at h
  · rename_i z
    cases h
    have hs : a ≤ sk b n a ∧ sk b n a ≤ n := sc_b ha
    have h2 := sc_b (p := isF) (b := b) hs.2
    refine ⟨z.2.1, z.2.2, ?_, h2.2⟩
    have := z.1
    omega
  · cases h
theorem mEnd_b {b : Nat → Int} {n a e : Nat} (ha : a ≤ n) (h : mEnd b n a = .ok e) : a < e ∧ e ≤ n := by
  unfold mEnd at h
  split at h
  · rename_i z
    cases h
    have hs : a ≤ sk b n a ∧ sk b n a ≤ n := sc_b ha
    have := z.1
    omega
  · cases h
theorem mNum_e {b : Nat → Int} {n a p : Nat} {lo hi : Int} (h : mNum b n lo hi a = .error p) : p = sk b n a := by
  unfold mNum at h
  split at h
  · cases h
  · cases h; rfl
theorem mEnd_e {b : Nat → Int} {n a p : Nat} (h : mEnd b n a = .error p) : p = sk b n a := by
  unfold mEnd at h
  split at h
  · cases h
  · cases h; rfl
theorem mPgS_3 {b : Nat → Int} {n a e e2 e3 : Nat} {w h : Int} {s : pS} (h1 : mNum b n 4 16 a = .ok (w, e)) (h2 : mNum b n 4 16 e = .ok (h, e2)) (h3 : mEnd b n e2 = .ok e3) : mPgS b n a s = .ok (e3, w, h, s.2.2.2.1, s.2.2.2.2.1, s.2.2.2.2.2) := by simp [mPgS, h1, h2, h3]
theorem mPgS_2 {b : Nat → Int} {n a e e2 p : Nat} {w h : Int} {s : pS} (h1 : mNum b n 4 16 a = .ok (w, e)) (h2 : mNum b n 4 16 e = .ok (h, e2)) (h3 : mEnd b n e2 = .error p) : mPgS b n a s = .error p := by simp [mPgS, h1, h2, h3]
theorem mPgS_1 {b : Nat → Int} {n a e p : Nat} {w : Int} {s : pS} (h1 : mNum b n 4 16 a = .ok (w, e)) (h2 : mNum b n 4 16 e = .error p) : mPgS b n a s = .error p := by simp [mPgS, h1, h2]
theorem mPgS_0 {b : Nat → Int} {n a p : Nat} {s : pS} (h1 : mNum b n 4 16 a = .error p) : mPgS b n a s = .error p := by simp [mPgS, h1]
theorem mBlS_2 {b : Nat → Int} {n t a e e3 : Nat} {v : Int} {s : pS} (h0 : ¬ 0 ≤ s.2.2.2.1) (h1 : mNum b n 0 2 a = .ok (v, e)) (h3 : mEnd b n e = .ok e3) : mBlS b n t a s = .ok (e3, s.2.1, s.2.2.1, v, s.2.2.2.2.1, s.2.2.2.2.2) := by
  unfold mBlS
  rw [if_neg h0]
  simp [h1, h3]
theorem mBlS_1 {b : Nat → Int} {n t a e p : Nat} {v : Int} {s : pS} (h0 : ¬ 0 ≤ s.2.2.2.1) (h1 : mNum b n 0 2 a = .ok (v, e)) (h3 : mEnd b n e = .error p) : mBlS b n t a s = .error p := by
  unfold mBlS
  rw [if_neg h0]
  simp [h1, h3]
theorem mBlS_0 {b : Nat → Int} {n t a p : Nat} {s : pS} (h0 : ¬ 0 ≤ s.2.2.2.1) (h1 : mNum b n 0 2 a = .error p) : mBlS b n t a s = .error p := by
  unfold mBlS
  rw [if_neg h0]
  simp [h1]
theorem mBlS_t {b : Nat → Int} {n t a : Nat} {s : pS} (h0 : 0 ≤ s.2.2.2.1) : mBlS b n t a s = .error t := if_pos h0
theorem mFrm_t {b : Nat → Int} {n t a : Nat} {kind : Int} {s : pS} (h0 : s.2.2.2.2.1 = 8) : mFrm b n kind t a s = .error t := if_pos h0
theorem mFrm_0 {b : Nat → Int} {n t a p : Nat} {kind : Int} {s : pS} (h0 : s.2.2.2.2.1 ≠ 8) (h1 : mFrS b n 6 1 a (fun _ => kind) = .error p) : mFrm b n kind t a s = .error p := by
  unfold mFrm
  rw [if_neg h0]
  simp [h1]
theorem mFrm_1 {b : Nat → Int} {n t a p e : Nat} {kind : Int} {R : Nat → Int} {s : pS} (h0 : s.2.2.2.2.1 ≠ 8) (h1 : mFrS b n 6 1 a (fun _ => kind) = .ok (R, e)) (h3 : mEnd b n e = .error p) : mFrm b n kind t a s = .error p := by
  unfold mFrm
  rw [if_neg h0]
  simp [h1, h3]
theorem mFrm_2 {b : Nat → Int} {n t a e e3 : Nat} {kind : Int} {R : Nat → Int} {s : pS} (h0 : s.2.2.2.2.1 ≠ 8) (h1 : mFrS b n 6 1 a (fun _ => kind) = .ok (R, e)) (h3 : mEnd b n e = .ok e3) : mFrm b n kind t a s = .ok (e3, s.2.1, s.2.2.1, s.2.2.2.1, s.2.2.2.2.1 + 1, fun f => if f = s.2.2.2.2.1 then R else s.2.2.2.2.2 f) := by
  unfold mFrm
  rw [if_neg h0]
  simp [h1, h3]
theorem mFrS_0 {b : Nat → Int} {n j k a p : Nat} {R : Nat → Int} (h : mNum b n (if k < 3 then 1 else 0) (if k < 3 then 16 else 9) a = .error p) : mFrS b n (j + 1) k a R = .error p := by simp [mFrS, h]
theorem mFrS_1 {b : Nat → Int} {n j k a e : Nat} {v : Int} {R : Nat → Int} (h : mNum b n (if k < 3 then 1 else 0) (if k < 3 then 16 else 9) a = .ok (v, e)) (h2 : 4 < k ∧ R (k - 4) ≤ R (k - 2) + v) : mFrS b n (j + 1) k a R = .error (sk b n a) := by
  simp only [mFrS, h]
  rw [if_pos h2]
theorem mFrS_2 {b : Nat → Int} {n j k a e : Nat} {v : Int} {R : Nat → Int} (h : mNum b n (if k < 3 then 1 else 0) (if k < 3 then 16 else 9) a = .ok (v, e)) (h2 : ¬ (4 < k ∧ R (k - 4) ≤ R (k - 2) + v)) : mFrS b n (j + 1) k a R = mFrS b n j (k + 1) e (fun i => if i = k then v else R i) := by
  simp only [mFrS, h]
  rw [if_neg h2]
