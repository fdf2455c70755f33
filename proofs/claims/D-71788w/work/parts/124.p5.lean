/-! plain words: numbers and words as the component reads them -/
def nvC (b : Nat → Int) (s : Nat) : Nat → Int
  | 0 => 0
  | k + 1 => if 1048576 < 10 * nvC b s k + b (s + k) - 48 then 1048576 else 10 * nvC b s k + b (s + k) - 48
theorem nvC_T {b : Nat → Int} {s : Nat} : ∀ k, (∀ i, i < k → isF (b (s + i)) = true) → (nvC b s k = nvT b s k ∧ 0 ≤ nvT b s k ∧ nvT b s k ≤ 999) ∨ (nvT b s k = 1000 ∧ 1000 ≤ nvC b s k ∧ nvC b s k ≤ 1048576)
  | 0, _ => by simp [nvC, nvT]
  | k + 1, h => by
    have h1 := nvC_T k (fun i hi => h i (by omega))
    have h2 := isF_iff.mp (h k (by omega))
    simp only [nvC, nvT]
    split <;> split <;> omega
theorem nvC_b {b : Nat → Int} {s k : Nat} (h : ∀ i, i < k → isF (b (s + i)) = true) : 0 ≤ nvC b s k ∧ nvC b s k ≤ 1048576 := by
  have := nvC_T k h
  omega
theorem mNum_c {b : Nat → Int} {n a : Nat} {lo hi : Int} (hh : hi ≤ 999) (h : sk b n a < sc isF b n (sk b n a)) (h1 : lo ≤ nvC b (sk b n a) (sc isF b n (sk b n a) - sk b n a)) (h2 : nvC b (sk b n a) (sc isF b n (sk b n a) - sk b n a) ≤ hi) : mNum b n lo hi a = .ok (nvC b (sk b n a) (sc isF b n (sk b n a) - sk b n a), sc isF b n (sk b n a)) := by
  have := nvC_T (b := b) (s := sk b n a) (sc isF b n (sk b n a) - sk b n a) (fun i hi => sc_in (a := sk b n a) (n := n) (by omega) (by omega))
  unfold mNum
  have e : nvT b (sk b n a) (sc isF b n (sk b n a) - sk b n a) = nvC b (sk b n a) (sc isF b n (sk b n a) - sk b n a) := by omega
  rw [e, if_pos ⟨h, h1, h2⟩]
theorem mNum_d {b : Nat → Int} {n a : Nat} {lo hi : Int} (hh : hi ≤ 999) (h : ¬ (sk b n a < sc isF b n (sk b n a) ∧ lo ≤ nvC b (sk b n a) (sc isF b n (sk b n a) - sk b n a) ∧ nvC b (sk b n a) (sc isF b n (sk b n a) - sk b n a) ≤ hi)) : mNum b n lo hi a = .error (sk b n a) := by
  have := nvC_T (b := b) (s := sk b n a) (sc isF b n (sk b n a) - sk b n a) (fun i hi => sc_in (a := sk b n a) (n := n) (by omega) (by omega))
  unfold mNum
  refine if_neg fun q => h ?_
  have e : nvT b (sk b n a) (sc isF b n (sk b n a) - sk b n a) = nvC b (sk b n a) (sc isF b n (sk b n a) - sk b n a) := by omega
  rw [← e]
  exact q
theorem wcd_c {b b' : Nat → Int} {s s' : Nat} : ∀ k, (∀ i, i < k → b (s + i) = b' (s' + i)) → wcd b s k = wcd b' s' k
  | 0, _ => rfl
  | k + 1, h => by rw [wcd, wcd, wcd_c k (fun i hi => h i (by omega)), h k (by omega)]
theorem wcd_p {b : Nat → Int} {s : Nat} : ∀ k, (∀ i, i < k → isL (b (s + i)) = true) → 0 ≤ wcd b s k ∧ (0 < k → 0 < wcd b s k)
  | 0, _ => by simp [wcd]
  | k + 1, h => by
    have h1 := wcd_p k (fun i hi => h i (by omega))
    have h2 := isL_iff.mp (h k (by omega))
    rw [wcd]
    omega
theorem wcd_inj {b b' : Nat → Int} {s s' : Nat} : ∀ k k', (∀ i, i < k → isL (b (s + i)) = true) → (∀ i, i < k' → isL (b' (s' + i)) = true) → wcd b s k = wcd b' s' k' → k = k' ∧ ∀ i, i < k → b (s + i) = b' (s' + i)
  | 0, 0, _, _, _ => ⟨rfl, fun i h => by omega⟩
  | 0, k' + 1, _, h, e => by
    have := (wcd_p (k' + 1) h).2 (by omega)
    rw [← e] at this
    simp [wcd] at this
  | k + 1, 0, h, _, e => by
    have := (wcd_p (k + 1) h).2 (by omega)
    rw [e] at this
    simp [wcd] at this
  | k + 1, k' + 1, h, h', e => by
    have a := isL_iff.mp (h k (by omega))
    have a' := isL_iff.mp (h' k' (by omega))
    rw [wcd, wcd] at e
    have ih := wcd_inj k k' (fun i hi => h i (by omega)) (fun i hi => h' i (by omega)) (by omega)
    obtain ⟨e1, e2⟩ := ih
    subst e1
    refine ⟨rfl, fun i hi => ?_⟩
    by_cases z : i = k
    · subst z
      have := wcd_c (b := b) (b' := b') (s := s) (s' := s') i e2
      omega
    · exact e2 i (by omega)
/-- the words -/
def kwd (k : Nat) : List Int := match k with
  | 0 => [102, 114, 97, 109, 101]
  | 1 => [105, 99, 111, 110]
  | 2 => [98, 111, 114, 100, 101, 114]
  | 3 => [108, 111, 103, 111]
  | 4 => [112, 97, 103, 101]
  | _ => [98, 108, 101, 101, 100]
def kwc (k : Nat) : Int := match k with
  | 0 => 3544025
  | 1 => 179753
  | 2 => 37026792
  | 3 => 247335
  | 4 => 315851
  | _ => 1302862
theorem kw_ok : ∀ k, k < 6 → (kwd k).length ≤ 6 ∧ wcd (fun i => (kwd k).getD i 0) 0 (kwd k).length = kwc k ∧ ∀ i, i < (kwd k).length → isL ((kwd k).getD i 0) = true := by decide +kernel
/-- the letters from s to e are a word's -/
def isKw (b : Nat → Int) (s e k : Nat) : Prop := e - s = (kwd k).length ∧ ∀ i, i < (kwd k).length → b (s + i) = (kwd k).getD i 0
theorem mWord_k {b : Nat → Int} {n s k : Nat} (hk : k < 6) : mWord b s (sc isL b n s) = kwc k ↔ isKw b s (sc isL b n s) k := by
  obtain ⟨k1, k2, k3⟩ := kw_ok k hk
  unfold mWord isKw
  constructor
  · intro h
    split at h
    · exfalso
      have : 0 < kwc k := by unfold kwc; split <;> omega
      omega
    · rw [← k2] at h
      have := wcd_inj _ _ (fun i hi => sc_in (p := isL) (b := b) (n := n) (a := s) (i := s + i) (by omega) (by omega)) (fun i hi => by rw [Nat.zero_add]; exact k3 i hi) h
      refine ⟨this.1, fun i hi => ?_⟩
      have := this.2 i (by omega)
      rw [this, Nat.zero_add]
  · rintro ⟨h1, h2⟩
    rw [if_neg (by omega), h1, ← k2]
    exact wcd_c _ (fun i hi => by rw [h2 i hi, Nat.zero_add])
theorem isKw_one {b : Nat → Int} {s e k k' : Nat} (h : isKw b s e k) (h' : isKw b s e k') (hk : k < 6) (hk' : k' < 6) : k = k' := by
  have key : ∀ k, k < 6 → ∀ k', k' < 6 → (kwd k).length = (kwd k').length → (∀ i, i < (kwd k).length → (kwd k).getD i 0 = (kwd k').getD i 0) → k = k' := by decide +kernel
  obtain ⟨a1, a2⟩ := h
  obtain ⟨b1, b2⟩ := h'
  exact key k hk k' hk' (by omega) (fun i hi => by rw [← a2 i hi, b2 i (by omega)])
