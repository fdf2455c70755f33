/-! plain words: what is read is right -/
set_option maxRecDepth 100000
theorem mWord_b {b : Nat → Int} {n s : Nat} : 0 ≤ mWord b s (sc isL b n s) ∧ mWord b s (sc isL b n s) ≤ 387420489 := by
  unfold mWord
  split
  · omega
  · rename_i h
    have h1 := wcd_b (b := b) (s := s) (sc isL b n s - s) (fun i hi => sc_in (n := n) (a := s) (by omega) (by omega))
    have h2 : (27 : Int) ^ (sc isL b n s - s) ≤ 387420489 := by
      generalize sc isL b n s - s = k at h
      match k, h with
      | 0, _ => decide
      | 1, _ => decide
      | 2, _ => decide
      | 3, _ => decide
      | 4, _ => decide
      | 5, _ => decide
      | 6, _ => decide
      | k + 7, h => omega
    omega
theorem mWord_0 {b : Nat → Int} {n s : Nat} (h : ¬ (s < n ∧ isL (b s) = true)) : mWord b s (sc isL b n s) = 0 := by
  rw [sc_n h]
  unfold mWord
  rw [if_neg (by omega), Nat.sub_self]
  rfl
def frR (k : Nat) (v : Int) : Prop := (k < 3 → 1 ≤ v ∧ v ≤ 16) ∧ (3 ≤ k → 0 ≤ v ∧ v ≤ 9)
theorem mFrS_ok {b : Nat → Int} {n : Nat} : ∀ (j k a : Nat) (R R' : Nat → Int) (e : Nat), k + j = 7 → a ≤ n → mFrS b n j k a R = .ok (R', e) → a ≤ e ∧ e ≤ n ∧ (∀ i, i < k → R' i = R i) ∧ (∀ i, k ≤ i → i < 7 → frR i (R' i)) ∧ (∀ i, k ≤ i → 5 ≤ i → i < 7 → R' (i - 2) + R' i < R' (i - 4))
  | 0, k, a, R, R', e, hk, ha, h => by
    simp only [mFrS] at h
    cases h
    exact ⟨Nat.le_refl _, ha, fun _ _ => rfl, fun i h1 h2 => absurd h2 (by omega), fun i h1 _ h2 => absurd h2 (by omega)⟩
  | j + 1, k, a, R, R', e, hk, ha, h => by
    simp only [mFrS] at h
    split at h
    · cases h
    · rename_i v e1 hm
      have hb := mNum_b ha hm
      split at h
      · cases h
      · rename_i hno
        obtain ⟨i1, i2, i3, i4, i5⟩ := mFrS_ok j (k + 1) e1 _ R' e (by omega) hb.2.2.2 h
        have hv : R' k = v := by
          rw [i3 k (by omega), if_pos rfl]
        have hlo : ∀ i, i < k → R' i = R i := fun i hi => by rw [i3 i (by omega), if_neg (by omega)]
        refine ⟨by omega, i2, hlo, fun i h1 h2 => ?_, fun i h1 h5 h2 => ?_⟩
        · by_cases z : i = k
          · subst z
            rw [hv]
            unfold frR
            constructor
            · intro q
              rw [if_pos q, if_pos q] at hm
              have := mNum_b ha hm
              omega
            · intro q
              rw [if_neg (by omega), if_neg (by omega)] at hm
              have := mNum_b ha hm
              omega
          · exact i4 i (by omega) h2
        · by_cases z : i = k
          · subst z
            rw [hv, hlo (i - 2) (by omega), hlo (i - 4) (by omega)]
            omega
          · exact i5 i (by omega) h5 h2
/-- what is read so far is right -/
def pOK (n : Nat) (s : pS) : Prop := s.1 ≤ n ∧ s.2.2.2.2.1 ≤ 8 ∧ ((s.2.1 = 0 ∧ s.2.2.1 = 0 ∧ s.2.2.2.2.1 = 0) ∨ (4 ≤ s.2.1 ∧ s.2.1 ≤ 16 ∧ 4 ≤ s.2.2.1 ∧ s.2.2.1 ≤ 16)) ∧ -1 ≤ s.2.2.2.1 ∧ s.2.2.2.1 ≤ 2 ∧ ∀ f, f < s.2.2.2.2.1 → 0 ≤ s.2.2.2.2.2 f 0 ∧ s.2.2.2.2.2 f 0 ≤ 3 ∧ 1 ≤ s.2.2.2.2.2 f 1 ∧ s.2.2.2.2.2 f 1 ≤ 16 ∧ 1 ≤ s.2.2.2.2.2 f 2 ∧ s.2.2.2.2.2 f 2 ≤ 16 ∧ 0 ≤ s.2.2.2.2.2 f 3 ∧ s.2.2.2.2.2 f 3 ≤ 9 ∧ 0 ≤ s.2.2.2.2.2 f 4 ∧ s.2.2.2.2.2 f 4 ≤ 9 ∧ 0 ≤ s.2.2.2.2.2 f 5 ∧ s.2.2.2.2.2 f 5 ≤ 9 ∧ 0 ≤ s.2.2.2.2.2 f 6 ∧ s.2.2.2.2.2 f 6 ≤ 9 ∧ s.2.2.2.2.2 f 3 + s.2.2.2.2.2 f 5 < s.2.2.2.2.2 f 1 ∧ s.2.2.2.2.2 f 4 + s.2.2.2.2.2 f 6 < s.2.2.2.2.2 f 2
theorem mPgS_ok {b : Nat → Int} {n a : Nat} {s s' : pS} (ha : a ≤ n) (hs : pOK n s) (hz : s.2.2.2.2.1 = 0) (h : mPgS b n a s = .ok s') : pOK n s' ∧ a < s'.1 := by
  unfold mPgS at h
  split at h
  · cases h
  · rename_i w e hm
    split at h
    · cases h
    · rename_i h2 e2 hm2
      split at h
      · cases h
      · rename_i e3 hm3
        cases h
        have b1 := mNum_b ha hm
        have b2 := mNum_b b1.2.2.2 hm2
        have b3 := mEnd_b b2.2.2.2 hm3
        obtain ⟨p1, p2, p3, p4, p5, p6⟩ := hs
        refine ⟨⟨by simp only; omega, by simp only; omega, Or.inr (by simp only; omega), p4, p5, p6⟩, by simp only; omega⟩
theorem mBlS_ok {b : Nat → Int} {n t a : Nat} {s s' : pS} (ha : a ≤ n) (hs : pOK n s) (h : mBlS b n t a s = .ok s') : pOK n s' ∧ a < s'.1 := by
  unfold mBlS at h
  split at h
  · cases h
  · split at h
    · cases h
    · rename_i v e hm
      split at h
      · cases h
      · rename_i e3 hm3
        cases h
        have b1 := mNum_b ha hm
        have b3 := mEnd_b b1.2.2.2 hm3
        obtain ⟨p1, p2, p3, p4, p5, p6⟩ := hs
        refine ⟨⟨by simp only; omega, p2, p3, by simp only; omega, by simp only; omega, p6⟩, by simp only; omega⟩
theorem mFrm_ok {b : Nat → Int} {n t a : Nat} {kd : Int} {s s' : pS} (hk : 0 ≤ kd ∧ kd ≤ 3) (ha : a ≤ n) (hs : pOK n s) (hw : s.2.1 ≠ 0) (h : mFrm b n kd t a s = .ok s') : pOK n s' ∧ a < s'.1 := by
  unfold mFrm at h
  split at h
  · cases h
  · rename_i h8
    split at h
    · cases h
    · rename_i R e hm
      split at h
      · cases h
      · rename_i e3 hm3
        cases h
        obtain ⟨i1, i2, i3, i4, i5⟩ := mFrS_ok 6 1 a _ R e (by omega) ha hm
        have b3 := mEnd_b i2 hm3
        obtain ⟨p1, p2, p3, p4, p5, p6⟩ := hs
        refine ⟨⟨by simp only; omega, by simp only; omega, Or.inr (by simp only; omega), p4, p5, fun f hf => ?_⟩, by simp only; omega⟩
        simp only at hf ⊢
        by_cases z : f = s.2.2.2.2.1
        · subst z
          simp only [if_pos]
          have r0 : R 0 = kd := i3 0 (by omega)
          have r1 := i4 1 (by omega) (by omega)
          have r2 := i4 2 (by omega) (by omega)
          have r3 := i4 3 (by omega) (by omega)
          have r4 := i4 4 (by omega) (by omega)
          have r5 := i4 5 (by omega) (by omega)
          have r6 := i4 6 (by omega) (by omega)
          have c5 : R 3 + R 5 < R 1 := i5 5 (by omega) (by omega) (by omega)
          have c6 : R 4 + R 6 < R 2 := i5 6 (by omega) (by omega) (by omega)
          unfold frR at *
          omega
        · simp only [if_neg z]
          exact p6 f (by omega)
theorem mOne_ok {b : Nat → Int} {n : Nat} {s s' : pS} (hs : pOK n s) (h : mOne b n s = .ok s') : pOK n s' ∧ s.1 < s'.1 := by
  have ha := hs.1
  have h1 : s.1 ≤ sk b n s.1 ∧ sk b n s.1 ≤ n := sc_b ha
  have h2 := sc_b (p := isL) (b := b) h1.2
  have hw := hs.2.2.1
  unfold mOne at h
  simp only at h
  split at h
  · split at h
    · rename_i z
      have := mPgS_ok h2.2 hs (by omega) h
      exact ⟨this.1, by omega⟩
    · cases h
  · split at h
    · cases h
    · rename_i z
      split at h
      · have := mBlS_ok h2.2 hs h
        exact ⟨this.1, by omega⟩
      · split at h
        · have := mFrm_ok (by omega) h2.2 hs z h
          exact ⟨this.1, by omega⟩
        · split at h
          · have := mFrm_ok (by omega) h2.2 hs z h
            exact ⟨this.1, by omega⟩
          · split at h
            · have := mFrm_ok (by omega) h2.2 hs z h
              exact ⟨this.1, by omega⟩
            · split at h
              · have := mFrm_ok (by omega) h2.2 hs z h
                exact ⟨this.1, by omega⟩
              · cases h
theorem tkR_w {b : Nat → Int} {n s : Nat} {tk : Int} {e : Nat} {v : Int} (h : tkR b n s tk e v) (ht : tk = 1) : e = sc isL b n s := by
  rcases h with h | h | h | h | h
  · omega
  · exact h.2.2.2
  · omega
  · omega
  · omega
theorem tkR_nw {b : Nat → Int} {n s : Nat} {tk : Int} {e : Nat} {v : Int} (h : tkR b n s tk e v) (ht : tk ≠ 1) : ¬ (s < n ∧ isL (b s) = true) := by
  intro z
  have hl := isL_iff.mp z.2
  rcases h with h | h | h | h | h
  · omega
  · omega
  · have := isF_iff.mp h.2.2.1
    omega
  · omega
  · rw [h.2.2.1] at z
    cases z.2
section MO
variable {b : Nat → Int} {n : Nat} {s : pS} {w : Int}
theorem mOne_pg (hw : mWord b (sk b n s.1) (sc isL b n (sk b n s.1)) = w) (h : w = 315851) (hz : s.2.1 = 0) : mOne b n s = mPgS b n (sc isL b n (sk b n s.1)) s := by
  unfold mOne
  simp only
  rw [hw, if_pos h, if_pos hz]
theorem mOne_e1 (hw : mWord b (sk b n s.1) (sc isL b n (sk b n s.1)) = w) (h : w = 315851) (hz : s.2.1 ≠ 0) : mOne b n s = .error (sk b n s.1) := by
  unfold mOne
  simp only
  rw [hw, if_pos h, if_neg hz]
theorem mOne_e2 (hw : mWord b (sk b n s.1) (sc isL b n (sk b n s.1)) = w) (h : w ≠ 315851) (hz : s.2.1 = 0) : mOne b n s = .error (sk b n s.1) := by
  unfold mOne
  simp only
  rw [hw, if_neg h, if_pos hz]
theorem mOne_bl (hw : mWord b (sk b n s.1) (sc isL b n (sk b n s.1)) = w) (h : w = 1302862) (hz : s.2.1 ≠ 0) : mOne b n s = mBlS b n (sk b n s.1) (sc isL b n (sk b n s.1)) s := by
  unfold mOne
  simp only
  rw [hw, if_neg (by omega), if_neg hz, if_pos h]
theorem mOne_f0 (hw : mWord b (sk b n s.1) (sc isL b n (sk b n s.1)) = w) (h : w = 3544025) (hz : s.2.1 ≠ 0) : mOne b n s = mFrm b n 0 (sk b n s.1) (sc isL b n (sk b n s.1)) s := by
  unfold mOne
  simp only
  rw [hw, if_neg (by omega), if_neg hz, if_neg (by omega), if_pos h]
theorem mOne_f1 (hw : mWord b (sk b n s.1) (sc isL b n (sk b n s.1)) = w) (h : w = 179753) (hz : s.2.1 ≠ 0) : mOne b n s = mFrm b n 1 (sk b n s.1) (sc isL b n (sk b n s.1)) s := by
  unfold mOne
  simp only
  rw [hw, if_neg (by omega), if_neg hz, if_neg (by omega), if_neg (by omega), if_pos h]
theorem mOne_f2 (hw : mWord b (sk b n s.1) (sc isL b n (sk b n s.1)) = w) (h : w = 37026792) (hz : s.2.1 ≠ 0) : mOne b n s = mFrm b n 2 (sk b n s.1) (sc isL b n (sk b n s.1)) s := by
  unfold mOne
  simp only
  rw [hw, if_neg (by omega), if_neg hz, if_neg (by omega), if_neg (by omega), if_neg (by omega), if_pos h]
theorem mOne_f3 (hw : mWord b (sk b n s.1) (sc isL b n (sk b n s.1)) = w) (h : w = 247335) (hz : s.2.1 ≠ 0) : mOne b n s = mFrm b n 3 (sk b n s.1) (sc isL b n (sk b n s.1)) s := by
  unfold mOne
  simp only
  rw [hw, if_neg (by omega), if_neg hz, if_neg (by omega), if_neg (by omega), if_neg (by omega), if_neg (by omega), if_pos h]
theorem mOne_x (hw : mWord b (sk b n s.1) (sc isL b n (sk b n s.1)) = w) (h : w ≠ 315851 ∧ w ≠ 1302862 ∧ w ≠ 3544025 ∧ w ≠ 179753 ∧ w ≠ 37026792 ∧ w ≠ 247335) (hz : s.2.1 ≠ 0) : mOne b n s = .error (sk b n s.1) := by
  unfold mOne
  simp only
  rw [hw, if_neg h.1, if_neg hz, if_neg h.2.1, if_neg h.2.2.1, if_neg h.2.2.2.1, if_neg h.2.2.2.2.1, if_neg h.2.2.2.2.2]
end MO
theorem sk_b {b : Nat → Int} {n a : Nat} (h : a ≤ n) : a ≤ sk b n a ∧ sk b n a ≤ n := sc_b h
theorem mFrS_e {b : Nat → Int} {n : Nat} : ∀ (j k a : Nat) (R : Nat → Int) (p : Nat), a ≤ n → mFrS b n j k a R = .error p → p ≤ n
  | 0, k, a, R, p, ha, h => by simp only [mFrS] at h; cases h
  | j + 1, k, a, R, p, ha, h => by
    simp only [mFrS] at h
    split at h
    · rename_i q hm
      cases h
      rw [mNum_e hm]
      exact (sk_b ha).2
    · rename_i v e hm
      split at h
      · cases h
        exact (sk_b ha).2
      · exact mFrS_e j (k + 1) e _ p (mNum_b ha hm).2.2.2 h
theorem mOne_e {b : Nat → Int} {n p : Nat} {s : pS} (hs : pOK n s) (h : mOne b n s = .error p) : p ≤ n := by
  have h1 := sk_b (b := b) hs.1
  have h2 := sc_b (p := isL) (b := b) h1.2
  have frm : ∀ kd, mFrm b n kd (sk b n s.1) (sc isL b n (sk b n s.1)) s = .error p → p ≤ n := by
    intro kd h
    unfold mFrm at h
    split at h
    · cases h; omega
    · split at h
      · rename_i q hm
        cases h
        exact mFrS_e _ _ _ _ _ h2.2 hm
      · rename_i R e hm
        have hb := mFrS_ok 6 1 _ _ R e (by omega) h2.2 hm
        split at h
        · rename_i q hm3
          cases h
          rw [mEnd_e hm3]
          exact (sk_b hb.2.1).2
        · cases h
  unfold mOne at h
  simp only at h
  split at h
  · split at h
    · unfold mPgS at h
      split at h
      · rename_i q hm
        cases h
        rw [mNum_e hm]
        exact (sk_b h2.2).2
      · rename_i w e hm
        have hb := mNum_b h2.2 hm
        split at h
        · rename_i q hm2
          cases h
          rw [mNum_e hm2]
          exact (sk_b hb.2.2.2).2
        · rename_i w2 e2 hm2
          have hb2 := mNum_b hb.2.2.2 hm2
          split at h
          · rename_i q hm3
            cases h
            rw [mEnd_e hm3]
            exact (sk_b hb2.2.2.2).2
          · cases h
    · cases h; omega
  · split at h
    · cases h; omega
    · split at h
      · unfold mBlS at h
        split at h
        · cases h; omega
        · split at h
          · rename_i q hm
            cases h
            rw [mNum_e hm]
            exact (sk_b h2.2).2
          · rename_i v e hm
            have hb := mNum_b h2.2 hm
            split at h
            · rename_i q hm3
              cases h
              rw [mEnd_e hm3]
              exact (sk_b hb.2.2.2).2
            · cases h
      · split at h
        · exact frm _ h
        · split at h
          · exact frm _ h
          · split at h
            · exact frm _ h
            · split at h
              · exact frm _ h
              · cases h; omega
theorem mPs_x {b : Nat → Int} {n k : Nat} {s : pS} (h : ¬ s.1 < n) : mPs b n (k + 1) s = .ok s := by
  simp only [mPs]
  rw [if_neg h]
theorem mPs_e {b : Nat → Int} {n k p : Nat} {s : pS} (h : s.1 < n) (h2 : mOne b n s = .error p) : mPs b n (k + 1) s = .error p := by
  simp only [mPs]
  rw [if_pos h, h2]
theorem mPs_s {b : Nat → Int} {n k : Nat} {s s2 : pS} (h : s.1 < n) (h2 : mOne b n s = .ok s2) : mPs b n (k + 1) s = mPs b n k (sk b n s2.1, s2.2) := by
  simp only [mPs]
  rw [if_pos h, h2]
theorem mRead_e {b : Nat → Int} {n p : Nat} (h : mPs b n (n + 1) (sk b n 0, 0, 0, -1, 0, fun _ _ => 0) = .error p) : mRead b n = .error p := by
  unfold mRead
  rw [h]
theorem mRead_0 {b : Nat → Int} {n : Nat} {s : pS} (h : mPs b n (n + 1) (sk b n 0, 0, 0, -1, 0, fun _ _ => 0) = .ok s) (h2 : s.2.2.2.2.1 = 0) : mRead b n = .error n := by
  unfold mRead
  rw [h]
  exact if_pos h2
theorem mRead_1 {b : Nat → Int} {n : Nat} {s : pS} (h : mPs b n (n + 1) (sk b n 0, 0, 0, -1, 0, fun _ _ => 0) = .ok s) (h2 : s.2.2.2.2.1 ≠ 0) : mRead b n = .ok s := by
  unfold mRead
  rw [h]
  exact if_neg h2
theorem mPs_b {b : Nat → Int} {n : Nat} : ∀ (k : Nat) (s : pS) (p : Nat), pOK n s → mPs b n k s = .error p → p ≤ n
  | 0, s, p, _, h => by simp only [mPs] at h; cases h
  | k + 1, s, p, hs, h => by
    by_cases z : s.1 < n
    · cases hm : mOne b n s with
      | error q =>
        rw [mPs_e z hm] at h
        cases h
        exact mOne_e hs hm
      | ok s2 =>
        rw [mPs_s z hm] at h
        have h2 := (mOne_ok hs hm).1
        exact mPs_b k (sk b n s2.1, s2.2) p ⟨(sk_b (b := b) h2.1).2, h2.2⟩ h
    · rw [mPs_x z] at h
      cases h
theorem mRead_b {b : Nat → Int} {n p : Nat} (h : mRead b n = .error p) : p ≤ n := by
  unfold mRead at h
  split at h
  · rename_i q hm
    cases h
    exact mPs_b _ _ _ ⟨(sc_b (by omega)).2, by simp, Or.inl ⟨rfl, rfl, rfl⟩, by simp, by simp, fun f hf => absurd hf (by simp)⟩ hm
  · split at h
    · cases h
      exact Nat.le_refl _
    · cases h
