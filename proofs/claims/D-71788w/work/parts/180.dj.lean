set_option maxRecDepth 100000
/-! the component: a new frame among those read -/
theorem wC_RfS {E : jEnv} {α : Nat → Nat} {σ : cS} {m a : Nat} {g : Nat → Int} (hm : m < 8) (hd : σ.d 0 = some (a, fC g frC0)) : ∀ q x, wC E α (cD (cD (cD (cRf σ m (some a)) 0 none) 2 none) (10 + m) (some (a, fC g frC0))) q = some x → j_up (wC E α σ) 20 (some (α 20, jRf E 5 8 (va_up σ.rf m (some a)))) (if q = 210 + m then 200 else q) = some x ∧ q ≠ 200 := by
  intro q x hx
  have hdd : ∀ j, wC E α (cD (cD (cD (cRf σ m (some a)) 0 none) 2 none) (10 + m) (some (a, fC g frC0))) (200 + j) = if j = 10 + m then some (a, fC g frC0) else if j = 2 then none else if j = 0 then none else σ.d j := fun j => wC_d (σ := (cD (cD (cD (cRf σ m (some a)) 0 none) 2 none) (10 + m) (some (a, fC g frC0)))) j
  have n0 : q ≠ 200 := fun z => by
    subst z
    have := hdd 0
    rw [show 200 + 0 = 200 from rfl, hx, if_neg (by omega)] at this
    simp at this
  refine ⟨?_, n0⟩
  by_cases y : q = 210 + m
  · subst y
    rw [if_pos rfl]
    have := hdd (10 + m)
    rw [show 200 + (10 + m) = 210 + m by omega, hx, if_pos rfl] at this
    have e : j_up (wC E α σ) 20 (some (α 20, jRf E 5 8 (va_up σ.rf m (some a)))) 200 = σ.d 0 := wC_d (E := E) (α := α) (σ := σ) 0
    rw [e, hd, this]
  · rw [if_neg y]
    by_cases w : q = 20
    · subst w
      rw [← hx]
      show some (α 20, jRf E 5 8 (va_up σ.rf m (some a))) = some (α 20, jRf E 5 8 (fun j => if j = m then some a else σ.rf j))
      have e : va_up σ.rf m (some a) = fun j => if j = m then some a else σ.rf j := by
        funext j
        by_cases v : j = m
        · subst v; rw [va_up_s, if_pos rfl]
        · rw [va_up_n v, if_neg v]
      rw [e]
    · simp only [j_up, if_neg w]
      by_cases v : q < 200
      · rw [← hx]
        unfold wC
        by_cases q0 : q = 0
        · rw [if_pos q0, if_pos q0]; rfl
        · rw [if_neg q0, if_neg q0]
          have eA : cA E (cD (cD (cD (cRf σ m (some a)) 0 none) 2 none) (10 + m) (some (a, fC g frC0))) (q - 1) = cA E σ (q - 1) := by
            unfold cA
            simp only [if_neg (show ¬ q - 1 = 19 by omega)]
            rfl
          rw [eA]
          simp only [if_pos v]
          rfl
      · obtain ⟨j, rfl⟩ : ∃ j, q = 200 + j := ⟨q - 200, by omega⟩
        rw [hdd j, if_neg (by omega)] at hx
        rw [wC_d j]
        by_cases j2 : j = 2
        · rw [if_pos j2] at hx; cases hx
        · rw [if_neg j2] at hx
          by_cases j0 : j = 0
          · rw [if_pos j0] at hx; cases hx
          · rw [if_neg j0] at hx; exact hx

section CRF
variable {E : jEnv} {α : Nat → Nat} {o : Option MethodName} {cc : ByteArray} {mL : Nat} {ret : Option FieldType} {R : Room} {k n pc : Nat} {L : List (Option Value)} {st : List Value} {σ : cS} {Q : Option Value → cS → Prop}
theorem CA_rfS {z : Int} {m a : Nat} {g : Nat → Int} (hm : m < 8) (h : z = m) (hk : 0 ≤ g 0 ∧ g 0 ≤ 3) (hd : σ.d 0 = some (a, fC g frC0)) (d : decode cc pc = .ok (.aastore, 1)) (kk : J E (wC E α) (cX E, o) cc mL ret RX0 R k n (pc + 1) L (st) (cD (cD (cD (cRf σ m (some a)) 0 none) 2 none) (10 + m) (some (a, fC g frC0))) Q) : J E (wC E α) (cX E, o) cc mL ret RX0 R k n (pc) L (.ref a :: .int (zI z) :: .ref (α 20) :: st) σ Q := by
  obtain ⟨i1, i2⟩ := zI_in (N := 8) h hm (by decide)
  have fin : J E (fun W : jW => W) (cX E, o) cc mL ret RX0 R k n (pc + 1) L st (j_up (wC E α σ) 20 (some (α 20, jRf E 5 8 (va_up σ.rf m (some a))))) (j_idQ (wC E α) Q) := by
    refine J_map _ (fun q => if q = 210 + m then 200 else q) (fun q x hq => (wC_RfS hm hd q x hq).1) (fun r1 r2 x1 x2 e1 e2 e => ?_) kk
    have b1 := (wC_RfS hm hd r1 x1 e1).2
    have b2 := (wC_RfS hm hd r2 x2 e2).2
    have e' : (if r1 = 210 + m then 200 else r1) = (if r2 = 210 + m then 200 else r2) := e
    by_cases z1 : r1 = 210 + m
    · by_cases z2 : r2 = 210 + m
      · omega
      · rw [if_pos z1, if_neg z2] at e'; exact absurd e'.symm b2
    · by_cases z2 : r2 = 210 + m
      · rw [if_neg z1, if_pos z2] at e'; exact absurd e' b1
      · rw [if_neg z1, if_neg z2] at e'; exact e'
  rcases (show g 0 = 0 ∨ g 0 = 1 ∨ g 0 = 2 ∨ g 0 = 3 by omega) with h0 | h0 | h0 | h0
  · refine J_toId (J_aast (t0 := 5) (C := "FrameSheets$Frame") (ci := 2) (N := 8) (f := σ.rf) (V := fV g frC0) 20 200 rfl rfl (by rw [wC_d 0, hd, fC, h0]; rfl) rfl (Or.inl rfl) i1 rfl d ?_)
    rw [i2]
    exact fin
  · refine J_toId (J_aast (t0 := 5) (C := "FrameSheets$Frame") (ci := 3) (N := 8) (f := σ.rf) (V := fV g frC0) 20 200 rfl rfl (by rw [wC_d 0, hd, fC, h0]; rfl) rfl (Or.inr (fun A s hX => hX.1 _ q2139 rfl)) i1 rfl d ?_)
    rw [i2]
    exact fin
  · refine J_toId (J_aast (t0 := 5) (C := "FrameSheets$Frame") (ci := 4) (N := 8) (f := σ.rf) (V := fV g frC0) 20 200 rfl rfl (by rw [wC_d 0, hd, fC, h0]; rfl) rfl (Or.inr (fun A s hX => hX.1 _ q2140 rfl)) i1 rfl d ?_)
    rw [i2]
    exact fin
  · refine J_toId (J_aast (t0 := 5) (C := "FrameSheets$Frame") (ci := 5) (N := 8) (f := σ.rf) (V := fV g frC0) 20 200 rfl rfl (by rw [wC_d 0, hd, fC, h0]; rfl) rfl (Or.inr (fun A s hX => hX.1 _ q2141 rfl)) i1 rfl d ?_)
    rw [i2]
    exact fin
end CRF
theorem c_newFrame {E : jEnv} {α : Nat → Nat} {σ : cS} {Q : Option Value → cS → Prop} {t6 : Nat} {tt : Nat → Int32} {g : Nat → Int} (hk : 0 ≤ g 0 ∧ g 0 ≤ 3) (h1 : σ.d 1 = none) (h2 : σ.d 2 = some (t6, .inl (E.2.2 0, 6, .inl tt))) (ht : ∀ i, i < 6 → tt i = zI (g (i + 1))) (hq : ∀ a, Q (some (.ref a)) (cD σ 0 (some (a, fC g frC0)))) : jX0_newFrame E α 0 [some (.int (zI (g 0))), some (.ref t6), none] [] σ Q := by
  unfold fC at hq
  rcases (show g 0 = 0 ∨ g 0 = 1 ∨ g 0 = 2 ∨ g 0 = 3 by omega) with h0 | h0 | h0 | h0
  · rw [h0] at hq ⊢
    exact c_newFrame0 h1 h2 ht hq
  · rw [h0] at hq ⊢
    exact c_newFrame1 h1 h2 ht hq
  · rw [h0] at hq ⊢
    exact c_newFrame2 h1 h2 ht hq
  · rw [h0] at hq ⊢
    exact c_newFrame3 h1 h2 ht hq
