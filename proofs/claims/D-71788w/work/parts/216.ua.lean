set_option maxRecDepth 100000
/-! from one world to another; the twin's constructor -/
section JX
variable {E : jEnv} {St : Type} {w : St → jW} {X X' : jX} {cc : ByteArray} {mL : Nat} {ret : Option FieldType} {own : String} {R : Room} {k n pc : Nat} {L : List (Option Value)} {st : List Value} {σ : St}
theorem J_weakX {Q : Option Value → St → Prop} (h1 : ∀ A s, X.1 A s → X'.1 A s) (h2 : ∀ y, X'.2 = some y → X.2 = some y) (kk : J E w X' cc mL ret own R k n pc L st σ Q) : J E w X cc mL ret own R k n pc L st σ Q := by
  intro p e s m args below meth c A H locs ls C hX hA hk hn hP hD hS hL
  exact kk p e s m args below meth c A H locs ls C ⟨h1 A s hX.1, fun y hy => hX.2 y (h2 y hy)⟩ hA hk hn hP hD hS hL
theorem J_fromW {Q : Option Value → jW → Prop} (kk : J E w X cc mL ret own R k n pc L st σ (fun v σ' => Q v (w σ'))) : J E wI X cc mL ret own R k n pc L st (w σ) Q := by
  refine J_mono (Q' := j_idQ w (fun v σ' => Q v (w σ'))) (fun v W h => ?_) (J_map (w σ) (fun r => r) (fun r x h => h) (fun r1 r2 x1 x2 _ _ h => h) kk)
  obtain ⟨σ', rfl, hq⟩ := h
  exact hq
theorem JE.weak {X1 X2 : (Nat → Prop) → State → Prop} {y : MethodName} {ws : List Cond} {vs : List Value} {Q : Option Value → St → Prop} (h : ∀ A s, X2 A s → X1 A s) (hJ : JE E w X1 y ws R vs σ Q) : JE E w X2 y ws R vs σ Q := by
  intro sz p e ha hc hk s m args below hf happ hP hx
  obtain ⟨h1, h2, h3, h4⟩ := hP
  exact hJ sz p e ha hc hk s m args below hf happ ⟨h1, h2, h _ _ h3, h4⟩ hx
end JX
def upA (α : Nat → Nat) (k a : Nat) : Nat → Nat := fun j => if j = k then a else α j
def tP (a0 : Nat) (α : Nat → Nat) (b k : Nat) : Value := if tK k = 0 then .int (zI 0) else if tK k = 1 then (if k < b then .ref (α (k + 1)) else .null) else .long 0
/-- the twin half made: its fields ahead of b -/
def wTP (E : jEnv) (a0 : Nat) (α : Nat → Nat) (b : Nat) : jW := fun r => match r with
  | 0 => some (a0, .inr (0, tP a0 α b))
  | k + 1 => if tK k = 1 ∧ k < b then some (α (k + 1), .inl (E.2.2 (tB k), tN k, .inl (fun _ => zI 0))) else none
theorem wTP_s {E : jEnv} {a0 a b k : Nat} {α : Nat → Nat} (hk : tK k = 1) (hb : b ≤ k) (h : ∀ j, j < k → b ≤ j → tK j ≠ 1) : j_up (j_up (wTP E a0 α b) (k + 1) (some (a, .inl (E.2.2 (tB k), tN k, .inl (fun _ => zI 0))))) 0 (some (a0, .inr (0, updV (tP a0 α b) k (.ref a)))) = wTP E a0 (upA α (k + 1) a) (k + 1) := by
  funext r
  match r with
  | 0 =>
    show some (a0, (Sum.inr (0, updV (tP a0 α b) k (.ref a)) : jE)) = some (a0, .inr (0, tP a0 (upA α (k + 1) a) (k + 1)))
    have e : updV (tP a0 α b) k (.ref a) = tP a0 (upA α (k + 1) a) (k + 1) := by
      funext j
      by_cases z : j = k
      · subst z
        simp [updV, tP, hk, upA]
      · have e1 : updV (tP a0 α b) k (.ref a) j = tP a0 α b j := by simp [updV, z]
        rw [e1]
        unfold tP
        by_cases t0 : tK j = 0
        · rw [if_pos t0, if_pos t0]
        · rw [if_neg t0, if_neg t0]
          by_cases t1 : tK j = 1
          · rw [if_pos t1, if_pos t1]
            by_cases jb : j < b
            · rw [if_pos jb, if_pos (by omega)]
              unfold upA
              rw [if_neg (by omega)]
            · have hjk : ¬ j < k := fun q => h j q (by omega) t1
              rw [if_neg jb, if_neg (by omega)]
          · rw [if_neg t1, if_neg t1]
    rw [e]
  | j + 1 =>
    show (if j + 1 = k + 1 then _ else wTP E a0 α b (j + 1)) = wTP E a0 (upA α (k + 1) a) (k + 1) (j + 1)
    by_cases z : j = k
    · subst z
      rw [if_pos rfl]
      show _ = if tK j = 1 ∧ j < j + 1 then _ else _
      rw [if_pos ⟨hk, by omega⟩]
      unfold upA
      rw [if_pos rfl]
    · rw [if_neg (by omega)]
      show (if tK j = 1 ∧ j < b then _ else none) = if tK j = 1 ∧ j < k + 1 then _ else none
      by_cases y : tK j = 1 ∧ j < b
      · rw [if_pos y, if_pos ⟨y.1, by omega⟩]
        unfold upA
        rw [if_neg (by omega)]
      · rw [if_neg y]
        have : ¬ (tK j = 1 ∧ j < k + 1) := fun q => by
          by_cases jb : j < b
          · exact y ⟨q.1, jb⟩
          · exact h j (by omega) (by omega) q.1
        rw [if_neg this]
def tS0 : tS := (fun _ => zI 0, fun _ _ => zI 0, 0)
theorem tK_b {k : Nat} (h : tK k = 1) : k < 45 := by
  apply Classical.byContradiction
  intro q
  obtain ⟨j, rfl⟩ : ∃ j, k = j + 45 := ⟨k - 45, by omega⟩
  cases h
theorem tK_41 {k : Nat} (h : tK k = 1) : k < 41 := by
  have h2 := tK_b h
  have : ∀ k, k < 45 → tK k = 1 → k < 41 := by decide
  exact this k h2 h
theorem wTP_e {E : jEnv} {a0 b : Nat} {α : Nat → Nat} (hb : ∀ k, tK k = 1 → k < b) : wTP E a0 α b = wT E (upA α 0 a0) tS0 := by
  funext r
  match r with
  | 0 =>
    show some (a0, (Sum.inr (0, tP a0 α b) : jE)) = some (upA α 0 a0 0, .inr (0, tV (upA α 0 a0) tS0))
    have e : tP a0 α b = tV (upA α 0 a0) tS0 := by
      funext k
      unfold tP tV
      by_cases t0 : tK k = 0
      · rw [if_pos t0, if_pos t0]; rfl
      · rw [if_neg t0, if_neg t0]
        by_cases t1 : tK k = 1
        · rw [if_pos t1, if_pos t1, if_pos (hb k t1)]
          unfold upA
          rw [if_neg (by omega)]
        · rw [if_neg t1, if_neg t1]; rfl
    rw [e]
    rfl
  | k + 1 =>
    show (if tK k = 1 ∧ k < b then _ else _) = if tK k = 1 then _ else none
    by_cases t1 : tK k = 1
    · rw [if_pos ⟨t1, hb k t1⟩, if_pos t1]
      unfold upA
      rw [if_neg (by omega)]
      rfl
    · rw [if_neg (fun q => t1 q.1), if_neg t1]
