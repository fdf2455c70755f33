/-! plain words: free rectangles of a page (g i j = -9: the place is free) -/
set_option maxRecDepth 100000
abbrev rct : Type := Int × Int × Int × Int
def frB (wide high : Int) (g : Int → Int → Int) (x y w h : Int) : Prop := 0 ≤ x ∧ 0 ≤ y ∧ x + w ≤ wide ∧ y + h ≤ high ∧ ∀ i j : Int, x ≤ i → i < x + w → y ≤ j → j < y + h → g i j = -9
def frG (wide high : Int) (g : Int → Int → Int) (x y w h : Int) : Prop := ¬ frB wide high g (x - 1) y 1 h ∧ ¬ frB wide high g x (y - 1) w 1 ∧ ¬ frB wide high g (x + w) y 1 h ∧ ¬ frB wide high g x (y + h) w 1
/-- free, and no greater one -/
def mxR (wide high : Int) (g : Int → Int → Int) (r : rct) : Prop := 1 ≤ r.2.2.1 ∧ 1 ≤ r.2.2.2 ∧ frB wide high g r.1 r.2.1 r.2.2.1 r.2.2.2 ∧ frG wide high g r.1 r.2.1 r.2.2.1 r.2.2.2
/-- ahead, by y, x, width -/
def klt (a b : rct) : Prop := a.2.1 < b.2.1 ∨ (a.2.1 = b.2.1 ∧ (a.1 < b.1 ∨ (a.1 = b.1 ∧ a.2.2.1 < b.2.2.1)))
def kbe (r : rct) (y x w : Int) : Prop := r.2.1 < y ∨ (r.2.1 = y ∧ (r.1 < x ∨ (r.1 = x ∧ r.2.2.1 < w)))
section FR
variable {wide high : Int} {g : Int → Int → Int}
theorem frB.sub {x y w h w' h' : Int} (H : frB wide high g x y w h) (hw : w' ≤ w) (hh : h' ≤ h) : frB wide high g x y w' h' := ⟨H.1, H.2.1, by have := H.2.2.1; omega, by have := H.2.2.2.1; omega, fun i j a b c d => H.2.2.2.2 i j a (by omega) c (by omega)⟩
theorem frB.row {x y w h : Int} (H : frB wide high g x y w h) (K : frB wide high g x (y + h) w 1) : frB wide high g x y w (h + 1) := ⟨H.1, H.2.1, H.2.2.1, by have := K.2.2.2.1; omega, fun i j a b c d => by
  by_cases z : j < y + h
  · exact H.2.2.2.2 i j a b c z
  · exact K.2.2.2.2 i j a b (by omega) (by omega)⟩
theorem frB.low {x y w h h' : Int} (H : frB wide high g x y w h) (h0 : 0 ≤ h') (h1 : h' < h) : frB wide high g x (y + h') w 1 := ⟨H.1, by have := H.2.1; omega, H.2.2.1, by have := H.2.2.2.1; omega, fun i j a b c d => H.2.2.2.2 i j a b (by omega) (by omega)⟩
/-- the rectangles found so far: those ahead of (y, x, w), in order -/
def frI (wide high : Int) (g : Int → Int → Int) (l : List rct) (y x w : Int) : Prop := l.Pairwise klt ∧ (∀ r, r ∈ l ↔ mxR wide high g r ∧ kbe r y x w) ∧ (l.length : Int) ≤ 256 * y + 16 * x + (w - 1)
theorem mx_one {x y w h d : Int} (H : frB wide high g x y w h) (h1 : 1 ≤ h) (N : ¬ frB wide high g x y w (h + 1)) (M : mxR wide high g (x, y, w, d)) : d = h := by
  obtain ⟨m1, m2, m3, m4⟩ := M
  simp only at m1 m2 m3 m4
  rcases Int.lt_trichotomy d h with z | z | z
  · exact absurd (H.low (h' := d) (by omega) z) m4.2.2.2
  · exact z
  · exact absurd (m3.sub (Int.le_refl _) (by omega)) N
theorem frI.push {l : List rct} {y x w h : Int} (I : frI wide high g l y x w) (h0 : 1 ≤ w) (H : frB wide high g x y w h) (h1 : 1 ≤ h) (N : ¬ frB wide high g x y w (h + 1)) (K : frG wide high g x y w h) : frI wide high g (l ++ [(x, y, w, h)]) y x (w + 1) := by
  obtain ⟨i1, i2, i3⟩ := I
  refine ⟨?_, ?_, ?_⟩
  · rw [List.pairwise_append]
    refine ⟨i1, List.pairwise_singleton _ _, fun a ha b hb => ?_⟩
    rw [List.mem_singleton] at hb
    subst hb
    have := ((i2 a).mp ha).2
    unfold kbe at this
    unfold klt
    simpa using this
  · intro r
    rw [List.mem_append, List.mem_singleton, i2]
    constructor
    · rintro (⟨a, b⟩ | rfl)
      · exact ⟨a, by unfold kbe at *; omega⟩
      · exact ⟨⟨h0, h1, H, K⟩, by unfold kbe; simp; omega⟩
    · rintro ⟨a, b⟩
      by_cases z : kbe r y x w
      · exact Or.inl ⟨a, z⟩
      · right
        obtain ⟨r1, r2, r3, r4⟩ := r
        unfold kbe at b z
        simp only at b z
        obtain ⟨rfl, rfl, rfl⟩ : r1 = x ∧ r2 = y ∧ r3 = w := by omega
        rw [mx_one H h1 N a]
  · simp; omega
theorem frI.skip {l : List rct} {y x w h : Int} (I : frI wide high g l y x w) (H : frB wide high g x y w h) (h1 : 1 ≤ h) (N : ¬ frB wide high g x y w (h + 1)) (K : ¬ frG wide high g x y w h) : frI wide high g l y x (w + 1) := by
  obtain ⟨i1, i2, i3⟩ := I
  refine ⟨i1, fun r => ?_, by omega⟩
  rw [i2]
  constructor
  · rintro ⟨a, b⟩
    exact ⟨a, by unfold kbe at *; omega⟩
  · rintro ⟨a, b⟩
    refine ⟨a, ?_⟩
    by_cases z : kbe r y x w
    · exact z
    · exfalso
      obtain ⟨r1, r2, r3, r4⟩ := r
      unfold kbe at b z
      simp only at b z
      obtain ⟨rfl, rfl, rfl⟩ : r1 = x ∧ r2 = y ∧ r3 = w := by omega
      have e := mx_one H h1 N a
      subst e
      exact K a.2.2.2
theorem frI.endw {l : List rct} {y x w : Int} (I : frI wide high g l y x w) (h0 : 1 ≤ w) (hw : w ≤ 17) (N : ¬ frB wide high g x y w 1) : frI wide high g l y (x + 1) 1 := by
  obtain ⟨i1, i2, i3⟩ := I
  refine ⟨i1, fun r => ?_, by omega⟩
  rw [i2]
  constructor
  · rintro ⟨a, b⟩
    exact ⟨a, by unfold kbe at *; omega⟩
  · rintro ⟨a, b⟩
    refine ⟨a, ?_⟩
    by_cases z : kbe r y x w
    · exact z
    · exfalso
      obtain ⟨r1, r2, r3, r4⟩ := r
      obtain ⟨m1, m2, m3, m4⟩ := a
      unfold kbe at b z
      simp only at b z m1 m2 m3
      obtain ⟨rfl, rfl, hw⟩ : r1 = x ∧ r2 = y ∧ w ≤ r3 := by omega
      exact N (m3.sub hw m2)
theorem frI.endx {l : List rct} {y x : Int} (I : frI wide high g l y x 1) (hx : wide ≤ x) (hx2 : x ≤ 16) : frI wide high g l (y + 1) 0 1 := by
  obtain ⟨i1, i2, i3⟩ := I
  refine ⟨i1, fun r => ?_, by omega⟩
  rw [i2]
  constructor
  · rintro ⟨a, b⟩
    exact ⟨a, by unfold kbe at *; omega⟩
  · rintro ⟨a, b⟩
    refine ⟨a, ?_⟩
    obtain ⟨m1, m2, m3, m4⟩ := a
    have := m3.1
    have := m3.2.2.1
    unfold kbe at *
    omega
theorem frI.endy {l : List rct} {y : Int} (I : frI wide high g l y 0 1) (hy : high ≤ y) (hy2 : y ≤ 16) : l.Pairwise klt ∧ (∀ r, r ∈ l ↔ mxR wide high g r) ∧ l.length ≤ 4096 := by
  obtain ⟨i1, i2, i3⟩ := I
  refine ⟨i1, fun r => ?_, by omega⟩
  rw [i2]
  constructor
  · rintro ⟨a, b⟩
    exact a
  · rintro a
    refine ⟨a, ?_⟩
    obtain ⟨m1, m2, m3, m4⟩ := a
    have := m3.2.2.2.1
    unfold kbe
    omega
theorem frI.nil : frI wide high g [] 0 0 1 := by
  refine ⟨List.Pairwise.nil, fun r => ?_, by simp⟩
  simp only [List.not_mem_nil, false_iff, not_and]
  intro a
  have := a.2.2.1.1
  have := a.2.2.1.2.1
  have := a.1
  unfold kbe
  omega
end FR
/-- two lists in order with the same members are one -/
theorem klt_asym {a b : rct} (h : klt a b) (k : klt b a) : False := by unfold klt at *; omega
theorem klt_uniq : ∀ (l m : List rct), l.Pairwise klt → m.Pairwise klt → (∀ r, r ∈ l ↔ r ∈ m) → l = m
  | [], [], _, _, _ => rfl
  | [], b :: m, _, _, h => absurd ((h b).mpr List.mem_cons_self) List.not_mem_nil
  | a :: l, [], _, _, h => absurd ((h a).mp List.mem_cons_self) List.not_mem_nil
  | a :: l, b :: m, hl, hm, h => by
    rw [List.pairwise_cons] at hl hm
    have e : a = b := by
      rcases List.mem_cons.mp ((h a).mp List.mem_cons_self) with z | z
      · exact z
      · rcases List.mem_cons.mp ((h b).mpr List.mem_cons_self) with y | y
        · exact y.symm
        · exact (klt_asym (hl.1 b y) (hm.1 a z)).elim
    subst e
    rw [klt_uniq l m hl.2 hm.2 (fun r => by
      have h1 := h r
      simp only [List.mem_cons] at h1
      constructor
      · intro hr
        rcases h1.mp (Or.inr hr) with z | z
        · subst z; exact (klt_asym (hl.1 r hr) (hl.1 r hr)).elim
        · exact z
      · intro hr
        rcases h1.mpr (Or.inr hr) with z | z
        · subst z; exact (klt_asym (hm.1 r hr) (hm.1 r hr)).elim
        · exact z)]
/-- whose a place is, of the first n frames -/
def gO (bl : Int) (G P : Nat → Nat → Int) (page : Int) : Nat → Int → Int → Int
  | 0, _, _ => -9
  | n + 1, i, j => if P n 0 = page ∧ P n 1 ≤ i ∧ i < P n 1 + mNX bl G n (P n 3) ∧ P n 2 ≤ j ∧ j < P n 2 + mNY bl G n (P n 3) then (n : Int) else gO bl G P page n i j
theorem gO_b (bl : Int) (G P : Nat → Nat → Int) (page : Int) (i j : Int) : ∀ n, -9 ≤ gO bl G P page n i j ∧ gO bl G P page n i j < n
  | 0 => by simp [gO]
  | n + 1 => by
    have := gO_b bl G P page i j n
    unfold gO
    split <;> omega
/-- the frames that are set lie on their page -/
def plV (many : Nat) (wide high bl : Int) (G P : Nat → Nat → Int) : Prop := ∀ f, f < many → 0 ≤ P f 0 → P f 1 + mNX bl G f (P f 3) ≤ wide ∧ P f 2 + mNY bl G f (P f 3) ≤ high
/-- a frame's places, as far as they are laid: rows ahead of y, of the row y those ahead of x -/
def gP (bl : Int) (G P : Nat → Nat → Int) (page : Int) (f : Nat) (y x : Int) (i j : Int) : Int := if P f 1 ≤ i ∧ i < P f 1 + mNX bl G f (P f 3) ∧ P f 2 ≤ j ∧ (j < P f 2 + y ∨ (j = P f 2 + y ∧ i < P f 1 + x)) then (f : Int) else gO bl G P page f i j
theorem grid_put {a : Nat → Int32} {c c' : Int → Int → Int} {X Y v : Int} (h : ∀ i j : Int, 0 ≤ i → i < 16 → 0 ≤ j → j < 16 → a (16 * j + i).toNat = zI (c i j)) (hX : 0 ≤ X ∧ X < 16) (hY : 0 ≤ Y ∧ Y < 16) (h1 : c' X Y = v) (h2 : ∀ i j, ¬ (i = X ∧ j = Y) → c' i j = c i j) : ∀ i j : Int, 0 ≤ i → i < 16 → 0 ≤ j → j < 16 → upd a (16 * Y + X).toNat (zI v) (16 * j + i).toNat = zI (c' i j) := by
  intro i j a1 a2 a3 a4
  by_cases z : i = X ∧ j = Y
  · obtain ⟨rfl, rfl⟩ := z
    simp [upd, h1]
  · have : (16 * j + i).toNat ≠ (16 * Y + X).toNat := by omega
    simp only [upd, if_neg this]
    rw [h i j a1 a2 a3 a4, h2 i j z]
theorem ifc {α : Type} {a b : Prop} [Decidable a] [Decidable b] {x y : α} (h : a ↔ b) : (if a then x else y) = if b then x else y := by
  by_cases z : a
  · rw [if_pos z, if_pos (h.mp z)]
  · rw [if_neg z, if_neg (fun q => z (h.mpr q))]
section GP
variable {bl : Int} {G P : Nat → Nat → Int} {page : Int} {f : Nat} {x y : Int}
theorem gP_at (hx : 0 ≤ x) (hx2 : x < mNX bl G f (P f 3)) (hy : 0 ≤ y) : gP bl G P page f y (x + 1) (P f 1 + x) (P f 2 + y) = f := by
  unfold gP
  rw [if_pos (by omega)]
theorem gP_ne {i j : Int} (h : ¬ (i = P f 1 + x ∧ j = P f 2 + y)) : gP bl G P page f y (x + 1) i j = gP bl G P page f y x i j := by
  unfold gP
  refine ifc ?_
  omega
theorem gP_row (hx : mNX bl G f (P f 3) ≤ x) {i j : Int} : gP bl G P page f y x i j = gP bl G P page f (y + 1) 0 i j := by
  unfold gP
  refine ifc ?_
  omega
theorem gP_0 {i j : Int} : gP bl G P page f 0 0 i j = gO bl G P page f i j := by
  unfold gP
  rw [if_neg (by omega)]
theorem gP_end (h : P f 0 = page) (hy : y = mNY bl G f (P f 3)) {i j : Int} : gP bl G P page f y 0 i j = gO bl G P page (f + 1) i j := by
  unfold gP
  rw [gO]
  refine ifc ?_
  omega
theorem gO_skip (h : P f 0 ≠ page) {i j : Int} : gO bl G P page (f + 1) i j = gO bl G P page f i j := by
  rw [gO, if_neg (fun z => h z.1)]
end GP
theorem fill_step {a : Nat → Int32} {v : Int32} {k : Nat} (h : ∀ k', k' < k → a k' = v) : ∀ k', k' < k + 1 → upd a k v k' = v := by
  intro k' hk
  by_cases z : k' = k
  · simp [upd, z]
  · simp only [upd, if_neg z]; exact h k' (by omega)
