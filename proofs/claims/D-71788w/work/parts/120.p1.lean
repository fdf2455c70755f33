/-! plain words: what is free, cut by each frame -/
set_option maxRecDepth 100000
/-- a lies in b -/
abbrev rIn (a b : rct) : Prop := b.1 ≤ a.1 ∧ b.2.1 ≤ a.2.1 ∧ a.1 + a.2.2.1 ≤ b.1 + b.2.2.1 ∧ a.2.1 + a.2.2.2 ≤ b.2.1 + b.2.2.2
theorem rIn.refl (a : rct) : rIn a a := ⟨Int.le_refl _, Int.le_refl _, Int.le_refl _, Int.le_refl _⟩
theorem rIn.anti {a b : rct} (h : rIn a b) (k : rIn b a) : a = b := by
  obtain ⟨a1, a2, a3, a4⟩ := a
  obtain ⟨b1, b2, b3, b4⟩ := b
  unfold rIn at *
  simp only at h k
  simp only [Prod.mk.injEq]
  omega
theorem rIn.trans {a b c : rct} (h : rIn a b) (k : rIn b c) : rIn a c := by
  unfold rIn at *; omega
/-- free and not empty -/
def frN (wide high : Int) (g : Int → Int → Int) (r : rct) : Prop := 1 ≤ r.2.2.1 ∧ 1 ≤ r.2.2.2 ∧ frB wide high g r.1 r.2.1 r.2.2.1 r.2.2.2
section CT
variable {wide high : Int} {g : Int → Int → Int}
theorem frN.sub {a b : rct} (h : frN wide high g b) (i : rIn a b) (h1 : 1 ≤ a.2.2.1) (h2 : 1 ≤ a.2.2.2) : frN wide high g a := by
  obtain ⟨b1, b2, c1, c2, c3, c4, c5⟩ := h
  unfold rIn at i
  exact ⟨h1, h2, by omega, by omega, by omega, by omega, fun x y q1 q2 q3 q4 => c5 x y (by omega) (by omega) (by omega) (by omega)⟩
/-- a greatest one lies in no other one -/
theorem mxR.top {a b : rct} (h : mxR wide high g a) (hb : frN wide high g b) (i : rIn a b) : a = b := by
  obtain ⟨h1, h2, h3, h4, h5, h6, h7⟩ := h
  obtain ⟨b1, b2, c1, c2, c3, c4, c5⟩ := hb
  unfold rIn at i
  have e1 : a.1 = b.1 := by
    by_cases z : b.1 < a.1
    · exfalso; exact h4 ⟨by omega, by omega, by omega, by omega, fun x y q1 q2 q3 q4 => c5 x y (by omega) (by omega) (by omega) (by omega)⟩
    · omega
  have e2 : a.2.1 = b.2.1 := by
    by_cases z : b.2.1 < a.2.1
    · exfalso; exact h5 ⟨by omega, by omega, by omega, by omega, fun x y q1 q2 q3 q4 => c5 x y (by omega) (by omega) (by omega) (by omega)⟩
    · omega
  have e3 : a.1 + a.2.2.1 = b.1 + b.2.2.1 := by
    by_cases z : (a.1 + a.2.2.1) < (b.1 + b.2.2.1)
    · exfalso; exact h6 ⟨by omega, by omega, by omega, by omega, fun x y q1 q2 q3 q4 => c5 x y (by omega) (by omega) (by omega) (by omega)⟩
    · omega
  have e4 : a.2.1 + a.2.2.2 = b.2.1 + b.2.2.2 := by
    by_cases z : (a.2.1 + a.2.2.2) < (b.2.1 + b.2.2.2)
    · exfalso; exact h7 ⟨by omega, by omega, by omega, by omega, fun x y q1 q2 q3 q4 => c5 x y (by omega) (by omega) (by omega) (by omega)⟩
    · omega
  obtain ⟨a1, a2, a3, a4⟩ := a
  obtain ⟨b1, b2, b3, b4⟩ := b
  simp only at e1 e2 e3 e4
  simp only [Prod.mk.injEq]
  omega
theorem mxR.n {a : rct} (h : mxR wide high g a) : frN wide high g a := ⟨h.1, h.2.1, h.2.2.1⟩
/-- a free one lies in a greatest one -/
theorem frN.up : ∀ (n : Nat) (a : rct), frN wide high g a → (wide - a.2.2.1 + (high - a.2.2.2)).toNat < n → ∃ b, mxR wide high g b ∧ rIn a b
  | 0, _, _, h => absurd h (by omega)
  | n + 1, a, h, hn => by
    obtain ⟨b1, b2, c1, c2, c3, c4, c5⟩ := id h
    have go : ∀ b : rct, frN wide high g b → rIn a b → a.2.2.1 + a.2.2.2 < b.2.2.1 + b.2.2.2 → ∃ b, mxR wide high g b ∧ rIn a b := by
      intro b hb i hl
      obtain ⟨d1, d2, e1, e2, e3, e4, e5⟩ := id hb
      obtain ⟨c, hc, ic⟩ := frN.up n b hb (by omega)
      exact ⟨c, hc, i.trans ic⟩
    rcases Classical.em (frB wide high g (a.1 - 1) a.2.1 1 a.2.2.2) with z | z
    · refine go (a.1 - 1, a.2.1, a.2.2.1 + 1, a.2.2.2) ⟨by show 1 ≤ a.2.2.1 + 1; omega, b2, ?_⟩ (by unfold rIn; simp only; omega) (by simp only; omega)
      obtain ⟨z1, z2, z3, z4, z5⟩ := z
      refine ⟨z1, c2, by simp only; omega, c4, fun x y q1 q2 q3 q4 => ?_⟩
      simp only at q1 q2 q3 q4
      by_cases k : x < a.1
      · exact z5 x y (by omega) (by omega) (by omega) (by omega)
      · exact c5 x y (by omega) (by omega) (by omega) (by omega)
    · rcases Classical.em (frB wide high g a.1 (a.2.1 - 1) a.2.2.1 1) with y | y
      · refine go (a.1, a.2.1 - 1, a.2.2.1, a.2.2.2 + 1) ⟨b1, by show 1 ≤ a.2.2.2 + 1; omega, ?_⟩ (by unfold rIn; simp only; omega) (by simp only; omega)
        obtain ⟨z1, z2, z3, z4, z5⟩ := y
        refine ⟨c1, z2, c3, by simp only; omega, fun x y q1 q2 q3 q4 => ?_⟩
        simp only at q1 q2 q3 q4
        by_cases k : y < a.2.1
        · exact z5 x y (by omega) (by omega) (by omega) (by omega)
        · exact c5 x y (by omega) (by omega) (by omega) (by omega)
      · rcases Classical.em (frB wide high g (a.1 + a.2.2.1) a.2.1 1 a.2.2.2) with x | x
        · refine go (a.1, a.2.1, a.2.2.1 + 1, a.2.2.2) ⟨by show 1 ≤ a.2.2.1 + 1; omega, b2, ?_⟩ (by unfold rIn; simp only; omega) (by simp only; omega)
          obtain ⟨z1, z2, z3, z4, z5⟩ := x
          refine ⟨c1, c2, by simp only; omega, c4, fun x y q1 q2 q3 q4 => ?_⟩
          simp only at q1 q2 q3 q4
          by_cases k : x < a.1 + a.2.2.1
          · exact c5 x y (by omega) (by omega) (by omega) (by omega)
          · exact z5 x y (by omega) (by omega) (by omega) (by omega)
        · rcases Classical.em (frB wide high g a.1 (a.2.1 + a.2.2.2) a.2.2.1 1) with w | w
          · refine go (a.1, a.2.1, a.2.2.1, a.2.2.2 + 1) ⟨b1, by show 1 ≤ a.2.2.2 + 1; omega, ?_⟩ (by unfold rIn; simp only; omega) (by simp only; omega)
            obtain ⟨z1, z2, z3, z4, z5⟩ := w
            refine ⟨c1, c2, c3, by simp only; omega, fun x y q1 q2 q3 q4 => ?_⟩
            simp only at q1 q2 q3 q4
            by_cases k : y < a.2.1 + a.2.2.2
            · exact c5 x y (by omega) (by omega) (by omega) (by omega)
            · exact z5 x y (by omega) (by omega) (by omega) (by omega)
          · exact ⟨a, ⟨b1, b2, ⟨c1, c2, c3, c4, c5⟩, z, y, x, w⟩, rIn.refl a⟩
/-- greatest: of a set of free ones in which all free ones lie, those that lie in no other -/
theorem mx_iff {S : rct → Prop} (h1 : ∀ r, S r → frN wide high g r) (h2 : ∀ r, frN wide high g r → ∃ s, S s ∧ rIn r s) (r : rct) : mxR wide high g r ↔ S r ∧ ∀ s, S s → rIn r s → s = r := by
  constructor
  · intro h
    obtain ⟨s, hs, i⟩ := h2 r h.n
    have e := h.top (h1 s hs) i
    subst e
    exact ⟨hs, fun t ht j => (h.top (h1 t ht) j).symm⟩
  · rintro ⟨hs, hm⟩
    obtain ⟨b, hb, i⟩ := frN.up _ r (h1 r hs) (Nat.lt_succ_self _)
    obtain ⟨s, hs2, j⟩ := h2 b hb.n
    have e := hm s hs2 (i.trans j)
    subst e
    rw [i.anti j]
    exact hb
end CT
/-- whether a rectangle meets what a frame takes (x, y, right, bottom) -/
abbrev rMeet (r F : rct) : Prop := ¬ (F.2.2.1 ≤ r.1 ∨ r.1 + r.2.2.1 ≤ F.1 ∨ F.2.2.2 ≤ r.2.1 ∨ r.2.1 + r.2.2.2 ≤ F.2.1)
/-- what comes of a rectangle that is met -/
def rAdd (x y w h : Int) : List rct := if 0 < w ∧ 0 < h then [(x, y, w, h)] else []
def rPc (F r : rct) : List rct := rAdd r.1 r.2.1 (F.1 - r.1) r.2.2.2 ++ rAdd F.2.2.1 r.2.1 (r.1 + r.2.2.1 - F.2.2.1) r.2.2.2 ++ rAdd r.1 r.2.1 r.2.2.1 (F.2.1 - r.2.1) ++ rAdd r.1 F.2.2.2 r.2.2.1 (r.2.1 + r.2.2.2 - F.2.2.2)
/-- the pieces of the first k -/
def rPcs (F : rct) (l : List rct) : List rct := l.flatMap (fun r => if rMeet r F then rPc F r else [])
def rCut (F : rct) (l : List rct) : List rct := l.filter (fun r => decide (¬ rMeet r F)) ++ rPcs F l
theorem rAdd_mem {x y w h : Int} {r : rct} : r ∈ rAdd x y w h ↔ r = (x, y, w, h) ∧ 0 < w ∧ 0 < h := by
  unfold rAdd
  split
  · rename_i z
    rw [List.mem_singleton]
    exact ⟨fun e => ⟨e, z⟩, fun e => e.1⟩
  · rename_i z
    simp only [List.not_mem_nil, false_iff]
    exact fun q => z q.2
theorem rPc_mem {F r s : rct} : s ∈ rPc F r ↔ (s = (r.1, r.2.1, F.1 - r.1, r.2.2.2) ∧ 0 < F.1 - r.1 ∧ 0 < r.2.2.2) ∨ (s = (F.2.2.1, r.2.1, r.1 + r.2.2.1 - F.2.2.1, r.2.2.2) ∧ 0 < r.1 + r.2.2.1 - F.2.2.1 ∧ 0 < r.2.2.2) ∨ (s = (r.1, r.2.1, r.2.2.1, F.2.1 - r.2.1) ∧ 0 < r.2.2.1 ∧ 0 < F.2.1 - r.2.1) ∨ (s = (r.1, F.2.2.2, r.2.2.1, r.2.1 + r.2.2.2 - F.2.2.2) ∧ 0 < r.2.2.1 ∧ 0 < r.2.1 + r.2.2.2 - F.2.2.2) := by
  unfold rPc
  simp only [List.mem_append, rAdd_mem, or_assoc]
theorem rPc_len (F r : rct) : (rPc F r).length ≤ 4 := by
  have h : ∀ x y w h : Int, (rAdd x y w h).length ≤ 1 := by
    intro x y w h
    unfold rAdd
    split <;> simp
  unfold rPc
  simp only [List.length_append]
  have h1 := h r.1 r.2.1 (F.1 - r.1) r.2.2.2
  have h2 := h F.2.2.1 r.2.1 (r.1 + r.2.2.1 - F.2.2.1) r.2.2.2
  have h3 := h r.1 r.2.1 r.2.2.1 (F.2.1 - r.2.1)
  have h4 := h r.1 F.2.2.2 r.2.2.1 (r.2.1 + r.2.2.2 - F.2.2.2)
  omega
theorem rPcs_len (F : rct) : ∀ l, (rPcs F l).length ≤ 4 * l.length
  | [] => by simp [rPcs]
  | a :: l => by
    have := rPcs_len F l
    have := rPc_len F a
    unfold rPcs at *
    rw [List.flatMap_cons, List.length_append]
    rw [List.length_cons]
    split
    · omega
    · rw [List.length_nil]; omega
section CU
variable {wide high : Int} {g g' : Int → Int → Int} {F : rct} {l : List rct}
/-- of the greatest ones cut: free, and all that is free lies in one -/
theorem rCut_1 (hl : ∀ r, r ∈ l ↔ mxR wide high g r) (hF : F.1 < F.2.2.1 ∧ F.2.1 < F.2.2.2) (hg : ∀ i j, g' i j = -9 ↔ g i j = -9 ∧ ¬ (F.1 ≤ i ∧ i < F.2.2.1 ∧ F.2.1 ≤ j ∧ j < F.2.2.2)) : ∀ r, r ∈ rCut F l → frN wide high g' r := by
  intro r hr
  unfold rCut at hr
  rcases List.mem_append.mp hr with h | h
  · obtain ⟨h1, h2⟩ := List.mem_filter.mp h
    obtain ⟨m1, m2, c1, c2, c3, c4, c5⟩ := ((hl r).mp h1).n
    have h3 := of_decide_eq_true h2
    unfold rMeet at h3
    refine ⟨m1, m2, c1, c2, c3, c4, fun i j q1 q2 q3 q4 => (hg i j).mpr ⟨c5 i j q1 q2 q3 q4, ?_⟩⟩
    omega
  · unfold rPcs at h
    obtain ⟨s, hs, h⟩ := List.mem_flatMap.mp h
    obtain ⟨m1, m2, c1, c2, c3, c4, c5⟩ := ((hl s).mp hs).n
    split at h
    · rename_i hm
      unfold rMeet at hm
      rw [rPc_mem] at h
      rcases h with ⟨rfl, h⟩ | ⟨rfl, h⟩ | ⟨rfl, h⟩ | ⟨rfl, h⟩ <;> refine ⟨by simp only; omega, by simp only; omega, by simp only; omega, by simp only; omega, by simp only; omega, by simp only; omega, fun i j q1 q2 q3 q4 => (hg i j).mpr ⟨c5 i j ?_ ?_ ?_ ?_, ?_⟩⟩ <;> simp only at q1 q2 q3 q4 <;> omega
    · cases h
theorem rCut_2 (hl : ∀ r, r ∈ l ↔ mxR wide high g r) (hF : F.1 < F.2.2.1 ∧ F.2.1 < F.2.2.2) (hg : ∀ i j, g' i j = -9 ↔ g i j = -9 ∧ ¬ (F.1 ≤ i ∧ i < F.2.2.1 ∧ F.2.1 ≤ j ∧ j < F.2.2.2)) : ∀ r, frN wide high g' r → ∃ s, s ∈ rCut F l ∧ rIn r s := by
  intro r hr
  obtain ⟨m1, m2, c1, c2, c3, c4, c5⟩ := id hr
  have hr2 : frN wide high g r := ⟨m1, m2, c1, c2, c3, c4, fun i j q1 q2 q3 q4 => ((hg i j).mp (c5 i j q1 q2 q3 q4)).1⟩
  obtain ⟨b, hb, i⟩ := frN.up _ r hr2 (Nat.lt_succ_self _)
  have hbl := (hl b).mpr hb
  by_cases hm : rMeet b F
  · -- r lies on one side
    have hd : r.1 + r.2.2.1 ≤ F.1 ∨ F.2.2.1 ≤ r.1 ∨ r.2.1 + r.2.2.2 ≤ F.2.1 ∨ F.2.2.2 ≤ r.2.1 := by
      rcases Classical.em (r.1 + r.2.2.1 ≤ F.1 ∨ F.2.2.1 ≤ r.1 ∨ r.2.1 + r.2.2.2 ≤ F.2.1 ∨ F.2.2.2 ≤ r.2.1) with z | z
      · exact z
      · exfalso
        have hx : ∃ x, r.1 ≤ x ∧ x < r.1 + r.2.2.1 ∧ F.1 ≤ x ∧ x < F.2.2.1 := by
          by_cases k : F.1 ≤ r.1
          · exact ⟨r.1, by omega, by omega, by omega, by omega⟩
          · exact ⟨F.1, by omega, by omega, by omega, by omega⟩
        have hy : ∃ y, r.2.1 ≤ y ∧ y < r.2.1 + r.2.2.2 ∧ F.2.1 ≤ y ∧ y < F.2.2.2 := by
          by_cases k : F.2.1 ≤ r.2.1
          · exact ⟨r.2.1, by omega, by omega, by omega, by omega⟩
          · exact ⟨F.2.1, by omega, by omega, by omega, by omega⟩
        obtain ⟨x, x1, x2, x3, x4⟩ := hx
        obtain ⟨y, y1, y2, y3, y4⟩ := hy
        exact ((hg x y).mp (c5 x y x1 x2 y1 y2)).2 ⟨x3, x4, y3, y4⟩
    have mem : ∀ s, s ∈ rPc F b → s ∈ rCut F l := by
      intro s hs
      unfold rCut rPcs
      refine List.mem_append_right _ (List.mem_flatMap.mpr ⟨b, hbl, ?_⟩)
      rw [if_pos hm]
      exact hs
    unfold rIn at i
    rcases hd with z | z | z | z
    · exact ⟨_, mem _ (rPc_mem.mpr (Or.inl ⟨rfl, by omega, by omega⟩)), by unfold rIn; simp only; omega⟩
    · exact ⟨_, mem _ (rPc_mem.mpr (Or.inr (Or.inl ⟨rfl, by omega, by omega⟩))), by unfold rIn; simp only; omega⟩
    · exact ⟨_, mem _ (rPc_mem.mpr (Or.inr (Or.inr (Or.inl ⟨rfl, by omega, by omega⟩)))), by unfold rIn; simp only; omega⟩
    · exact ⟨_, mem _ (rPc_mem.mpr (Or.inr (Or.inr (Or.inr ⟨rfl, by omega, by omega⟩)))), by unfold rIn; simp only; omega⟩
  · exact ⟨b, List.mem_append_left _ (List.mem_filter.mpr ⟨hbl, decide_eq_true hm⟩), i⟩
end CU
/-- whether the k-th stays -/
def rStays (l : List rct) (k : Nat) : Prop := ∀ j, j < l.length → j = k ∨ ¬ rIn (l.getD k (0, 0, 0, 0)) (l.getD j (0, 0, 0, 0)) ∨ (rIn (l.getD j (0, 0, 0, 0)) (l.getD k (0, 0, 0, 0)) ∧ k < j)
/-- the first n pruned -/
noncomputable def rPr (l : List rct) : Nat → List rct
  | 0 => []
  | n + 1 => @ite _ (rStays l n) (Classical.propDecidable _) (rPr l n ++ [l.getD n (0, 0, 0, 0)]) (rPr l n)
theorem rPr_y {l : List rct} {n : Nat} (h : rStays l n) : rPr l (n + 1) = rPr l n ++ [l.getD n (0, 0, 0, 0)] := by
  simp only [rPr, if_pos h]
theorem rPr_n {l : List rct} {n : Nat} (h : ¬ rStays l n) : rPr l (n + 1) = rPr l n := by
  simp only [rPr, if_neg h]
theorem rPr_mem {l : List rct} {r : rct} : ∀ n, r ∈ rPr l n ↔ ∃ k, k < n ∧ rStays l k ∧ r = l.getD k (0, 0, 0, 0)
  | 0 => by
    simp only [rPr, List.not_mem_nil, false_iff]
    rintro ⟨k, h, -⟩
    omega
  | n + 1 => by
    by_cases h : rStays l n
    · rw [rPr_y h, List.mem_append, List.mem_singleton, rPr_mem n]
      constructor
      · rintro (⟨k, a, b, c⟩ | e)
        · exact ⟨k, by omega, b, c⟩
        · exact ⟨n, by omega, h, e⟩
      · rintro ⟨k, a, b, c⟩
        by_cases z : k = n
        · subst z; exact Or.inr c
        · exact Or.inl ⟨k, by omega, b, c⟩
    · rw [rPr_n h, rPr_mem n]
      constructor
      · rintro ⟨k, a, b, c⟩
        exact ⟨k, by omega, b, c⟩
      · rintro ⟨k, a, b, c⟩
        by_cases z : k = n
        · subst z; exact absurd b h
        · exact ⟨k, by omega, b, c⟩
theorem rPr_len {l : List rct} : ∀ n, (rPr l n).length ≤ n
  | 0 => by simp [rPr]
  | n + 1 => by
    have := rPr_len (l := l) n
    by_cases h : rStays l n
    · rw [rPr_y h]; simp; omega
    · rw [rPr_n h]; omega
theorem rPr_nodup {l : List rct} : ∀ n, n ≤ l.length → (rPr l n).Nodup
  | 0, _ => by simp [rPr]
  | n + 1, hn => by
    have ih := rPr_nodup (l := l) n (by omega)
    by_cases h : rStays l n
    · rw [rPr_y h, List.nodup_append]
      refine ⟨ih, by simp, fun a ha b hb e => ?_⟩
      rw [List.mem_singleton] at hb
      subst hb
      obtain ⟨k, k1, k2, k3⟩ := (rPr_mem n).mp ha
      rcases h k (by omega) with z | z | z
      · omega
      · exact z (by rw [← k3, e]; exact rIn.refl _)
      · omega
    · rw [rPr_n h]; exact ih
theorem rPr_iff {l : List rct} {r : rct} : r ∈ rPr l l.length ↔ r ∈ l ∧ ∀ s, s ∈ l → rIn r s → s = r := by
  rw [rPr_mem]
  constructor
  · rintro ⟨k, k1, k2, rfl⟩
    refine ⟨by rw [List.getD_eq_getElem?_getD, List.getElem?_eq_getElem k1]; exact List.getElem_mem _, fun s hs i => ?_⟩
    obtain ⟨j, j1, rfl⟩ := List.getElem_of_mem hs
    have e : l[j] = l.getD j (0, 0, 0, 0) := by rw [List.getD_eq_getElem?_getD, List.getElem?_eq_getElem j1]; rfl
    rw [e] at i ⊢
    rcases k2 j j1 with z | z | z
    · rw [z]
    · exact absurd i z
    · exact z.1.anti i
  · rintro ⟨h1, h2⟩
    -- the first place of r
    have : ∀ n, (∃ k, k < n ∧ k < l.length ∧ l.getD k (0, 0, 0, 0) = r) → ∃ k, k < l.length ∧ l.getD k (0, 0, 0, 0) = r ∧ ∀ j, j < k → l.getD j (0, 0, 0, 0) ≠ r := by
      intro n
      induction n with
      | zero => rintro ⟨k, h, -⟩; omega
      | succ n ih =>
        rintro ⟨k, a, b, c⟩
        rcases Classical.em (∃ k, k < n ∧ k < l.length ∧ l.getD k (0, 0, 0, 0) = r) with z | z
        · exact ih z
        · refine ⟨k, b, c, fun j hj e => z ⟨j, by omega, by omega, e⟩⟩
    obtain ⟨k0, b0, e0⟩ := List.getElem_of_mem h1
    obtain ⟨k, k1, k2, k3⟩ := this (k0 + 1) ⟨k0, by omega, b0, by rw [List.getD_eq_getElem?_getD, List.getElem?_eq_getElem b0]; exact e0⟩
    refine ⟨k, k1, fun j hj => ?_, k2.symm⟩
    rw [k2]
    by_cases i : rIn r (l.getD j (0, 0, 0, 0))
    · have hs : l.getD j (0, 0, 0, 0) ∈ l := by rw [List.getD_eq_getElem?_getD, List.getElem?_eq_getElem hj]; exact List.getElem_mem _
      have e := h2 _ hs i
      rcases Nat.lt_trichotomy j k with z | z | z
      · exact absurd e (k3 j z)
      · exact Or.inl z
      · exact Or.inr (Or.inr ⟨by rw [e]; exact rIn.refl _, z⟩)
    · exact Or.inr (Or.inl i)
/-- the greatest ones, once each, in any order -/
def frS (wide high : Int) (g : Int → Int → Int) (l : List rct) : Prop := l.Nodup ∧ ∀ r, r ∈ l ↔ mxR wide high g r
theorem frS.cut {wide high : Int} {g g' : Int → Int → Int} {F : rct} {l : List rct} (h : frS wide high g l) (hF : F.1 < F.2.2.1 ∧ F.2.1 < F.2.2.2) (hg : ∀ i j, g' i j = -9 ↔ g i j = -9 ∧ ¬ (F.1 ≤ i ∧ i < F.2.2.1 ∧ F.2.1 ≤ j ∧ j < F.2.2.2)) : frS wide high g' (rPr (rCut F l) (rCut F l).length) := by
  refine ⟨rPr_nodup _ (Nat.le_refl _), fun r => ?_⟩
  rw [rPr_iff, mx_iff (S := fun r => r ∈ rCut F l) (rCut_1 h.2 hF hg) (rCut_2 h.2 hF hg)]
theorem frS.start {wide high : Int} {g : Int → Int → Int} (h1 : 1 ≤ wide) (h2 : 1 ≤ high) (hg : ∀ i j, g i j = -9) : frS wide high g [(0, 0, wide, high)] := by
  refine ⟨by simp, fun r => ?_⟩
  rw [mx_iff (S := fun r => r ∈ [((0 : Int), (0 : Int), wide, high)])]
  · simp only [List.mem_singleton]
    constructor
    · rintro rfl
      exact ⟨rfl, fun s hs _ => hs⟩
    · exact fun h => h.1
  · intro r hr
    rw [List.mem_singleton] at hr
    subst hr
    exact ⟨h1, h2, by simp, by simp, by simp, by simp, fun i j _ _ _ _ => hg i j⟩
  · intro r hr
    obtain ⟨m1, m2, c1, c2, c3, c4, c5⟩ := hr
    exact ⟨_, List.mem_singleton.mpr rfl, by unfold rIn; simp only; omega⟩
theorem frS.skip {wide high : Int} {g g' : Int → Int → Int} {l : List rct} (h : frS wide high g l) (hg : ∀ i j, g' i j = g i j) : frS wide high g' l := by
  have : g' = g := funext fun i => funext fun j => hg i j
  rw [this]
  exact h
