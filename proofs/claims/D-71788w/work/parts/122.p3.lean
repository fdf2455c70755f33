/-! plain words: cutting in place, sorting -/
/-- ahead, by y, x, width, height -/
def rAh (a b : rct) : Prop := if a.2.1 ≠ b.2.1 then a.2.1 < b.2.1 else if a.1 ≠ b.1 then a.1 < b.1 else if a.2.2.1 ≠ b.2.2.1 then a.2.2.1 < b.2.2.1 else a.2.2.2 < b.2.2.2
theorem rAh_iff {a b : rct} : rAh a b ↔ a.2.1 < b.2.1 ∨ (a.2.1 = b.2.1 ∧ (a.1 < b.1 ∨ (a.1 = b.1 ∧ (a.2.2.1 < b.2.2.1 ∨ (a.2.2.1 = b.2.2.1 ∧ a.2.2.2 < b.2.2.2))))) := by
  unfold rAh
  split
  · omega
  · split
    · omega
    · split <;> omega
def fnS (wide high : Int) (g : Int → Int → Int) (N : Nat) (a : Nat → rct) : Prop := (∀ i, i < N → ∀ j, j < N → a i = a j → i = j) ∧ ∀ r, (∃ i, i < N ∧ a i = r) ↔ mxR wide high g r
theorem getD_get {l : List rct} {i : Nat} (h : i < l.length) : l.getD i (0, 0, 0, 0) = l[i] := by
  rw [List.getD_eq_getElem?_getD, List.getElem?_eq_getElem h]; rfl
theorem frS.fn {wide high : Int} {g : Int → Int → Int} {l : List rct} (h : frS wide high g l) : fnS wide high g l.length (fun i => l.getD i (0, 0, 0, 0)) := by
  refine ⟨fun i hi j hj e => ?_, fun r => ?_⟩
  · simp only at e
    rw [getD_get hi, getD_get hj] at e
    exact (List.getElem_inj h.1).mp e
  · rw [← h.2 r]
    constructor
    · rintro ⟨i, hi, e⟩
      simp only at e
      rw [getD_get hi] at e
      rw [← e]
      exact List.getElem_mem hi
    · intro hr
      obtain ⟨i, hi, e⟩ := List.getElem_of_mem hr
      exact ⟨i, hi, by simp only; rw [getD_get hi]; exact e⟩
def srt (a : Nat → rct) (k : Nat) : Prop := ∀ i j, i < j → j < k → ¬ rAh (a j) (a i)
/-- the k-th put in at its place -/
def insA (a : Nat → rct) (t k : Nat) (i : Nat) : rct := if i < t then a i else if i = t then a k else if i ≤ k then a (i - 1) else a i
theorem ins_srt {a : Nat → rct} {k t : Nat} (h : srt a k) (ht : t ≤ k) (h1 : ∀ i, t ≤ i → i < k → rAh (a k) (a i)) (h2 : t = 0 ∨ ¬ rAh (a k) (a (t - 1))) : srt (insA a t k) (k + 1) := by
  intro i j hij hj hA
  have low : ∀ i, i < t → ¬ rAh (a k) (a i) := by
    intro i hi q
    rcases h2 with z | z
    · omega
    · by_cases w : i = t - 1
      · subst w; exact z q
      · have := h i (t - 1) (by omega) (by omega)
        rw [rAh_iff] at this q z
        omega
  unfold insA at hA
  rcases Nat.lt_trichotomy j t with z | z | z
  · rw [if_pos z, if_pos (by omega)] at hA
    exact h i j hij (by omega) hA
  · rw [if_neg (by omega), if_pos z, if_pos (by omega)] at hA
    exact low i (by omega) hA
  · rw [if_neg (by omega), if_neg (by omega), if_pos (by omega)] at hA
    rcases Nat.lt_trichotomy i t with y | y | y
    · rw [if_pos y] at hA
      exact h i (j - 1) (by omega) (by omega) hA
    · rw [if_neg (by omega), if_pos y] at hA
      have := h1 (j - 1) (by omega) (by omega)
      rw [rAh_iff] at this hA
      omega
    · rw [if_neg (by omega), if_neg (by omega), if_pos (by omega)] at hA
      exact h (i - 1) (j - 1) (by omega) (by omega) hA
theorem ins_fn {wide high : Int} {g : Int → Int → Int} {N : Nat} {a : Nat → rct} {k t : Nat} (h : fnS wide high g N a) (ht : t ≤ k) (hk : k < N) : fnS wide high g N (insA a t k) := by
  let c : Nat → Nat := fun i => if i < t then i else if i = t then k else if i ≤ k then i - 1 else i
  have hc : ∀ i, insA a t k i = a (c i) := by
    intro i
    show (if i < t then a i else if i = t then a k else if i ≤ k then a (i - 1) else a i) = a (if i < t then i else if i = t then k else if i ≤ k then i - 1 else i)
    split
    · rfl
    · split
      · rfl
      · split <;> rfl
  have hcl : ∀ i, i < N → c i < N := by
    intro i hi
    show (if i < t then i else if i = t then k else if i ≤ k then i - 1 else i) < N
    split
    · omega
    · split
      · omega
      · split <;> omega
  have hci : ∀ i j, c i = c j → i = j := by
    intro i j e
    have e' : (if i < t then i else if i = t then k else if i ≤ k then i - 1 else i) = (if j < t then j else if j = t then k else if j ≤ k then j - 1 else j) := e
    split at e' <;> split at e' <;> (try split at e') <;> (try split at e') <;> (try split at e') <;> (try split at e') <;> omega
  have hcs : ∀ j, j < N → ∃ i, i < N ∧ c i = j := by
    intro j hj
    by_cases z1 : j < t
    · exact ⟨j, hj, if_pos z1⟩
    · by_cases z2 : j = k
      · exact ⟨t, by omega, by show (if t < t then t else if t = t then k else _) = j; rw [if_neg (by omega), if_pos rfl, z2]⟩
      · by_cases z3 : j < k
        · exact ⟨j + 1, by omega, by show (if j + 1 < t then j + 1 else if j + 1 = t then k else if j + 1 ≤ k then j + 1 - 1 else j + 1) = j; rw [if_neg (by omega), if_neg (by omega), if_pos (by omega)]; omega⟩
        · exact ⟨j, hj, by show (if j < t then j else if j = t then k else if j ≤ k then j - 1 else j) = j; rw [if_neg (by omega), if_neg (by omega), if_neg (by omega)]⟩
  refine ⟨fun i hi j hj e => hci i j (h.1 _ (hcl i hi) _ (hcl j hj) (by rw [← hc, ← hc]; exact e)), fun r => ?_⟩
  rw [← h.2 r]
  constructor
  · rintro ⟨i, hi, e⟩
    exact ⟨c i, hcl i hi, by rw [← hc]; exact e⟩
  · rintro ⟨j, hj, e⟩
    obtain ⟨i, hi, e2⟩ := hcs j hj
    exact ⟨i, hi, by rw [hc, e2]; exact e⟩
/-- greatest ones in order are the list -/
theorem srt_end {wide high : Int} {g : Int → Int → Int} {N : Nat} {a : Nat → rct} (h : fnS wide high g N a) (hs : srt a N) (hN : N ≤ 4096) : N = (frL wide high g).length ∧ ∀ i, i < N → a i = (frL wide high g).getD i (0, 0, 0, 0) := by
  have key : (List.range N).map a = frL wide high g := by
    refine frL_eq ⟨?_, fun r => ?_, by simp; exact hN⟩
    · rw [List.pairwise_map]
      refine List.Pairwise.imp_of_mem ?_ (List.pairwise_lt_range (n := N))
      intro i j hi hj hij
      rw [List.mem_range] at hi hj
      have h1 := hs i j hij hj
      have h2 : a i ≠ a j := fun e => by have := h.1 i hi j hj e; omega
      have m1 := (h.2 (a i)).mp ⟨i, hi, rfl⟩
      have m2 := (h.2 (a j)).mp ⟨j, hj, rfl⟩
      rw [rAh_iff] at h1
      unfold klt
      by_cases e : (a i).2.1 = (a j).2.1 ∧ (a i).1 = (a j).1 ∧ (a i).2.2.1 = (a j).2.2.1
      · exfalso
        refine h2 ?_
        by_cases z : (a i).2.2.2 ≤ (a j).2.2.2
        · exact m1.top m2.n (by unfold rIn; omega)
        · exact (m2.top m1.n (by unfold rIn; omega)).symm
      · omega
    · rw [← h.2 r, List.mem_map]
      constructor
      · rintro ⟨i, hi, e⟩
        exact ⟨i, List.mem_range.mp hi, e⟩
      · rintro ⟨i, hi, e⟩
        exact ⟨i, List.mem_range.mpr hi, e⟩
  rw [← key]
  refine ⟨by simp, fun i hi => ?_⟩
  rw [getD_get (by simp; exact hi)]
  simp
/-- a rectangle that is met gets the width 0 -/
def rZap (F r : rct) : rct := if rMeet r F then (r.1, r.2.1, 0, r.2.2.2) else r
/-- behind k steps of the cut -/
def rMid (F : rct) (l : List rct) (k : Nat) : List rct := (l.take k).map (rZap F) ++ l.drop k ++ rPcs F (l.take k)
theorem take_s {l : List rct} {k : Nat} (h : k < l.length) : l.take (k + 1) = l.take k ++ [l.getD k (0, 0, 0, 0)] := by
  rw [getD_get h, List.take_append_getElem]
theorem drop_s {l : List rct} {k : Nat} (h : k < l.length) : l.drop k = l.getD k (0, 0, 0, 0) :: l.drop (k + 1) := by
  rw [getD_get h]; exact List.drop_eq_getElem_cons h
theorem rPcs_s {F : rct} {l : List rct} {k : Nat} (h : k < l.length) : rPcs F (l.take (k + 1)) = rPcs F (l.take k) ++ (if rMeet (l.getD k (0, 0, 0, 0)) F then rPc F (l.getD k (0, 0, 0, 0)) else []) := by
  rw [take_s h]
  unfold rPcs
  rw [List.flatMap_append, List.flatMap_cons, List.flatMap_nil, List.append_nil]
theorem rMid_0 (F : rct) (l : List rct) : rMid F l 0 = l := by simp [rMid, rPcs]
theorem rMid_at {F : rct} {l : List rct} {k : Nat} (h : k < l.length) : (rMid F l k).getD k (0, 0, 0, 0) = l.getD k (0, 0, 0, 0) := by
  unfold rMid
  rw [drop_s h, List.getD_eq_getElem?_getD, List.append_assoc, List.getElem?_append_right (by simp; omega)]
  have : k - (List.map (rZap F) (List.take k l)).length = 0 := by simp; omega
  rw [this]
  simp
theorem rMid_skip {F : rct} {l : List rct} {k : Nat} (h : k < l.length) (hm : ¬ rMeet (l.getD k (0, 0, 0, 0)) F) : rMid F l (k + 1) = rMid F l k := by
  unfold rMid
  rw [rPcs_s h, if_neg hm, take_s h, drop_s h]
  generalize l.getD k (0, 0, 0, 0) = x at *
  simp [rZap, hm]
theorem rMid_cut {F : rct} {l : List rct} {k : Nat} (h : k < l.length) (hm : rMeet (l.getD k (0, 0, 0, 0)) F) : rMid F l (k + 1) = (rMid F l k).set k ((l.getD k (0, 0, 0, 0)).1, (l.getD k (0, 0, 0, 0)).2.1, 0, (l.getD k (0, 0, 0, 0)).2.2.2) ++ rPc F (l.getD k (0, 0, 0, 0)) := by
  unfold rMid
  rw [rPcs_s h, if_pos hm, take_s h, drop_s h, List.append_assoc (List.map (rZap F) (List.take k l)), List.set_append]
  have e : (List.map (rZap F) (List.take k l)).length = k := by simp; omega
  rw [e, if_neg (by omega), Nat.sub_self]
  generalize l.getD k (0, 0, 0, 0) = x at *
  have hz : rZap F x = (x.1, x.2.1, 0, x.2.2.2) := if_pos hm
  rw [List.map_append, List.map_cons, List.map_nil, hz]
  simp
theorem rMid_len {F : rct} {l : List rct} {k : Nat} (h : k ≤ l.length) : (rMid F l k).length ≤ l.length + 4 * k ∧ l.length ≤ (rMid F l k).length := by
  unfold rMid
  have := rPcs_len F (l.take k)
  simp only [List.length_append, List.length_map, List.length_take, List.length_drop] at *
  omega
/-- of the first n those that have a width -/
def rFw (l : List rct) : Nat → List rct
  | 0 => []
  | n + 1 => if 0 < (l.getD n (0, 0, 0, 0)).2.2.1 then rFw l n ++ [l.getD n (0, 0, 0, 0)] else rFw l n
theorem rFw_f (l : List rct) : ∀ n, n ≤ l.length → rFw l n = (l.take n).filter (fun r => decide (0 < r.2.2.1))
  | 0, _ => by simp [rFw]
  | n + 1, h => by
    rw [rFw, rFw_f l n (by omega), take_s (by omega), List.filter_append]
    split
    · rename_i z
      simp only [List.filter_cons, decide_eq_true z, if_true, List.filter_nil]
    · rename_i z
      simp only [List.filter_cons, decide_eq_false z, List.filter_nil]
      simp
theorem rFw_len (l : List rct) : ∀ n, (rFw l n).length ≤ n
  | 0 => by simp [rFw]
  | n + 1 => by
    have := rFw_len l n
    rw [rFw]
    split
    · simp; omega
    · omega
theorem rMid_end {F : rct} {l : List rct} (hl : ∀ r ∈ l, 1 ≤ r.2.2.1) : rFw (rMid F l l.length) (rMid F l l.length).length = rCut F l := by
  rw [rFw_f _ _ (Nat.le_refl _), List.take_length]
  unfold rMid rCut
  rw [List.take_length, List.drop_length, List.append_nil, List.filter_append]
  congr 1
  · induction l with
    | nil => rfl
    | cons a l ih =>
      have h1 := hl a List.mem_cons_self
      have h2 := ih (fun r hr => hl r (List.mem_cons_of_mem _ hr))
      rw [List.map_cons, List.filter_cons, List.filter_cons, h2]
      by_cases hm : rMeet a F
      · have e : rZap F a = (a.1, a.2.1, 0, a.2.2.2) := if_pos hm
        rw [e]
        simp [hm]
      · have e : rZap F a = a := if_neg hm
        rw [e]
        simp [hm]
        omega
  · rw [List.filter_eq_self]
    intro r hr
    unfold rPcs at hr
    obtain ⟨s, hs, h⟩ := List.mem_flatMap.mp hr
    split at h
    · rw [rPc_mem] at h
      refine decide_eq_true ?_
      rcases h with ⟨rfl, h⟩ | ⟨rfl, h⟩ | ⟨rfl, h⟩ | ⟨rfl, h⟩ <;> simp only <;> omega
    · cases h
theorem rCut_len (F : rct) (l : List rct) : (rCut F l).length ≤ 5 * l.length := by
  unfold rCut
  have := rPcs_len F l
  have := List.length_filter_le (fun r => decide (¬ rMeet r F)) l
  simp only [List.length_append] at *
  omega
