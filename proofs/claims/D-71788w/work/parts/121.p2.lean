/-! plain words: seven frames leave 64 greatest rectangles at most -/
def tri (a b : Nat) : Nat := if a < b then b * (b - 1) / 2 + a else a * (a - 1) / 2 + b
def triB (a b c d : Nat) : Bool := a == b || c == d || !(tri a b == tri c d) || (a == c && b == d) || (a == d && b == c)
theorem triB_ok : ∀ a, a < 9 → ∀ b, b < 9 → ∀ c, c < 9 → ∀ d, d < 9 → triB a b c d = true := by decide +kernel
theorem tri_inj (a : Nat) (ha : a < 9) (b : Nat) (hb : b < 9) (c : Nat) (hc : c < 9) (d : Nat) (hd : d < 9) (h1 : a ≠ b) (h2 : c ≠ d) (e : tri a b = tri c d) : (a = c ∧ b = d) ∨ (a = d ∧ b = c) := by
  have := triB_ok a ha b hb c hc d hd
  unfold triB at this
  simp only [Bool.or_eq_true, beq_iff_eq, Bool.not_eq_true', beq_eq_false_iff_ne, Bool.and_eq_true] at this
  rcases this with (((z | z) | z) | z) | z
  · exact absurd z h1
  · exact absurd z h2
  · exact absurd e z
  · exact Or.inl z
  · exact Or.inr z
theorem tri_9 : ∀ a, a < 9 → ∀ b, b < 9 → a ≠ b → tri a b < 36 := by decide +kernel
theorem tri_8 : ∀ a, a < 8 → ∀ b, b < 8 → a ≠ b → tri a b < 28 := by decide +kernel
theorem nodup_le : ∀ (N : Nat) (l : List Nat), l.Nodup → (∀ x ∈ l, x < N) → l.length ≤ N
  | 0, [], _, _ => Nat.le_refl _
  | 0, a :: l, _, h => absurd (h a List.mem_cons_self) (by omega)
  | N + 1, l, hd, h => by
    have h1 : (l.erase N).length ≤ N := nodup_le N (l.erase N) (hd.erase N) (fun x hx => by
      have a := h x (List.mem_of_mem_erase hx)
      have b : x ≠ N := fun e => by subst e; exact hd.not_mem_erase hx
      omega)
    by_cases z : N ∈ l
    · rw [List.length_erase_of_mem z] at h1; omega
    · rw [List.erase_of_not_mem z] at h1; omega
theorem nodup_map {α : Type} {c : α → Nat} : ∀ {l : List α}, l.Nodup → (∀ a ∈ l, ∀ b ∈ l, c a = c b → a = b) → (l.map c).Nodup
  | [], _, _ => by simp
  | a :: l, h, hc => by
    rw [List.nodup_cons] at h
    rw [List.map_cons, List.nodup_cons]
    refine ⟨fun hm => ?_, nodup_map h.2 (fun x hx y hy => hc x (List.mem_cons_of_mem _ hx) y (List.mem_cons_of_mem _ hy))⟩
    obtain ⟨b, hb, e⟩ := List.mem_map.mp hm
    have := hc b (List.mem_cons_of_mem _ hb) a List.mem_cons_self e
    subst this
    exact h.1 hb
section CN
variable {wide high : Int} {g : Int → Int → Int} {on : Nat → Prop} {X Y R B : Nat → Int}
/-- the frame (7: the page) that stops r above -/
def bT (on : Nat → Prop) (X Y R B : Nat → Int) (r : rct) (t : Nat) : Prop := (t = 7 ∧ r.2.1 = 0) ∨ (on t ∧ B t = r.2.1 ∧ Y t < B t ∧ ∃ i, r.1 ≤ i ∧ i < r.1 + r.2.2.1 ∧ X t ≤ i ∧ i < R t)
/-- below (8: the page) -/
def bB (high : Int) (on : Nat → Prop) (X Y R B : Nat → Int) (r : rct) (t : Nat) : Prop := (t = 8 ∧ r.2.1 + r.2.2.2 = high) ∨ (on t ∧ Y t = r.2.1 + r.2.2.2 ∧ Y t < B t)
/-- on the left -/
def bL (on : Nat → Prop) (Y R B : Nat → Int) (r : rct) (t : Nat) : Prop := 0 < r.1 → on t ∧ R t = r.1 ∧ ∃ j, r.2.1 ≤ j ∧ j < r.2.1 + r.2.2.2 ∧ Y t ≤ j ∧ j < B t
theorem ex_T (hg : ∀ i j, g i j = -9 ↔ ∀ f, on f → ¬ (X f ≤ i ∧ i < R f ∧ Y f ≤ j ∧ j < B f)) {r : rct} (h : mxR wide high g r) : ∃ t, bT on X Y R B r t := by
  obtain ⟨m1, m2, ⟨c1, c2, c3, c4, c5⟩, k1, k2, k3, k4⟩ := h
  by_cases z : r.2.1 = 0
  · exact ⟨7, Or.inl ⟨rfl, z⟩⟩
  · rcases Classical.em (∀ i, r.1 ≤ i → i < r.1 + r.2.2.1 → g i (r.2.1 - 1) = -9) with q | q
    · exact absurd ⟨c1, by omega, c3, by omega, fun i j a b c d => by rw [show j = r.2.1 - 1 by omega]; exact q i a b⟩ k2
    · obtain ⟨i, q⟩ := Classical.not_forall.mp q
      obtain ⟨a, q⟩ := Classical.not_imp.mp q
      obtain ⟨b, q⟩ := Classical.not_imp.mp q
      rw [hg] at q
      obtain ⟨f, q⟩ := Classical.not_forall.mp q
      obtain ⟨of, q⟩ := Classical.not_imp.mp q
      have q := Classical.not_not.mp q
      have w := (hg i r.2.1).mp (c5 i r.2.1 a b (by omega) (by omega)) f of
      exact ⟨f, Or.inr ⟨of, by omega, by omega, i, a, b, q.1, q.2.1⟩⟩
theorem ex_B (hg : ∀ i j, g i j = -9 ↔ ∀ f, on f → ¬ (X f ≤ i ∧ i < R f ∧ Y f ≤ j ∧ j < B f)) {r : rct} (h : mxR wide high g r) : ∃ t, bB high on X Y R B r t := by
  obtain ⟨m1, m2, ⟨c1, c2, c3, c4, c5⟩, k1, k2, k3, k4⟩ := h
  by_cases z : r.2.1 + r.2.2.2 = high
  · exact ⟨8, Or.inl ⟨rfl, z⟩⟩
  · rcases Classical.em (∀ i, r.1 ≤ i → i < r.1 + r.2.2.1 → g i (r.2.1 + r.2.2.2) = -9) with q | q
    · exact absurd ⟨c1, by omega, c3, by omega, fun i j a b c d => by rw [show j = r.2.1 + r.2.2.2 by omega]; exact q i a b⟩ k4
    · obtain ⟨i, q⟩ := Classical.not_forall.mp q
      obtain ⟨a, q⟩ := Classical.not_imp.mp q
      obtain ⟨b, q⟩ := Classical.not_imp.mp q
      rw [hg] at q
      obtain ⟨f, q⟩ := Classical.not_forall.mp q
      obtain ⟨of, q⟩ := Classical.not_imp.mp q
      have q := Classical.not_not.mp q
      have w := (hg i (r.2.1 + r.2.2.2 - 1)).mp (c5 i (r.2.1 + r.2.2.2 - 1) a b (by omega) (by omega)) f of
      exact ⟨f, Or.inr ⟨of, by omega, by omega⟩⟩
theorem ex_L (hg : ∀ i j, g i j = -9 ↔ ∀ f, on f → ¬ (X f ≤ i ∧ i < R f ∧ Y f ≤ j ∧ j < B f)) {r : rct} (h : mxR wide high g r) : ∃ t, bL on Y R B r t := by
  obtain ⟨m1, m2, ⟨c1, c2, c3, c4, c5⟩, k1, k2, k3, k4⟩ := h
  by_cases z : 0 < r.1
  · rcases Classical.em (∀ j, r.2.1 ≤ j → j < r.2.1 + r.2.2.2 → g (r.1 - 1) j = -9) with q | q
    · exact absurd ⟨by omega, c2, by omega, c4, fun i j a b c d => by rw [show i = r.1 - 1 by omega]; exact q j c d⟩ k1
    · obtain ⟨j, q⟩ := Classical.not_forall.mp q
      obtain ⟨a, q⟩ := Classical.not_imp.mp q
      obtain ⟨b, q⟩ := Classical.not_imp.mp q
      rw [hg] at q
      obtain ⟨f, q⟩ := Classical.not_forall.mp q
      obtain ⟨of, q⟩ := Classical.not_imp.mp q
      have q := Classical.not_not.mp q
      have w := (hg r.1 j).mp (c5 r.1 j (by omega) (by omega) a b) f of
      exact ⟨f, fun _ => ⟨of, by omega, j, a, b, q.2.2.1, q.2.2.2⟩⟩
  · exact ⟨0, fun k => absurd k z⟩
/-- two greatest ones alike in y, height and x are one -/
theorem mx_same {r s : rct} (hr : mxR wide high g r) (hs : mxR wide high g s) (e1 : r.1 = s.1) (e2 : r.2.1 = s.2.1) (e3 : r.2.2.2 = s.2.2.2) : r = s := by
  by_cases z : r.2.2.1 ≤ s.2.2.1
  · exact hr.top hs.n (by unfold rIn; omega)
  · exact (hs.top hr.n (by unfold rIn; omega)).symm
theorem fr_count (hon : ∀ f, on f → f < 7) (hg : ∀ i j, g i j = -9 ↔ ∀ f, on f → ¬ (X f ≤ i ∧ i < R f ∧ Y f ≤ j ∧ j < B f)) {l : List rct} (hd : l.Nodup) (hm : ∀ r ∈ l, mxR wide high g r) : l.length ≤ 64 := by
  obtain ⟨tT, hT⟩ := Classical.axiomOfChoice (r := fun (r : rct) (t : Nat) => mxR wide high g r → bT on X Y R B r t) (fun r => by
    rcases Classical.em (mxR wide high g r) with z | z
    · obtain ⟨t, ht⟩ := ex_T hg z; exact ⟨t, fun _ => ht⟩
    · exact ⟨0, fun k => absurd k z⟩)
  obtain ⟨tB, hB⟩ := Classical.axiomOfChoice (r := fun (r : rct) (t : Nat) => mxR wide high g r → bB high on X Y R B r t) (fun r => by
    rcases Classical.em (mxR wide high g r) with z | z
    · obtain ⟨t, ht⟩ := ex_B hg z; exact ⟨t, fun _ => ht⟩
    · exact ⟨0, fun k => absurd k z⟩)
  obtain ⟨tL, hL⟩ := Classical.axiomOfChoice (r := fun (r : rct) (t : Nat) => mxR wide high g r → bL on Y R B r t) (fun r => by
    rcases Classical.em (mxR wide high g r) with z | z
    · obtain ⟨t, ht⟩ := ex_L hg z; exact ⟨t, fun _ => ht⟩
    · exact ⟨0, fun k => absurd k z⟩)
  have hTl : ∀ r, mxR wide high g r → tT r < 8 := by
    intro r hr
    rcases hT r hr with z | z
    · omega
    · have := hon _ z.1; omega
  have hBl : ∀ r, mxR wide high g r → tB r < 9 ∧ tB r ≠ 7 := by
    intro r hr
    rcases hB r hr with z | z
    · omega
    · have := hon _ z.1; omega
  have hne : ∀ r, mxR wide high g r → tT r ≠ tB r := by
    intro r hr e
    have m2 := hr.2.1
    rcases hT r hr with z | z
    · have := hBl r hr; omega
    · have := hon _ z.1
      rcases hB r hr with y | y
      · omega
      · rw [← e] at y; omega
  let Lf : rct → Prop := fun r => ∃ r', mxR wide high g r' ∧ tB r' = tB r ∧ tT r' = tT r ∧ r'.1 < r.1
  let b7 : rct → Nat := fun r => if tB r = 8 then 7 else tB r
  let code : rct → Nat := fun r => @ite _ (Lf r) (Classical.propDecidable _) (36 + tri (tL r) (b7 r)) (tri (tT r) (tB r))
  have hLf : ∀ r, mxR wide high g r → Lf r → on (tL r) ∧ R (tL r) = r.1 ∧ ∃ j, r.2.1 ≤ j ∧ j < r.2.1 + r.2.2.2 ∧ Y (tL r) ≤ j ∧ j < B (tL r) := by
    rintro r hr ⟨s, s1, s2, s3, s4⟩
    exact hL r hr (by have := s1.2.2.1.1; omega)
  have hb7 : ∀ r, mxR wide high g r → b7 r < 8 := by
    intro r hr
    have := hBl r hr
    show (if tB r = 8 then 7 else tB r) < 8
    split <;> omega
  have hL7 : ∀ r, mxR wide high g r → Lf r → tL r ≠ b7 r := by
    intro r hr hf e
    obtain ⟨o, e1, j, j1, j2, j3, j4⟩ := hLf r hr hf
    have ho := hon _ o
    rcases hB r hr with y | y
    · have : b7 r = 7 := if_pos y.1
      omega
    · have hb := hon _ y.1
      have : b7 r = tB r := if_neg (by omega)
      rw [this] at e
      rw [e] at j3
      omega
  have hc : ∀ r, mxR wide high g r → code r < 64 := by
    intro r hr
    show @ite _ (Lf r) (Classical.propDecidable _) (36 + tri (tL r) (b7 r)) (tri (tT r) (tB r)) < 64
    split
    · rename_i hf
      have := tri_8 (tL r) (by have := hon _ (hLf r hr hf).1; omega) (b7 r) (hb7 r hr) (hL7 r hr hf)
      omega
    · have := tri_9 (tT r) (by have := hTl r hr; omega) (tB r) (hBl r hr).1 (hne r hr)
      omega
  -- the bottoms are alike
  have hbe : ∀ r s, mxR wide high g r → mxR wide high g s → tB r = tB s → r.2.1 + r.2.2.2 = s.2.1 + s.2.2.2 := by
    intro r s hr hs e
    have h1 := hB r hr
    have h2 := hB s hs
    rw [← e] at h2
    rcases h1 with z | z <;> rcases h2 with y | y
    · omega
    · have := hon _ y.1; omega
    · have := hon _ z.1; omega
    · omega
  have hte : ∀ r s, mxR wide high g r → mxR wide high g s → tT r = tT s → r.2.1 = s.2.1 := by
    intro r s hr hs e
    have h1 := hT r hr
    have h2 := hT s hs
    rw [← e] at h2
    rcases h1 with z | z <;> rcases h2 with y | y
    · omega
    · have := hon _ y.1; omega
    · have := hon _ z.1; omega
    · omega
  -- the hard case
  have hard : ∀ r s, mxR wide high g r → mxR wide high g s → Lf s → tB r = tB s → r.1 = s.1 → r.2.1 < s.2.1 → False := by
    rintro r s hr hs ⟨q, q1, q2, q3, q4⟩ eB ex ly
    have b1 := hbe r s hr hs eB
    have b2 := hbe q s q1 hs q2
    have y2 := hte q s q1 hs q3
    rcases hT s hs with z | ⟨o, z1, z2, i, i1, i2, i3, i4⟩
    · have := hr.2.2.1.2.1; omega
    have hq := hT q q1
    rw [q3] at hq
    rcases hq with w | ⟨o', w1, w2, i', i1', i2', i3', i4'⟩
    · have := hon _ o; omega
    -- q ends ahead of s
    have hqe : q.1 + q.2.2.1 < s.1 := by
      rcases Classical.em (q.1 + q.2.2.1 < s.1) with k | k
      · exact k
      · exfalso
        obtain ⟨c1, c2, c3, c4, c5⟩ := hs.2.2.1
        obtain ⟨d1, d2, d3, d4, d5⟩ := q1.2.2.1
        have := hs.1
        refine hs.2.2.2.1 ⟨by omega, by omega, by omega, by omega, fun i j a b c d => ?_⟩
        by_cases kk : q.1 + q.2.2.1 = s.1
        · exact d5 i j (by omega) (by omega) (by omega) (by omega)
        · exact d5 i j (by omega) (by omega) (by omega) (by omega)
    have c5 := hr.2.2.1.2.2.2.2 r.1 (s.2.1 - 1) (by omega) (by have := hr.1; omega) (by omega) (by have := hs.2.1; omega)
    exact (hg _ _).mp c5 _ o ⟨by omega, by omega, by omega, by omega⟩
  have hi : ∀ r s, mxR wide high g r → mxR wide high g s → code r = code s → r = s := by
    intro r s hr hs e
    rcases Classical.em (Lf r) with fr | fr <;> rcases Classical.em (Lf s) with fs | fs
    · have e1 : code r = 36 + tri (tL r) (b7 r) := if_pos fr
      have e2 : code s = 36 + tri (tL s) (b7 s) := if_pos fs
      obtain ⟨o1, r1, j, j1, j2, j3, j4⟩ := hLf r hr fr
      obtain ⟨o2, r2, i, i1, i2, i3, i4⟩ := hLf s hs fs
      have ho1 := hon _ o1
      have ho2 := hon _ o2
      rcases tri_inj (tL r) (by omega) (b7 r) (by have := hb7 r hr; omega) (tL s) (by omega) (b7 s) (by have := hb7 s hs; omega) (hL7 r hr fr) (hL7 s hs fs) (by omega) with ⟨a, b⟩ | ⟨a, b⟩
      · have eB : tB r = tB s := by
          have h1 := hBl r hr
          have h2 := hBl s hs
          have b' : (if tB r = 8 then 7 else tB r) = (if tB s = 8 then 7 else tB s) := b
          split at b' <;> split at b' <;> omega
        have ex : r.1 = s.1 := by rw [← r1, ← r2, a]
        rcases Int.lt_trichotomy r.2.1 s.2.1 with z | z | z
        · exact (hard r s hr hs fs eB ex z).elim
        · exact mx_same hr hs ex z (by have := hbe r s hr hs eB; omega)
        · exact (hard s r hs hr fr eB.symm ex.symm z).elim
      · exfalso
        -- swapped
        have hb1 : tB r = tL s := by
          have b' : (if tB r = 8 then 7 else tB r) = tL s := b
          split at b' <;> omega
        have hb2 : tB s = tL r := by
          have a' : tL r = (if tB s = 8 then 7 else tB s) := a
          split at a' <;> omega
        rcases hB r hr with z | z
        · omega
        · rcases hB s hs with y | y
          · omega
          · rw [hb1] at z
            rw [hb2] at y
            omega
    · exfalso
      have e1 : code r = 36 + tri (tL r) (b7 r) := if_pos fr
      have e2 : code s = tri (tT s) (tB s) := if_neg fs
      have := tri_9 (tT s) (by have := hTl s hs; omega) (tB s) (hBl s hs).1 (hne s hs)
      omega
    · exfalso
      have e1 : code s = 36 + tri (tL s) (b7 s) := if_pos fs
      have e2 : code r = tri (tT r) (tB r) := if_neg fr
      have := tri_9 (tT r) (by have := hTl r hr; omega) (tB r) (hBl r hr).1 (hne r hr)
      omega
    · have e1 : code r = tri (tT r) (tB r) := if_neg fr
      have e2 : code s = tri (tT s) (tB s) := if_neg fs
      rcases tri_inj (tT r) (by have := hTl r hr; omega) (tB r) (hBl r hr).1 (tT s) (by have := hTl s hs; omega) (tB s) (hBl s hs).1 (hne r hr) (hne s hs) (by omega) with ⟨a, b⟩ | ⟨a, b⟩
      · have y1 := hte r s hr hs a
        have b1 := hbe r s hr hs b
        have ex : r.1 = s.1 := by
          rcases Int.lt_trichotomy r.1 s.1 with z | z | z
          · exact absurd ⟨r, hr, b, a, z⟩ fs
          · exact z
          · exact absurd ⟨s, hs, b.symm, a.symm, z⟩ fr
        exact mx_same hr hs ex y1 (by omega)
      · exfalso
        have m2 := hr.2.1
        have n2 := hs.2.1
        have h1 := hBl r hr
        have h2 := hBl s hs
        rcases hT r hr with z | z
        · omega
        · rcases hT s hs with y | y
          · omega
          · rcases hB r hr with x | x
            · have := hon _ y.1; omega
            · rcases hB s hs with w | w
              · have := hon _ z.1; omega
              · rw [b] at x
                rw [← a] at w
                omega
  have := nodup_le 64 (l.map code) (nodup_map hd (fun a ha b hb => hi a b (hm a ha) (hm b hb))) (fun x hx => by
    obtain ⟨r, hr, rfl⟩ := List.mem_map.mp hx
    exact hc r (hm r hr))
  rwa [List.length_map] at this
end CN
/-- whether a place is free -/
theorem gO_free {bl : Int} {G P : Nat → Nat → Int} {page i j : Int} : ∀ n, gO bl G P page n i j = -9 ↔ ∀ f, f < n → P f 0 = page → ¬ (P f 1 ≤ i ∧ i < P f 1 + mNX bl G f (P f 3) ∧ P f 2 ≤ j ∧ j < P f 2 + mNY bl G f (P f 3))
  | 0 => by
    simp only [gO, true_iff]
    intro f hf
    omega
  | n + 1 => by
    rw [gO]
    split
    · rename_i h
      constructor
      · intro e; omega
      · intro k
        exact absurd ⟨h.2.1, h.2.2.1, h.2.2.2.1, h.2.2.2.2⟩ (k n (by omega) h.1)
    · rename_i h
      rw [gO_free n]
      constructor
      · intro k f hf hp q
        by_cases z : f = n
        · subst z; exact h ⟨hp, q⟩
        · exact k f (by omega) hp q
      · intro k f hf hp q
        exact k f (by omega) hp q
theorem frS.count {wide high bl : Int} {G P : Nat → Nat → Int} {page : Int} {n : Nat} {l : List rct} (hn : n ≤ 7) (h : frS wide high (gO bl G P page n) l) : l.length ≤ 64 := by
  refine fr_count (on := fun f => f < n ∧ P f 0 = page) (X := fun f => P f 1) (Y := fun f => P f 2) (R := fun f => P f 1 + mNX bl G f (P f 3)) (B := fun f => P f 2 + mNY bl G f (P f 3)) (fun f hf => by omega) (fun i j => ?_) h.1 (fun r hr => (h.2 r).mp hr)
  rw [gO_free]
  constructor
  · rintro k f ⟨h1, h2⟩
    exact k f h1 h2
  · intro k f h1 h2
    exact k f ⟨h1, h2⟩
