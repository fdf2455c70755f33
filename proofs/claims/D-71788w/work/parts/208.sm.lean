set_option maxRecDepth 100000
/-! the component: write -/
/-- nothing but temporaries changes -/
def cNo (σ σ' : cS) : Prop := σ'.i = σ.i ∧ σ'.a = σ.a ∧ σ'.h = σ.h ∧ σ'.ro = σ.ro ∧ σ'.tx = σ.tx ∧ σ'.fr = σ.fr ∧ σ'.rf = σ.rf ∧ σ'.kp = σ.kp ∧ σ'.ru = σ.ru ∧ σ'.rd = σ.rd
theorem cNo.refl {σ : cS} : cNo σ σ := ⟨rfl, rfl, rfl, rfl, rfl, rfl, rfl, rfl, rfl, rfl⟩
theorem cNo.ds {σ σ' : cS} {b : Nat} {s : jW} (h : cNo σ σ') : cNo σ (cDs b σ' s) := h
theorem cNo.dd {σ σ' : cS} {b : Nat} {x : Option (Nat × jE)} (h : cNo σ σ') : cNo σ (cD σ' b x) := h
theorem cNo.sh {many : Nat} {wide high bl : Int} {G : Nat → Nat → Int} {ad : Nat → Nat} {c : Nat → Nat → Int} {σ σ' : cS} (h : cSh many wide high bl G ad c σ) (e : cNo σ σ') : cSh many wide high bl G ad c σ' := by
  unfold cSh at *
  rw [e.1, e.2.2.2.2.2.1]
  exact h
theorem cNo.e {σ σ' : cS} (h : cNo σ σ') (hd : ∀ j, σ.d j = none) : cD0 σ' = σ := by
  obtain ⟨h1, h2, h3, h4, h5, h6, h7, h8, h9, h10⟩ := h
  have hd2 : (fun _ => none : Nat → Option (Nat × jE)) = σ.d := funext fun j => (hd j).symm
  unfold cD0
  rw [h1, h2, h3, h4, h5, h6, h7, h8, h9, h10, hd2]
/-- temporary s takes t's place -/
theorem J_shiftC {E : jEnv} {α : Nat → Nat} {X : jX} {cc : ByteArray} {mL : Nat} {ret : Option FieldType} {own : String} {R : Room} {k n pc : Nat} {L : List (Option Value)} {st : List Value} {σ : cS} {Q : Option Value → cS → Prop} (s t : Nat) (kk : J E (wC E α) X cc mL ret own R k n pc L st (cD (cD σ s none) t (σ.d s)) Q) : J E (wC E α) X cc mL ret own R k n pc L st σ Q := by
  have hw : wC E α (cD (cD σ s none) t (σ.d s)) = j_up (j_up (wC E α σ) (200 + s) none) (200 + t) (wC E α σ (200 + s)) := by rw [wC_D, wC_D, wC_d]
  have key : ∀ r x, wC E α (cD (cD σ s none) t (σ.d s)) r = some x → wC E α σ (if r = 200 + t then 200 + s else r) = some x ∧ (r ≠ 200 + t → r ≠ 200 + s) := by
    intro r x h
    rw [hw] at h
    by_cases z : r = 200 + t
    · simp only [j_up, if_pos z] at h ⊢
      exact ⟨h, fun q => absurd z q⟩
    · simp only [j_up, if_neg z] at h ⊢
      by_cases z2 : r = 200 + s
      · rw [if_pos z2] at h; cases h
      · rw [if_neg z2] at h; exact ⟨h, fun _ => z2⟩
  refine J_apart fun ap => J_view (fun r x h => ⟨_, (key r x h).1⟩) (fun r1 r2 a e1 e2 h1 h2 => ?_) kk
  obtain ⟨g1, n1⟩ := key r1 _ h1
  obtain ⟨g2, n2⟩ := key r2 _ h2
  have q := ap _ _ _ _ _ g1 g2
  by_cases z1 : r1 = 200 + t
  · by_cases z2 : r2 = 200 + t
    · omega
    · rw [if_pos z1, if_neg z2] at q; exact absurd q.symm (n2 z2)
  · by_cases z2 : r2 = 200 + t
    · rw [if_neg z1, if_pos z2] at q; exact absurd q (n1 z1)
    · rw [if_neg z1, if_neg z2] at q; exact q
/-- the world that 'written' sees: its own strings in d 10 .., the frame in role 5 -/
def wrW (E : jEnv) (α : Nat → Nat) (f : Nat) (σ : cS) : jW := fun q => if q < 5 then σ.d (10 + q) else if q = 5 then wC E α σ (120 + f) else none
def wIv (f r : Nat) : Option Nat := if 210 ≤ r ∧ r < 215 then some (r - 210) else if r = 120 + f then some 5 else none
theorem JE_wr {E : jEnv} {α : Nat → Nat} {y : MethodName} {ws : List Cond} {R : Room} {vs : List Value} {σ : cS} {Q : Option Value → cS → Prop} {f : Nat} (hf : f < 8) (h : JE E wI (cX E) y ws R vs (wrW E α f σ) (fun v s => ∃ σ', j_mix (wIv f) (wC E α σ) s = wC E α σ' ∧ Q v σ')) : JE E (wC E α) (cX E) y ws R vs σ Q := by
  refine JE_toId (JE.frame (w2 := wI) (σ2 := wrW E α f σ) (wIv f) (fun s => j_mix (wIv f) (wC E α σ) s) cX_1 ?_ (fun s => rfl) (fun r r' q h1 h2 => ?_) (fun r2 x hx => ?_) h)
  · funext r
    show wC E α σ r = j_mix (wIv f) (wC E α σ) (wrW E α f σ) r
    unfold j_mix wIv
    by_cases z : 210 ≤ r ∧ r < 215
    · rw [if_pos z]
      show _ = wrW E α f σ (r - 210)
      unfold wrW
      rw [if_pos (by omega), show r = 200 + (10 + (r - 210)) by omega, wC_d]
      congr 1
      omega
    · rw [if_neg z]
      by_cases z2 : r = 120 + f
      · rw [if_pos z2]
        show _ = wrW E α f σ 5
        subst z2
        rfl
      · rw [if_neg z2]
  · unfold wIv at h1 h2
    by_cases z : 210 ≤ r ∧ r < 215
    · rw [if_pos z] at h1
      have e1 := Option.some.inj h1
      by_cases z2 : 210 ≤ r' ∧ r' < 215
      · rw [if_pos z2] at h2
        have e2 := Option.some.inj h2
        omega
      · rw [if_neg z2] at h2
        by_cases z3 : r' = 120 + f
        · rw [if_pos z3] at h2
          have e2 := Option.some.inj h2
          omega
        · rw [if_neg z3] at h2; cases h2
    · rw [if_neg z] at h1
      by_cases z3 : r = 120 + f
      · rw [if_pos z3] at h1
        have e1 := Option.some.inj h1
        by_cases z2 : 210 ≤ r' ∧ r' < 215
        · rw [if_pos z2] at h2
          have e2 := Option.some.inj h2
          omega
        · rw [if_neg z2] at h2
          by_cases z4 : r' = 120 + f
          · omega
          · rw [if_neg z4] at h2; cases h2
      · rw [if_neg z3] at h1; cases h1
  · by_cases z : r2 < 5
    · refine ⟨210 + r2, ?_⟩
      unfold wIv
      rw [if_pos (by omega)]
      congr 1
      omega
    · by_cases z2 : r2 = 5
      · refine ⟨120 + f, ?_⟩
        unfold wIv
        rw [if_neg (by omega), if_pos rfl, z2]
      · have e : wI (wrW E α f σ) r2 = none := by
          show wrW E α f σ r2 = none
          unfold wrW
          rw [if_neg z, if_neg z2]
        rw [e] at hx
        cases hx
theorem wr_mix {E : jEnv} {α : Nat → Nat} {σ : cS} {f : Nat} {s : jW} (hf : f < 8) (h : ∀ r, 5 ≤ r → s r = wrW E α f σ r) : j_mix (wIv f) (wC E α σ) s = wC E α (cDs 10 σ s) := by
  rw [wC_Ds]
  funext r
  unfold j_mix wIv sIv
  by_cases z : 210 ≤ r ∧ r < 215
  · rw [if_pos z, if_pos (by omega)]
  · rw [if_neg z]
    by_cases z2 : r = 120 + f
    · rw [if_pos z2]
      rw [if_neg (by omega)]
      show s 5 = wC E α σ r
      rw [h 5 (by decide), z2]
      rfl
    · rw [if_neg z2, if_neg (by omega)]
section CWR
variable {E : jEnv} {α : Nat → Nat} {o : Option MethodName} {cc : ByteArray} {mL : Nat} {ret : Option FieldType} {R : Room} {k n pc : Nat} {L : List (Option Value)} {st : List Value} {σ : cS} {Q : Option Value → cS → Prop}
theorem CV_written {f ad : Nat} {G : Nat → Nat → Int} {c : Nat → Int} (hf : f < 8) (hr : wC E α σ (120 + f) = some (ad, fC (G f) c)) (hk : 0 ≤ G f 0 ∧ G f 0 ≤ 3) (hg : ∀ k, 1 ≤ k → k ≤ 6 → 0 ≤ G f k ∧ G f k ≤ 16) (hR : 10 + 1 ≤ R.frames ∧ 8 + (2 + 11) + 480 ≤ R.locals) (hcs : k + 6 ≤ R.cells ∧ n + 200 ≤ R.slots) (hst : (st.map fun v => v.category).sum ≤ 8) (d : decode cc pc = .ok (.invokevirtual 277, 3)) (kk : ∀ s2 s, OS E (strW 10 (cDs 10 σ s2)) s (mKw (G f 0) ++ mNos (G f) 7 ++ [59]) (zI 0) (zI 0) → J E (wC E α) (cX E, o) cc mL ret RX0 R (k + 6) (n + 200) (pc + 3) L (.ref s :: st) (cDs 10 σ s2) Q) : J E (wC E α) (cX E, o) cc mL ret RX0 R k n (pc) L (.ref ad :: st) σ Q := by
  have fin : J E wI (cX E, none) cX3_written 2 (some (.object "java/lang/String")) RX3 (jR 10 6 200) 0 0 0 [some (.ref ad), none] [] (wrW E α f σ) (fun v s => ∃ σ', j_mix (wIv f) (wC E α σ) s = wC E α σ' ∧ J E (wC E α) (cX E, o) cc mL ret RX0 R (k + 6) (n + 200) (pc + 3) L (v.toList ++ st) σ' Q) := by
    refine f_written (G := G) (f := f) (c := c) hr hk hg (fun σ1 s h1 O1 => ⟨cDs 10 σ σ1, wr_mix hf h1, ?_⟩)
    exact J_ra (kk σ1 s O1.c)
  rcases (show G f 0 = 0 ∨ G f 0 = 1 ∨ G f 0 = 2 ∨ G f 0 = 3 by omega) with h | h | h | h
  · have hr' : wC E α σ (120 + f) = some (ad, .inr (2, fV (G f) c)) := by rw [hr, fC, h]; rfl
    exact J_eU (y := yX3_written) (R' := (jR 10 6 200)) (owner := RX3) (x := yX3_written) [] 0 (120 + f) hr' rfl q1009 q1012 q1011 q1010 q126 q1016 rfl (by decide +kernel) cX_1 hR hcs rfl hst d (JE_wr hf (JE.of (X' := (cX E, none)) (by decide +kernel) (Nat.le_of_ble_eq_true rfl) (fun _ z => by cases z) fin))
  · have hr' : wC E α σ (120 + f) = some (ad, .inr (3, fV (G f) c)) := by rw [hr, fC, h]; rfl
    exact J_eU (y := yX3_written) (R' := (jR 10 6 200)) (owner := RX3) (x := yX3_written) [] 0 (120 + f) hr' rfl q1009 q1012 q1014 q1010 q126 q1016 rfl (by decide +kernel) cX_1 hR hcs rfl hst d (JE_wr hf (JE.of (X' := (cX E, none)) (by decide +kernel) (Nat.le_of_ble_eq_true rfl) (fun _ z => by cases z) fin))
  · have hr' : wC E α σ (120 + f) = some (ad, .inr (4, fV (G f) c)) := by rw [hr, fC, h]; rfl
    exact J_eU (y := yX3_written) (R' := (jR 10 6 200)) (owner := RX3) (x := yX3_written) [] 0 (120 + f) hr' rfl q1009 q1012 q1013 q1010 q126 q1016 rfl (by decide +kernel) cX_1 hR hcs rfl hst d (JE_wr hf (JE.of (X' := (cX E, none)) (by decide +kernel) (Nat.le_of_ble_eq_true rfl) (fun _ z => by cases z) fin))
  · have hr' : wC E α σ (120 + f) = some (ad, .inr (5, fV (G f) c)) := by rw [hr, fC, h]; rfl
    exact J_eU (y := yX3_written) (R' := (jR 10 6 200)) (owner := RX3) (x := yX3_written) [] 0 (120 + f) hr' rfl q1009 q1012 q1015 q1010 q126 q1016 rfl (by decide +kernel) cX_1 hR hcs rfl hst d (JE_wr hf (JE.of (X' := (cX E, none)) (by decide +kernel) (Nat.le_of_ble_eq_true rfl) (fun _ z => by cases z) fin))
end CWR
