set_option maxRecDepth 100000
/-! writing: a frame's word, a frame written -/
theorem JE_toId {E : jEnv} {St : Type} {w : St → jW} {X1 : (Nat → Prop) → State → Prop} {y : MethodName} {ws : List Cond} {R : Room} {vs : List Value} {σ : St} {Q : Option Value → St → Prop} (h : JE E (fun W : jW => W) X1 y ws R vs (w σ) (j_idQ w Q)) : JE E w X1 y ws R vs σ Q := by
  intro sz
  have h1 := h sz
  rw [j_Qid] at h1
  exact h1
theorem SB.len {E : jEnv} {σ : jW} {a N : Nat} {t : List Int} (h : SB E σ a t N) : t.length ≤ N := by
  obtain ⟨va, f, -, -, hT⟩ := h
  exact hT.1
theorem dgs_l (z : Int) : 1 ≤ (dgs z).length ∧ (dgs z).length ≤ 2 := by
  unfold dgs
  split <;> simp
theorem dgs_R {z : Int} (h : 0 ≤ z ∧ z < 100) : uR (dgs z) := by
  intro x hx
  unfold dgs at hx
  split at hx
  · simp only [List.mem_cons, List.not_mem_nil, or_false] at hx
    rcases hx with rfl | rfl <;> omega
  · simp only [List.mem_cons, List.not_mem_nil, or_false] at hx
    subst hx
    omega
theorem kw_T {k : Int} (h : 0 ≤ k ∧ k ≤ 3) : mKw k = sTx (2 + k.toNat) := by
  obtain rfl | rfl | rfl | rfl : k = 0 ∨ k = 1 ∨ k = 2 ∨ k = 3 := by omega
  · decide
  · decide
  · decide
  · decide
theorem sTx_l {i : Nat} (h : i < 10) : (sTx i).length ≤ 6 := by
  have : ∀ i : Fin 10, (sTx i.val).length ≤ 6 := by decide +kernel
  exact this ⟨i, h⟩
/-- room that a StringBuilder made of l0 letters has taken (at most 30 letters come) -/
def bud2 (l0 N k n : Nat) : Prop := (N = l0 + 16 ∧ k ≤ 2 ∧ n ≤ l0 + 20) ∨ (N = 2 * (l0 + 16) + 2 ∧ k ≤ 3 ∧ n ≤ l0 + 20 + 2 * (l0 + 16) + 2)
theorem bud2_s {l0 N k n l d : Nat} (h : bud2 l0 N k n) (hl : l ≤ N) (h2 : l + d ≤ 34) (hd : d ≤ 2) : ∃ kc m, (N < l + d → 1 ≤ kc ∧ bcap N (l + d) ≤ m) ∧ bud2 l0 (bcap N (l + d)) (k + kc) (n + m) := by
  by_cases z : l + d ≤ N
  · refine ⟨0, 0, fun h => absurd h (by omega), ?_⟩
    rw [show bcap N (l + d) = N from if_pos z]
    exact h
  · have e : bcap N (l + d) = 2 * N + 2 := by
      unfold bcap
      rw [if_neg z, if_pos (by unfold bud2 at h; omega)]
    rw [e]
    refine ⟨1, 2 * N + 2, fun _ => ⟨Nat.le_refl _, Nat.le_refl _⟩, ?_⟩
    unfold bud2 at *
    omega
theorem bud2_b {l0 N k n : Nat} (h : bud2 l0 N k n) (hl : l0 ≤ 6) : k ≤ 3 ∧ n ≤ 72 ∧ N ≤ 46 := by
  unfold bud2 at h
  omega
theorem f_word0 {E : jEnv} {St : Type} {w : St → jW} {σ : St} {a : Nat} {Q : Option Value → St → Prop} (hq : Q (some (.ref (sA E 2))) σ) : J E w (cX E, none) cX3_word 1 (some (.object "java/lang/String")) RX3 (jR 1 0 0) 0 0 0 [some (.ref a)] [] σ Q := by
  refine J_ldcS rfl (List.mem_of_getElem? (i := 13) rfl) dX3_word_0 ?_
  exact J_aret rfl dX3_word_2 hq
theorem f_word1 {E : jEnv} {St : Type} {w : St → jW} {σ : St} {a : Nat} {Q : Option Value → St → Prop} (hq : Q (some (.ref (sA E 3))) σ) : J E w (cX E, none) cX4_word 1 (some (.object "java/lang/String")) RX4 (jR 1 0 0) 0 0 0 [some (.ref a)] [] σ Q := by
  refine J_ldcS rfl (List.mem_of_getElem? (i := 11) rfl) dX4_word_0 ?_
  exact J_aret rfl dX4_word_2 hq
theorem f_word2 {E : jEnv} {St : Type} {w : St → jW} {σ : St} {a : Nat} {Q : Option Value → St → Prop} (hq : Q (some (.ref (sA E 4))) σ) : J E w (cX E, none) cX5_word 1 (some (.object "java/lang/String")) RX5 (jR 1 0 0) 0 0 0 [some (.ref a)] [] σ Q := by
  refine J_ldcS rfl (List.mem_of_getElem? (i := 10) rfl) dX5_word_0 ?_
  exact J_aret rfl dX5_word_2 hq
theorem f_word3 {E : jEnv} {St : Type} {w : St → jW} {σ : St} {a : Nat} {Q : Option Value → St → Prop} (hq : Q (some (.ref (sA E 5))) σ) : J E w (cX E, none) cX6_word 1 (some (.object "java/lang/String")) RX6 (jR 1 0 0) 0 0 0 [some (.ref a)] [] σ Q := by
  refine J_ldcS rfl (List.mem_of_getElem? (i := 12) rfl) dX6_word_0 ?_
  exact J_aret rfl dX6_word_2 hq
section V
variable {E : jEnv} {St : Type} {w : St → jW} {o : Option MethodName} {cc : ByteArray} {mL : Nat} {ret : Option FieldType} {own : String} {R : Room} {k n pc : Nat} {L : List (Option Value)} {st : List Value} {σ : St} {Q : Option Value → St → Prop}
theorem V_word (G : Nat → Nat → Int) (f : Nat) {r a index : Nat} {c : Nat → Int} (hr : w σ r = some (a, fC (G f) c)) (hk : 0 ≤ G f 0 ∧ G f 0 ≤ 3) (q1 : Cond.methodLink own index yX3_word ∈ lw_all) (hR : 2 ≤ R.frames ∧ 96 ≤ R.locals) (hcs : k ≤ R.cells ∧ n ≤ R.slots) (hst : (st.map fun v => v.category).sum ≤ 8) (d : decode cc pc = .ok (.invokevirtual index, 3)) (kk : J E w (cX E, o) cc mL ret own R k n (pc + 3) L (.ref (sA E (2 + (G f 0).toNat)) :: st) σ Q) : J E w (cX E, o) cc mL ret own R k n (pc) L (.ref a :: st) σ Q := by
  obtain h | h | h | h : G f 0 = 0 ∨ G f 0 = 1 ∨ G f 0 = 2 ∨ G f 0 = 3 := by omega
  · have hr' : w σ r = some (a, .inr (2, fV (G f) c)) := by rw [hr, fC, h]; rfl
    rw [h] at kk; exact J_eU (y := yX3_word) (R' := (jR 1 0 0)) (owner := RX3) (x := yX3_word) [] 0 r hr' rfl q1 q1021 q1020 q1019 q126 q1034 rfl (by decide +kernel) cX_1 (show 1 + 1 ≤ R.frames ∧ 8 + (1 + 11) + 48 * 1 ≤ R.locals by omega) (show k + 0 ≤ R.cells ∧ n + 0 ≤ R.slots by omega) rfl hst d (JE.of (X' := (cX E, none)) (by decide +kernel) (Nat.le_of_ble_eq_true rfl) (fun _ z => by cases z) (f_word0 (J_ra kk)))
  · have hr' : w σ r = some (a, .inr (3, fV (G f) c)) := by rw [hr, fC, h]; rfl
    rw [h] at kk; exact J_eO (y := yX4_word) (R' := (jR 1 0 0)) (owner := RX3) (x := yX3_word) [] 0 r hr' rfl q1 q1021 q1019 q1034 q1026 q1027 q127 q1028 (by decide +kernel) cX_1 (show 1 + 1 ≤ R.frames ∧ 8 + (1 + 11) + 48 * 1 ≤ R.locals by omega) (show k + 0 ≤ R.cells ∧ n + 0 ≤ R.slots by omega) rfl hst d (JE.of (X' := (cX E, none)) (by decide +kernel) (Nat.le_of_ble_eq_true rfl) (fun _ z => by cases z) (f_word1 (J_ra kk)))
  · have hr' : w σ r = some (a, .inr (4, fV (G f) c)) := by rw [hr, fC, h]; rfl
    rw [h] at kk; exact J_eO (y := yX5_word) (R' := (jR 1 0 0)) (owner := RX3) (x := yX3_word) [] 0 r hr' rfl q1 q1021 q1019 q1034 q1022 q1023 q128 q1024 (by decide +kernel) cX_1 (show 1 + 1 ≤ R.frames ∧ 8 + (1 + 11) + 48 * 1 ≤ R.locals by omega) (show k + 0 ≤ R.cells ∧ n + 0 ≤ R.slots by omega) rfl hst d (JE.of (X' := (cX E, none)) (by decide +kernel) (Nat.le_of_ble_eq_true rfl) (fun _ z => by cases z) (f_word2 (J_ra kk)))
  · have hr' : w σ r = some (a, .inr (5, fV (G f) c)) := by rw [hr, fC, h]; rfl
    rw [h] at kk; exact J_eO (y := yX6_word) (R' := (jR 1 0 0)) (owner := RX3) (x := yX3_word) [] 0 r hr' rfl q1 q1021 q1019 q1034 q1030 q1031 q129 q1032 (by decide +kernel) cX_1 (show 1 + 1 ≤ R.frames ∧ 8 + (1 + 11) + 48 * 1 ≤ R.locals by omega) (show k + 0 ≤ R.cells ∧ n + 0 ≤ R.slots by omega) rfl hst d (JE.of (X' := (cX E, none)) (by decide +kernel) (Nat.le_of_ble_eq_true rfl) (fun _ z => by cases z) (f_word3 (J_ra kk)))
end V
theorem f_written {E : jEnv} {o : Option MethodName} {σ : jW} {Q : Option Value → jW → Prop} {fa f : Nat} {G : Nat → Nat → Int} {c : Nat → Int}  (hr : σ 5 = some (fa, fC (G f) c)) (hk : 0 ≤ G f 0 ∧ G f 0 ≤ 3) (hg : ∀ k, 1 ≤ k → k ≤ 6 → 0 ≤ G f k ∧ G f k ≤ 16) (hq : ∀ σ' s, (∀ r, 5 ≤ r → σ' r = σ r) → OS E σ' s (mKw (G f 0) ++ mNos (G f) 7 ++ [59]) (zI 0) (zI 0) → Q (some (.ref s)) σ')  : J E wI (cX E, o) cX3_written 2 (some (.object "java/lang/String")) RX3 (jR 10 6 200) (0) (0) 0 [some (.ref fa), none] [] σ Q := by
  have hwl : (sTx (2 + (G f 0).toNat)).length ≤ 6 := sTx_l (by omega)
  have hg1 := hg 1 (by decide) (by decide)
  have hg2 := hg 2 (by decide) (by decide)
  have hg3 := hg 3 (by decide) (by decide)
  have hg4 := hg 4 (by decide) (by decide)
  have hg5 := hg 5 (by decide) (by decide)
  have hg6 := hg 6 (by decide) (by decide)
  refine J_new (σ' := fun a => j_up σ 0 (some (a, .inr (7, bV .null (zI 0))))) (ci := 7) (N := 4) 0 tyJ10 rfl in_J10 tyJ10_ok q1017 q501 q119 (by decide) (by first | omega | (simp only [jR]; done) | (simp only [jR]; omega)) (by first | omega | (simp only [jR]; done) | (simp only [jR]; omega)) (fun a => rfl) dX3_written_0 (fun a => ?_)
  refine J_dup dX3_written_3 rfl ?_
  refine J_aload_n dX3_written_4 rfl ?_
  refine V_word G f (r := 5) (c := c) hr hk q1018 ⟨Nat.le_of_ble_eq_true rfl, Nat.le_of_ble_eq_true rfl⟩ ⟨(by first | omega | (simp only [jR]; done) | (simp only [jR]; omega)), (by first | omega | (simp only [jR]; done) | (simp only [jR]; omega))⟩ (Nat.le_of_ble_eq_true rfl) dX3_written_5 ?_
  refine J_eI (y := yJ10_init_2) (R' := (jR 9 1 ((sTx (2 + (G f 0).toNat)).length + 16))) [.ref (sA E (2 + (G f 0).toNat))] 1 q1036 q998 q119 q999 rfl (by decide +kernel) cX_1 ⟨Nat.le_of_ble_eq_true rfl, Nat.le_of_ble_eq_true rfl⟩ ⟨(by first | omega | (simp only [jR]; done) | (simp only [jR]; omega)), (by first | omega | (simp only [jR]; done) | (simp only [jR]; omega))⟩ rfl (Nat.le_of_ble_eq_true rfl) dX3_written_8 (JE.of (X' := (cX E, none)) (by decide +kernel) (Nat.le_of_ble_eq_true rfl) (fun _ z => by cases z) ?_)
  refine b_initS (σ := j_up σ 0 _) (u := (sTx (2 + (G f 0).toNat))) rfl (StT.out (2 + (G f 0).toNat) (by omega)) (by omega) (fun σ0 o0 B0 => ?_)
  refine J_rv ?_
  have hb0 : bud2 (sTx (2 + (G f 0).toNat)).length ((sTx (2 + (G f 0).toNat)).length + 16) (0 + 1 + 1) (0 + 4 + ((sTx (2 + (G f 0).toNat)).length + 16)) := Or.inl ⟨rfl, by omega, by omega⟩
  have hL0 := B0.len
  obtain ⟨va0, fa0, g0, -⟩ := id B0
  have hr0 := (o0.1 5 (by decide) (by decide) (by decide)).trans hr
  generalize hN0 : (sTx (2 + (G f 0).toNat)).length + 16 = N0 at B0 hb0 hL0
  refine J_astore_n dX3_written_11 rfl (by decide) _ rfl ?_
  refine J_aload_n dX3_written_12 rfl ?_
  refine J_bipush (zI 32) dX3_written_13 rfl ?_
  obtain ⟨kc1, m1, hm1, hb1⟩ := bud2_s (l := ((sTx (2 + (G f 0).toNat))).length) (d := 1) hb0 hL0 (by omega) (by omega)
  have hq1 := bud2_b hb1 hwl
  have hp1 := bud2_b hb0 hwl
  refine J_eV (y := yJ10_append) (R' := (jR 6 kc1 m1)) [.int (zI 32)] 1 0 g0 rfl q1037 q537 q538 q119 q539 (by decide +kernel) cX_1 ⟨Nat.le_of_ble_eq_true rfl, Nat.le_of_ble_eq_true rfl⟩ ⟨(by first | omega | (simp only [jR]; done) | (simp only [jR]; omega)), (by first | omega | (simp only [jR]; done) | (simp only [jR]; omega))⟩ rfl (Nat.le_of_ble_eq_true rfl) dX3_written_15 (JE.of (X' := (cX E, none)) (by decide +kernel) (Nat.le_of_ble_eq_true rfl) (fun _ z => by cases z) ?_)
  refine b_appC B0 (by omega) (by omega) (by omega) hm1 (fun σ1 o1 B1 => ?_)
  refine J_ra ?_
  have hL1 := B1.len
  have hl1 : ((sTx (2 + (G f 0).toNat)) ++ [32]).length = ((sTx (2 + (G f 0).toNat))).length + [32].length := List.length_append
  have hx1 : ([32] : List Int).length = 1 := rfl
  obtain ⟨va1, fa1, g1, -⟩ := id B1
  have hr1 := (o1.1 5 (by decide) (by decide) (by decide)).trans hr0
  generalize bcap N0 (((sTx (2 + (G f 0).toNat))).length + 1) = N1 at B1 hb1 hL1
  refine J_aload_n dX3_written_18 rfl ?_
  refine FG_w G f hr1 hk dX3_written_19 ?_
  have hd2 := dgs_l (G f 1)
  obtain ⟨kc2, m2, hm2, hb2⟩ := bud2_s (l := (((sTx (2 + (G f 0).toNat)) ++ [32])).length) (d := (dgs (G f 1)).length) hb1 hL1 (by omega) (by omega)
  have hq2 := bud2_b hb2 hwl
  have hp2 := bud2_b hb1 hwl
  refine J_eV (y := yJ10_append_3) (R' := (jR 6 kc2 m2)) [.int (zI (G f 1))] 1 0 g1 rfl q1038 q971 q972 q119 q973 (by decide +kernel) cX_1 ⟨Nat.le_of_ble_eq_true rfl, Nat.le_of_ble_eq_true rfl⟩ ⟨(by first | omega | (simp only [jR]; done) | (simp only [jR]; omega)), (by first | omega | (simp only [jR]; done) | (simp only [jR]; omega))⟩ rfl (Nat.le_of_ble_eq_true rfl) dX3_written_22 (JE.of (X' := (cX E, none)) (by decide +kernel) (Nat.le_of_ble_eq_true rfl) (fun _ z => by cases z) ?_)
  refine b_appI B1 (by omega) (by omega) (by omega) hm2 (fun σ2 o2 B2 => ?_)
  refine J_ra ?_
  have hL2 := B2.len
  have hl2 : (((sTx (2 + (G f 0).toNat)) ++ [32]) ++ (dgs (G f 1))).length = (((sTx (2 + (G f 0).toNat)) ++ [32])).length + (dgs (G f 1)).length := List.length_append
  obtain ⟨va2, fa2, g2, -⟩ := id B2
  have hr2 := (o2.1 5 (by decide) (by decide) (by decide)).trans hr1
  generalize bcap N1 ((((sTx (2 + (G f 0).toNat)) ++ [32])).length + (dgs (G f 1)).length) = N2 at B2 hb2 hL2
  refine J_bipush (zI 32) dX3_written_25 rfl ?_
  obtain ⟨kc3, m3, hm3, hb3⟩ := bud2_s (l := ((((sTx (2 + (G f 0).toNat)) ++ [32]) ++ (dgs (G f 1)))).length) (d := 1) hb2 hL2 (by omega) (by omega)
  have hq3 := bud2_b hb3 hwl
  have hp3 := bud2_b hb2 hwl
  refine J_eV (y := yJ10_append) (R' := (jR 6 kc3 m3)) [.int (zI 32)] 1 0 g2 rfl q1037 q537 q538 q119 q539 (by decide +kernel) cX_1 ⟨Nat.le_of_ble_eq_true rfl, Nat.le_of_ble_eq_true rfl⟩ ⟨(by first | omega | (simp only [jR]; done) | (simp only [jR]; omega)), (by first | omega | (simp only [jR]; done) | (simp only [jR]; omega))⟩ rfl (Nat.le_of_ble_eq_true rfl) dX3_written_27 (JE.of (X' := (cX E, none)) (by decide +kernel) (Nat.le_of_ble_eq_true rfl) (fun _ z => by cases z) ?_)
  refine b_appC B2 (by omega) (by omega) (by omega) hm3 (fun σ3 o3 B3 => ?_)
  refine J_ra ?_
  have hL3 := B3.len
  have hl3 : ((((sTx (2 + (G f 0).toNat)) ++ [32]) ++ (dgs (G f 1))) ++ [32]).length = ((((sTx (2 + (G f 0).toNat)) ++ [32]) ++ (dgs (G f 1)))).length + [32].length := List.length_append
  have hx3 : ([32] : List Int).length = 1 := rfl
  obtain ⟨va3, fa3, g3, -⟩ := id B3
  have hr3 := (o3.1 5 (by decide) (by decide) (by decide)).trans hr2
  generalize bcap N2 (((((sTx (2 + (G f 0).toNat)) ++ [32]) ++ (dgs (G f 1)))).length + 1) = N3 at B3 hb3 hL3
  refine J_aload_n dX3_written_30 rfl ?_
  refine FG_h G f hr3 hk dX3_written_31 ?_
  have hd4 := dgs_l (G f 2)
  obtain ⟨kc4, m4, hm4, hb4⟩ := bud2_s (l := (((((sTx (2 + (G f 0).toNat)) ++ [32]) ++ (dgs (G f 1))) ++ [32])).length) (d := (dgs (G f 2)).length) hb3 hL3 (by omega) (by omega)
  have hq4 := bud2_b hb4 hwl
  have hp4 := bud2_b hb3 hwl
  refine J_eV (y := yJ10_append_3) (R' := (jR 6 kc4 m4)) [.int (zI (G f 2))] 1 0 g3 rfl q1038 q971 q972 q119 q973 (by decide +kernel) cX_1 ⟨Nat.le_of_ble_eq_true rfl, Nat.le_of_ble_eq_true rfl⟩ ⟨(by first | omega | (simp only [jR]; done) | (simp only [jR]; omega)), (by first | omega | (simp only [jR]; done) | (simp only [jR]; omega))⟩ rfl (Nat.le_of_ble_eq_true rfl) dX3_written_34 (JE.of (X' := (cX E, none)) (by decide +kernel) (Nat.le_of_ble_eq_true rfl) (fun _ z => by cases z) ?_)
  refine b_appI B3 (by omega) (by omega) (by omega) hm4 (fun σ4 o4 B4 => ?_)
  refine J_ra ?_
  have hL4 := B4.len
  have hl4 : (((((sTx (2 + (G f 0).toNat)) ++ [32]) ++ (dgs (G f 1))) ++ [32]) ++ (dgs (G f 2))).length = (((((sTx (2 + (G f 0).toNat)) ++ [32]) ++ (dgs (G f 1))) ++ [32])).length + (dgs (G f 2)).length := List.length_append
  obtain ⟨va4, fa4, g4, -⟩ := id B4
  have hr4 := (o4.1 5 (by decide) (by decide) (by decide)).trans hr3
  generalize bcap N3 ((((((sTx (2 + (G f 0).toNat)) ++ [32]) ++ (dgs (G f 1))) ++ [32])).length + (dgs (G f 2)).length) = N4 at B4 hb4 hL4
  refine J_bipush (zI 32) dX3_written_37 rfl ?_
  obtain ⟨kc5, m5, hm5, hb5⟩ := bud2_s (l := ((((((sTx (2 + (G f 0).toNat)) ++ [32]) ++ (dgs (G f 1))) ++ [32]) ++ (dgs (G f 2)))).length) (d := 1) hb4 hL4 (by omega) (by omega)
  have hq5 := bud2_b hb5 hwl
  have hp5 := bud2_b hb4 hwl
  refine J_eV (y := yJ10_append) (R' := (jR 6 kc5 m5)) [.int (zI 32)] 1 0 g4 rfl q1037 q537 q538 q119 q539 (by decide +kernel) cX_1 ⟨Nat.le_of_ble_eq_true rfl, Nat.le_of_ble_eq_true rfl⟩ ⟨(by first | omega | (simp only [jR]; done) | (simp only [jR]; omega)), (by first | omega | (simp only [jR]; done) | (simp only [jR]; omega))⟩ rfl (Nat.le_of_ble_eq_true rfl) dX3_written_39 (JE.of (X' := (cX E, none)) (by decide +kernel) (Nat.le_of_ble_eq_true rfl) (fun _ z => by cases z) ?_)
  refine b_appC B4 (by omega) (by omega) (by omega) hm5 (fun σ5 o5 B5 => ?_)
  refine J_ra ?_
  have hL5 := B5.len
  have hl5 : ((((((sTx (2 + (G f 0).toNat)) ++ [32]) ++ (dgs (G f 1))) ++ [32]) ++ (dgs (G f 2))) ++ [32]).length = ((((((sTx (2 + (G f 0).toNat)) ++ [32]) ++ (dgs (G f 1))) ++ [32]) ++ (dgs (G f 2)))).length + [32].length := List.length_append
  have hx5 : ([32] : List Int).length = 1 := rfl
  obtain ⟨va5, fa5, g5, -⟩ := id B5
  have hr5 := (o5.1 5 (by decide) (by decide) (by decide)).trans hr4
  generalize bcap N4 (((((((sTx (2 + (G f 0).toNat)) ++ [32]) ++ (dgs (G f 1))) ++ [32]) ++ (dgs (G f 2)))).length + 1) = N5 at B5 hb5 hL5
  refine J_aload_n dX3_written_42 rfl ?_
  refine FG_left G f hr5 hk dX3_written_43 ?_
  have hd6 := dgs_l (G f 3)
  obtain ⟨kc6, m6, hm6, hb6⟩ := bud2_s (l := (((((((sTx (2 + (G f 0).toNat)) ++ [32]) ++ (dgs (G f 1))) ++ [32]) ++ (dgs (G f 2))) ++ [32])).length) (d := (dgs (G f 3)).length) hb5 hL5 (by omega) (by omega)
  have hq6 := bud2_b hb6 hwl
  have hp6 := bud2_b hb5 hwl
  refine J_eV (y := yJ10_append_3) (R' := (jR 6 kc6 m6)) [.int (zI (G f 3))] 1 0 g5 rfl q1038 q971 q972 q119 q973 (by decide +kernel) cX_1 ⟨Nat.le_of_ble_eq_true rfl, Nat.le_of_ble_eq_true rfl⟩ ⟨(by first | omega | (simp only [jR]; done) | (simp only [jR]; omega)), (by first | omega | (simp only [jR]; done) | (simp only [jR]; omega))⟩ rfl (Nat.le_of_ble_eq_true rfl) dX3_written_46 (JE.of (X' := (cX E, none)) (by decide +kernel) (Nat.le_of_ble_eq_true rfl) (fun _ z => by cases z) ?_)
  refine b_appI B5 (by omega) (by omega) (by omega) hm6 (fun σ6 o6 B6 => ?_)
  refine J_ra ?_
  have hL6 := B6.len
  have hl6 : (((((((sTx (2 + (G f 0).toNat)) ++ [32]) ++ (dgs (G f 1))) ++ [32]) ++ (dgs (G f 2))) ++ [32]) ++ (dgs (G f 3))).length = (((((((sTx (2 + (G f 0).toNat)) ++ [32]) ++ (dgs (G f 1))) ++ [32]) ++ (dgs (G f 2))) ++ [32])).length + (dgs (G f 3)).length := List.length_append
  obtain ⟨va6, fa6, g6, -⟩ := id B6
  have hr6 := (o6.1 5 (by decide) (by decide) (by decide)).trans hr5
  generalize bcap N5 ((((((((sTx (2 + (G f 0).toNat)) ++ [32]) ++ (dgs (G f 1))) ++ [32]) ++ (dgs (G f 2))) ++ [32])).length + (dgs (G f 3)).length) = N6 at B6 hb6 hL6
  refine J_bipush (zI 32) dX3_written_49 rfl ?_
  obtain ⟨kc7, m7, hm7, hb7⟩ := bud2_s (l := ((((((((sTx (2 + (G f 0).toNat)) ++ [32]) ++ (dgs (G f 1))) ++ [32]) ++ (dgs (G f 2))) ++ [32]) ++ (dgs (G f 3)))).length) (d := 1) hb6 hL6 (by omega) (by omega)
  have hq7 := bud2_b hb7 hwl
  have hp7 := bud2_b hb6 hwl
  refine J_eV (y := yJ10_append) (R' := (jR 6 kc7 m7)) [.int (zI 32)] 1 0 g6 rfl q1037 q537 q538 q119 q539 (by decide +kernel) cX_1 ⟨Nat.le_of_ble_eq_true rfl, Nat.le_of_ble_eq_true rfl⟩ ⟨(by first | omega | (simp only [jR]; done) | (simp only [jR]; omega)), (by first | omega | (simp only [jR]; done) | (simp only [jR]; omega))⟩ rfl (Nat.le_of_ble_eq_true rfl) dX3_written_51 (JE.of (X' := (cX E, none)) (by decide +kernel) (Nat.le_of_ble_eq_true rfl) (fun _ z => by cases z) ?_)
  refine b_appC B6 (by omega) (by omega) (by omega) hm7 (fun σ7 o7 B7 => ?_)
  refine J_ra ?_
  have hL7 := B7.len
  have hl7 : ((((((((sTx (2 + (G f 0).toNat)) ++ [32]) ++ (dgs (G f 1))) ++ [32]) ++ (dgs (G f 2))) ++ [32]) ++ (dgs (G f 3))) ++ [32]).length = ((((((((sTx (2 + (G f 0).toNat)) ++ [32]) ++ (dgs (G f 1))) ++ [32]) ++ (dgs (G f 2))) ++ [32]) ++ (dgs (G f 3)))).length + [32].length := List.length_append
  have hx7 : ([32] : List Int).length = 1 := rfl
  obtain ⟨va7, fa7, g7, -⟩ := id B7
  have hr7 := (o7.1 5 (by decide) (by decide) (by decide)).trans hr6
  generalize bcap N6 (((((((((sTx (2 + (G f 0).toNat)) ++ [32]) ++ (dgs (G f 1))) ++ [32]) ++ (dgs (G f 2))) ++ [32]) ++ (dgs (G f 3)))).length + 1) = N7 at B7 hb7 hL7
  refine J_aload_n dX3_written_54 rfl ?_
  refine FG_above G f hr7 hk dX3_written_55 ?_
  have hd8 := dgs_l (G f 4)
  obtain ⟨kc8, m8, hm8, hb8⟩ := bud2_s (l := (((((((((sTx (2 + (G f 0).toNat)) ++ [32]) ++ (dgs (G f 1))) ++ [32]) ++ (dgs (G f 2))) ++ [32]) ++ (dgs (G f 3))) ++ [32])).length) (d := (dgs (G f 4)).length) hb7 hL7 (by omega) (by omega)
  have hq8 := bud2_b hb8 hwl
  have hp8 := bud2_b hb7 hwl
  refine J_eV (y := yJ10_append_3) (R' := (jR 6 kc8 m8)) [.int (zI (G f 4))] 1 0 g7 rfl q1038 q971 q972 q119 q973 (by decide +kernel) cX_1 ⟨Nat.le_of_ble_eq_true rfl, Nat.le_of_ble_eq_true rfl⟩ ⟨(by first | omega | (simp only [jR]; done) | (simp only [jR]; omega)), (by first | omega | (simp only [jR]; done) | (simp only [jR]; omega))⟩ rfl (Nat.le_of_ble_eq_true rfl) dX3_written_58 (JE.of (X' := (cX E, none)) (by decide +kernel) (Nat.le_of_ble_eq_true rfl) (fun _ z => by cases z) ?_)
  refine b_appI B7 (by omega) (by omega) (by omega) hm8 (fun σ8 o8 B8 => ?_)
  refine J_ra ?_
  have hL8 := B8.len
  have hl8 : (((((((((sTx (2 + (G f 0).toNat)) ++ [32]) ++ (dgs (G f 1))) ++ [32]) ++ (dgs (G f 2))) ++ [32]) ++ (dgs (G f 3))) ++ [32]) ++ (dgs (G f 4))).length = (((((((((sTx (2 + (G f 0).toNat)) ++ [32]) ++ (dgs (G f 1))) ++ [32]) ++ (dgs (G f 2))) ++ [32]) ++ (dgs (G f 3))) ++ [32])).length + (dgs (G f 4)).length := List.length_append
  obtain ⟨va8, fa8, g8, -⟩ := id B8
  have hr8 := (o8.1 5 (by decide) (by decide) (by decide)).trans hr7
  generalize bcap N7 ((((((((((sTx (2 + (G f 0).toNat)) ++ [32]) ++ (dgs (G f 1))) ++ [32]) ++ (dgs (G f 2))) ++ [32]) ++ (dgs (G f 3))) ++ [32])).length + (dgs (G f 4)).length) = N8 at B8 hb8 hL8
  refine J_pop dX3_written_61 rfl ?_
  refine J_aload_n dX3_written_62 rfl ?_
  refine J_bipush (zI 32) dX3_written_63 rfl ?_
  obtain ⟨kc9, m9, hm9, hb9⟩ := bud2_s (l := ((((((((((sTx (2 + (G f 0).toNat)) ++ [32]) ++ (dgs (G f 1))) ++ [32]) ++ (dgs (G f 2))) ++ [32]) ++ (dgs (G f 3))) ++ [32]) ++ (dgs (G f 4)))).length) (d := 1) hb8 hL8 (by omega) (by omega)
  have hq9 := bud2_b hb9 hwl
  have hp9 := bud2_b hb8 hwl
  refine J_eV (y := yJ10_append) (R' := (jR 6 kc9 m9)) [.int (zI 32)] 1 0 g8 rfl q1037 q537 q538 q119 q539 (by decide +kernel) cX_1 ⟨Nat.le_of_ble_eq_true rfl, Nat.le_of_ble_eq_true rfl⟩ ⟨(by first | omega | (simp only [jR]; done) | (simp only [jR]; omega)), (by first | omega | (simp only [jR]; done) | (simp only [jR]; omega))⟩ rfl (Nat.le_of_ble_eq_true rfl) dX3_written_65 (JE.of (X' := (cX E, none)) (by decide +kernel) (Nat.le_of_ble_eq_true rfl) (fun _ z => by cases z) ?_)
  refine b_appC B8 (by omega) (by omega) (by omega) hm9 (fun σ9 o9 B9 => ?_)
  refine J_ra ?_
  have hL9 := B9.len
  have hl9 : ((((((((((sTx (2 + (G f 0).toNat)) ++ [32]) ++ (dgs (G f 1))) ++ [32]) ++ (dgs (G f 2))) ++ [32]) ++ (dgs (G f 3))) ++ [32]) ++ (dgs (G f 4))) ++ [32]).length = ((((((((((sTx (2 + (G f 0).toNat)) ++ [32]) ++ (dgs (G f 1))) ++ [32]) ++ (dgs (G f 2))) ++ [32]) ++ (dgs (G f 3))) ++ [32]) ++ (dgs (G f 4)))).length + [32].length := List.length_append
  have hx9 : ([32] : List Int).length = 1 := rfl
  obtain ⟨va9, fa9, g9, -⟩ := id B9
  have hr9 := (o9.1 5 (by decide) (by decide) (by decide)).trans hr8
  generalize bcap N8 (((((((((((sTx (2 + (G f 0).toNat)) ++ [32]) ++ (dgs (G f 1))) ++ [32]) ++ (dgs (G f 2))) ++ [32]) ++ (dgs (G f 3))) ++ [32]) ++ (dgs (G f 4)))).length + 1) = N9 at B9 hb9 hL9
  refine J_aload_n dX3_written_68 rfl ?_
  refine FG_right G f hr9 hk dX3_written_69 ?_
  have hd10 := dgs_l (G f 5)
  obtain ⟨kc10, m10, hm10, hb10⟩ := bud2_s (l := (((((((((((sTx (2 + (G f 0).toNat)) ++ [32]) ++ (dgs (G f 1))) ++ [32]) ++ (dgs (G f 2))) ++ [32]) ++ (dgs (G f 3))) ++ [32]) ++ (dgs (G f 4))) ++ [32])).length) (d := (dgs (G f 5)).length) hb9 hL9 (by omega) (by omega)
  have hq10 := bud2_b hb10 hwl
  have hp10 := bud2_b hb9 hwl
  refine J_eV (y := yJ10_append_3) (R' := (jR 6 kc10 m10)) [.int (zI (G f 5))] 1 0 g9 rfl q1038 q971 q972 q119 q973 (by decide +kernel) cX_1 ⟨Nat.le_of_ble_eq_true rfl, Nat.le_of_ble_eq_true rfl⟩ ⟨(by first | omega | (simp only [jR]; done) | (simp only [jR]; omega)), (by first | omega | (simp only [jR]; done) | (simp only [jR]; omega))⟩ rfl (Nat.le_of_ble_eq_true rfl) dX3_written_72 (JE.of (X' := (cX E, none)) (by decide +kernel) (Nat.le_of_ble_eq_true rfl) (fun _ z => by cases z) ?_)
  refine b_appI B9 (by omega) (by omega) (by omega) hm10 (fun σ10 o10 B10 => ?_)
  refine J_ra ?_
  have hL10 := B10.len
  have hl10 : (((((((((((sTx (2 + (G f 0).toNat)) ++ [32]) ++ (dgs (G f 1))) ++ [32]) ++ (dgs (G f 2))) ++ [32]) ++ (dgs (G f 3))) ++ [32]) ++ (dgs (G f 4))) ++ [32]) ++ (dgs (G f 5))).length = (((((((((((sTx (2 + (G f 0).toNat)) ++ [32]) ++ (dgs (G f 1))) ++ [32]) ++ (dgs (G f 2))) ++ [32]) ++ (dgs (G f 3))) ++ [32]) ++ (dgs (G f 4))) ++ [32])).length + (dgs (G f 5)).length := List.length_append
  obtain ⟨va10, fa10, g10, -⟩ := id B10
  have hr10 := (o10.1 5 (by decide) (by decide) (by decide)).trans hr9
  generalize bcap N9 ((((((((((((sTx (2 + (G f 0).toNat)) ++ [32]) ++ (dgs (G f 1))) ++ [32]) ++ (dgs (G f 2))) ++ [32]) ++ (dgs (G f 3))) ++ [32]) ++ (dgs (G f 4))) ++ [32])).length + (dgs (G f 5)).length) = N10 at B10 hb10 hL10
  refine J_bipush (zI 32) dX3_written_75 rfl ?_
  obtain ⟨kc11, m11, hm11, hb11⟩ := bud2_s (l := ((((((((((((sTx (2 + (G f 0).toNat)) ++ [32]) ++ (dgs (G f 1))) ++ [32]) ++ (dgs (G f 2))) ++ [32]) ++ (dgs (G f 3))) ++ [32]) ++ (dgs (G f 4))) ++ [32]) ++ (dgs (G f 5)))).length) (d := 1) hb10 hL10 (by omega) (by omega)
  have hq11 := bud2_b hb11 hwl
  have hp11 := bud2_b hb10 hwl
  refine J_eV (y := yJ10_append) (R' := (jR 6 kc11 m11)) [.int (zI 32)] 1 0 g10 rfl q1037 q537 q538 q119 q539 (by decide +kernel) cX_1 ⟨Nat.le_of_ble_eq_true rfl, Nat.le_of_ble_eq_true rfl⟩ ⟨(by first | omega | (simp only [jR]; done) | (simp only [jR]; omega)), (by first | omega | (simp only [jR]; done) | (simp only [jR]; omega))⟩ rfl (Nat.le_of_ble_eq_true rfl) dX3_written_77 (JE.of (X' := (cX E, none)) (by decide +kernel) (Nat.le_of_ble_eq_true rfl) (fun _ z => by cases z) ?_)
  refine b_appC B10 (by omega) (by omega) (by omega) hm11 (fun σ11 o11 B11 => ?_)
  refine J_ra ?_
  have hL11 := B11.len
  have hl11 : ((((((((((((sTx (2 + (G f 0).toNat)) ++ [32]) ++ (dgs (G f 1))) ++ [32]) ++ (dgs (G f 2))) ++ [32]) ++ (dgs (G f 3))) ++ [32]) ++ (dgs (G f 4))) ++ [32]) ++ (dgs (G f 5))) ++ [32]).length = ((((((((((((sTx (2 + (G f 0).toNat)) ++ [32]) ++ (dgs (G f 1))) ++ [32]) ++ (dgs (G f 2))) ++ [32]) ++ (dgs (G f 3))) ++ [32]) ++ (dgs (G f 4))) ++ [32]) ++ (dgs (G f 5)))).length + [32].length := List.length_append
  have hx11 : ([32] : List Int).length = 1 := rfl
  obtain ⟨va11, fa11, g11, -⟩ := id B11
  have hr11 := (o11.1 5 (by decide) (by decide) (by decide)).trans hr10
  generalize bcap N10 (((((((((((((sTx (2 + (G f 0).toNat)) ++ [32]) ++ (dgs (G f 1))) ++ [32]) ++ (dgs (G f 2))) ++ [32]) ++ (dgs (G f 3))) ++ [32]) ++ (dgs (G f 4))) ++ [32]) ++ (dgs (G f 5)))).length + 1) = N11 at B11 hb11 hL11
  refine J_aload_n dX3_written_80 rfl ?_
  refine FG_below G f hr11 hk dX3_written_81 ?_
  have hd12 := dgs_l (G f 6)
  obtain ⟨kc12, m12, hm12, hb12⟩ := bud2_s (l := (((((((((((((sTx (2 + (G f 0).toNat)) ++ [32]) ++ (dgs (G f 1))) ++ [32]) ++ (dgs (G f 2))) ++ [32]) ++ (dgs (G f 3))) ++ [32]) ++ (dgs (G f 4))) ++ [32]) ++ (dgs (G f 5))) ++ [32])).length) (d := (dgs (G f 6)).length) hb11 hL11 (by omega) (by omega)
  have hq12 := bud2_b hb12 hwl
  have hp12 := bud2_b hb11 hwl
  refine J_eV (y := yJ10_append_3) (R' := (jR 6 kc12 m12)) [.int (zI (G f 6))] 1 0 g11 rfl q1038 q971 q972 q119 q973 (by decide +kernel) cX_1 ⟨Nat.le_of_ble_eq_true rfl, Nat.le_of_ble_eq_true rfl⟩ ⟨(by first | omega | (simp only [jR]; done) | (simp only [jR]; omega)), (by first | omega | (simp only [jR]; done) | (simp only [jR]; omega))⟩ rfl (Nat.le_of_ble_eq_true rfl) dX3_written_84 (JE.of (X' := (cX E, none)) (by decide +kernel) (Nat.le_of_ble_eq_true rfl) (fun _ z => by cases z) ?_)
  refine b_appI B11 (by omega) (by omega) (by omega) hm12 (fun σ12 o12 B12 => ?_)
  refine J_ra ?_
  have hL12 := B12.len
  have hl12 : (((((((((((((sTx (2 + (G f 0).toNat)) ++ [32]) ++ (dgs (G f 1))) ++ [32]) ++ (dgs (G f 2))) ++ [32]) ++ (dgs (G f 3))) ++ [32]) ++ (dgs (G f 4))) ++ [32]) ++ (dgs (G f 5))) ++ [32]) ++ (dgs (G f 6))).length = (((((((((((((sTx (2 + (G f 0).toNat)) ++ [32]) ++ (dgs (G f 1))) ++ [32]) ++ (dgs (G f 2))) ++ [32]) ++ (dgs (G f 3))) ++ [32]) ++ (dgs (G f 4))) ++ [32]) ++ (dgs (G f 5))) ++ [32])).length + (dgs (G f 6)).length := List.length_append
  obtain ⟨va12, fa12, g12, -⟩ := id B12
  have hr12 := (o12.1 5 (by decide) (by decide) (by decide)).trans hr11
  generalize bcap N11 ((((((((((((((sTx (2 + (G f 0).toNat)) ++ [32]) ++ (dgs (G f 1))) ++ [32]) ++ (dgs (G f 2))) ++ [32]) ++ (dgs (G f 3))) ++ [32]) ++ (dgs (G f 4))) ++ [32]) ++ (dgs (G f 5))) ++ [32])).length + (dgs (G f 6)).length) = N12 at B12 hb12 hL12
  refine J_bipush (zI 59) dX3_written_87 rfl ?_
  obtain ⟨kc13, m13, hm13, hb13⟩ := bud2_s (l := ((((((((((((((sTx (2 + (G f 0).toNat)) ++ [32]) ++ (dgs (G f 1))) ++ [32]) ++ (dgs (G f 2))) ++ [32]) ++ (dgs (G f 3))) ++ [32]) ++ (dgs (G f 4))) ++ [32]) ++ (dgs (G f 5))) ++ [32]) ++ (dgs (G f 6)))).length) (d := 1) hb12 hL12 (by omega) (by omega)
  have hq13 := bud2_b hb13 hwl
  have hp13 := bud2_b hb12 hwl
  refine J_eV (y := yJ10_append) (R' := (jR 6 kc13 m13)) [.int (zI 59)] 1 0 g12 rfl q1037 q537 q538 q119 q539 (by decide +kernel) cX_1 ⟨Nat.le_of_ble_eq_true rfl, Nat.le_of_ble_eq_true rfl⟩ ⟨(by first | omega | (simp only [jR]; done) | (simp only [jR]; omega)), (by first | omega | (simp only [jR]; done) | (simp only [jR]; omega))⟩ rfl (Nat.le_of_ble_eq_true rfl) dX3_written_89 (JE.of (X' := (cX E, none)) (by decide +kernel) (Nat.le_of_ble_eq_true rfl) (fun _ z => by cases z) ?_)
  refine b_appC B12 (by omega) (by omega) (by omega) hm13 (fun σ13 o13 B13 => ?_)
  refine J_ra ?_
  have hL13 := B13.len
  have hl13 : ((((((((((((((sTx (2 + (G f 0).toNat)) ++ [32]) ++ (dgs (G f 1))) ++ [32]) ++ (dgs (G f 2))) ++ [32]) ++ (dgs (G f 3))) ++ [32]) ++ (dgs (G f 4))) ++ [32]) ++ (dgs (G f 5))) ++ [32]) ++ (dgs (G f 6))) ++ [59]).length = ((((((((((((((sTx (2 + (G f 0).toNat)) ++ [32]) ++ (dgs (G f 1))) ++ [32]) ++ (dgs (G f 2))) ++ [32]) ++ (dgs (G f 3))) ++ [32]) ++ (dgs (G f 4))) ++ [32]) ++ (dgs (G f 5))) ++ [32]) ++ (dgs (G f 6)))).length + [59].length := List.length_append
  have hx13 : ([59] : List Int).length = 1 := rfl
  obtain ⟨va13, fa13, g13, -⟩ := id B13
  have hr13 := (o13.1 5 (by decide) (by decide) (by decide)).trans hr12
  generalize bcap N12 (((((((((((((((sTx (2 + (G f 0).toNat)) ++ [32]) ++ (dgs (G f 1))) ++ [32]) ++ (dgs (G f 2))) ++ [32]) ++ (dgs (G f 3))) ++ [32]) ++ (dgs (G f 4))) ++ [32]) ++ (dgs (G f 5))) ++ [32]) ++ (dgs (G f 6)))).length + 1) = N13 at B13 hb13 hL13
  have hpz := bud2_b hb13 hwl
  refine J_eV (y := yJ10_toString) (R' := (jR 6 2 60)) [] 0 0 g13 rfl q1039 q630 q631 q119 q632 (by decide +kernel) cX_1 ⟨Nat.le_of_ble_eq_true rfl, Nat.le_of_ble_eq_true rfl⟩ ⟨(by first | omega | (simp only [jR]; done) | (simp only [jR]; omega)), (by first | omega | (simp only [jR]; done) | (simp only [jR]; omega))⟩ rfl (Nat.le_of_ble_eq_true rfl) dX3_written_92 (JE.of (X' := (cX E, none)) (by decide +kernel) (Nat.le_of_ble_eq_true rfl) (fun _ z => by cases z) ?_)
  refine b_toString B13 (by omega) (by omega) (fun σ14 s o14 O14 => ?_)
  refine J_ra ?_
  refine J_aret rfl dX3_written_95 ?_
  refine hq _ s (fun r hr9 => (o14.1 r (by omega) (by omega) (by omega)).trans ((o13.1 r (by omega) (by omega) (by omega)).trans ((o12.1 r (by omega) (by omega) (by omega)).trans ((o11.1 r (by omega) (by omega) (by omega)).trans ((o10.1 r (by omega) (by omega) (by omega)).trans ((o9.1 r (by omega) (by omega) (by omega)).trans ((o8.1 r (by omega) (by omega) (by omega)).trans ((o7.1 r (by omega) (by omega) (by omega)).trans ((o6.1 r (by omega) (by omega) (by omega)).trans ((o5.1 r (by omega) (by omega) (by omega)).trans ((o4.1 r (by omega) (by omega) (by omega)).trans ((o3.1 r (by omega) (by omega) (by omega)).trans ((o2.1 r (by omega) (by omega) (by omega)).trans ((o1.1 r (by omega) (by omega) (by omega)).trans ((o0.1 r (by omega) (by omega) (by omega)).trans (if_neg (by omega))))))))))))))))) ?_
  have e : ((((((((((((((sTx (2 + (G f 0).toNat)) ++ [32]) ++ (dgs (G f 1))) ++ [32]) ++ (dgs (G f 2))) ++ [32]) ++ (dgs (G f 3))) ++ [32]) ++ (dgs (G f 4))) ++ [32]) ++ (dgs (G f 5))) ++ [32]) ++ (dgs (G f 6))) ++ [59]) = mKw (G f 0) ++ mNos (G f) 7 ++ [59] := by
    rw [kw_T hk]
    simp only [mNos, mNo_dgs, List.append_assoc, List.cons_append, List.nil_append]
  rw [← e]
  exact O14
