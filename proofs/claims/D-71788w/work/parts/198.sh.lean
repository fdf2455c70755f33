set_option maxRecDepth 100000
/-! reading: readsWord, kindBy -/
theorem c_readsWord {E : jEnv} {α : Nat → Nat} {σ : cS} {Q : Option Value → cS → Prop} {t n0 a : Nat} {b : Nat → Int}  (hX : cRe t n0 b σ) (ht : t < 4) (hn0 : n0 ≤ 120) (hby : ∀ i, i < n0 → -128 ≤ b i ∧ b i ≤ 127) (hA : σ.i 12 = zI (a : Nat)) (ha : a ≤ n0) (hq : ∀ σ1 q N, cR [12, 13] σ σ1 → σ1.i 12 = zI ((sc isL b n0 (sk b n0 a)) : Nat) → σ1.i 13 = zI ((sk b n0 a) : Nat) → SB E (strW 3 σ1) q (wdL b (sk b n0 a) ((sc isL b n0 (sk b n0 a)) - (sk b n0 a))) N → N ≤ 142 → Q (some (.ref q)) σ1)  : jX0_readsWord E α 0 [some (.ref (α 0)), none] [] σ Q := by
  have hsb : a ≤ sk b n0 a ∧ sk b n0 a ≤ n0 := sc_b ha
  refine J_aload_n dX0_readsWord_0 rfl ?_
  refine CC_X0_skips (by decide) (by decide) (Nat.le_of_ble_eq_true rfl) dX0_readsWord_1 ?_
  refine c_skips ht hn0 hby _ _ _ hX hA (by omega) (fun σ1 e1 A1 T1 => ?_) (Nat.lt_succ_self _)
  have hX1 := hX.q e1
  refine J_rv ?_
  refine J_new (σ' := fun q => cD σ1 3 (some (q, .inr (7, bV .null (zI 0))))) (ci := 7) (N := 4) 203 tyJ10 rfl in_J10 tyJ10_ok q500 q501 q119 (by decide) (by decide) (by decide) (fun q => wC_D 3 _) dX0_readsWord_4 (fun q => ?_)
  refine J_dup dX0_readsWord_7 rfl ?_
  refine J_eI (y := yJ10_init) (R' := (jR 3 1 16)) [] 0 q502 q503 q119 q504 rfl (by decide +kernel) cX_1 ⟨Nat.le_of_ble_eq_true rfl, Nat.le_of_ble_eq_true rfl⟩ (by decide) rfl (Nat.le_of_ble_eq_true rfl) dX0_readsWord_8 (JE_str 3 (JE.of (X' := (cX E, none)) (by decide +kernel) (Nat.le_of_ble_eq_true rfl) (fun _ z => by cases z) (?_)))
  refine b_init (σ := strW 3 _) rfl (fun s1 o1 B1 => ?_)
  refine J_rv ?_
  refine J_astore_n dX0_readsWord_11 rfl (by decide) _ rfl ?_
  refine cl_readsWord12 (σ := σ1) hX1 ht hn0 hby hsb.2 (fun σ2 N e2 A2 B2 hN => ?_) _ (sk b n0 a) 16 _ _ _ (cR.refl.d3 (by decide)).ds A1 (Nat.le_refl _) hsb.2 rfl ?_ (Or.inl ⟨rfl, rfl, rfl⟩) (Nat.lt_succ_self _)
  · exact hq σ2 q N ((cR.q (A := []) e1).trans (e2.mono (by decide))) A2 ((e2.1.1 13 (by decide)).trans T1) B2 hN
  · rw [Nat.sub_self]; exact B1.c
theorem hsT (j : Nat) (h : j < 10) : hsU (sTx j) = zI (sHs j) := by
  have : ∀ j : Fin 10, hsU (sTx j.val) = zI (sHs j.val) := by decide +kernel
  exact this ⟨j, h⟩
theorem hsT_ne {u : List Int} {i j : Nat} (hh : hsU u = zI (sHs i)) (hj : j < 10) (h : zI (sHs i) ≠ zI (sHs j)) : u ≠ sTx j := fun q => h (hh.symm.trans (by rw [q]; exact hsT j hj))
theorem hsT_no {u : List Int} {j : Nat} (hj : j < 10) (h : hsU u ≠ zI (sHs j)) : u ≠ sTx j := fun q => h (by rw [q]; exact hsT j hj)
/-- the kind that a word says -/
def kdOf (u : List Int) : Int := if u = sTx 2 then 0 else if u = sTx 3 then 1 else if u = sTx 4 then 2 else if u = sTx 5 then 3 else -9
theorem kd_2 {u : List Int} (h : u = sTx 2) : kdOf u = 0 := by subst h; decide
theorem kd_3 {u : List Int} (h : u = sTx 3) : kdOf u = 1 := by subst h; decide
theorem kd_4 {u : List Int} (h : u = sTx 4) : kdOf u = 2 := by subst h; decide
theorem kd_5 {u : List Int} (h : u = sTx 5) : kdOf u = 3 := by subst h; decide
theorem kd_x {u : List Int} (h2 : u ≠ sTx 2) (h3 : u ≠ sTx 3) (h4 : u ≠ sTx 4) (h5 : u ≠ sTx 5) : kdOf u = -9 := by
  unfold kdOf
  rw [if_neg h2, if_neg h3, if_neg h4, if_neg h5]
theorem kd_c (u : List Int) : (kdOf u = -9 ∧ u ≠ sTx 2 ∧ u ≠ sTx 3 ∧ u ≠ sTx 4 ∧ u ≠ sTx 5) ∨ (kdOf u = 0 ∧ u = sTx 2) ∨ (kdOf u = 1 ∧ u = sTx 3) ∨ (kdOf u = 2 ∧ u = sTx 4) ∨ (kdOf u = 3 ∧ u = sTx 5) := by
  by_cases h2 : u = sTx 2
  · exact Or.inr (Or.inl ⟨kd_2 h2, h2⟩)
  · by_cases h3 : u = sTx 3
    · exact Or.inr (Or.inr (Or.inl ⟨kd_3 h3, h3⟩))
    · by_cases h4 : u = sTx 4
      · exact Or.inr (Or.inr (Or.inr (Or.inl ⟨kd_4 h4, h4⟩)))
      · by_cases h5 : u = sTx 5
        · exact Or.inr (Or.inr (Or.inr (Or.inr ⟨kd_5 h5, h5⟩)))
        · exact Or.inl ⟨kd_x h2 h3 h4 h5, h2, h3, h4, h5⟩
theorem or5 (p q r s : Prop) : p ∨ q ∨ r ∨ s ∨ (¬ p ∧ ¬ q ∧ ¬ r ∧ ¬ s) := by
  by_cases hp : p
  · exact Or.inl hp
  · by_cases hq : q
    · exact Or.inr (Or.inl hq)
    · by_cases hr : r
      · exact Or.inr (Or.inr (Or.inl hr))
      · by_cases hs : s
        · exact Or.inr (Or.inr (Or.inr (Or.inl hs)))
        · exact Or.inr (Or.inr (Or.inr (Or.inr ⟨hp, hq, hr, hs⟩)))
theorem or3 (p q : Prop) : p ∨ q ∨ (¬ p ∧ ¬ q) := by
  by_cases hp : p
  · exact Or.inl hp
  · by_cases hq : q
    · exact Or.inr (Or.inl hq)
    · exact Or.inr (Or.inr ⟨hp, hq⟩)
theorem c_kindBy {E : jEnv} {α : Nat → Nat} {σ : cS} {Q : Option Value → cS → Prop} {q N : Nat} {u : List Int}  (hB : SB E (strW 3 σ) q u N) (hN : N ≤ 4000) (hu : uR u) (hul : u.length ≤ 120) (hq : ∀ σ1, cR [] σ σ1 → Q (some (.int (zI (kdOf u)))) σ1)  : jX0_kindBy E α 0 [some (.ref q), none, none] [] σ Q := by
  have hul2 := hul
  have hul : u.length ≤ 100000 := by omega
  refine J_aload_n dX0_kindBy_0 rfl ?_
  obtain ⟨V1, r1⟩ := hB.hr (α := α)
  refine J_eF (y := yJ10_toString) (R' := (jR 6 2 124)) (x := ⟨"java/lang/CharSequence", "toString", "()Ljava/lang/String;"⟩) [] 0 (200 + 3) r1 rfl (fun A s h => h.2.1 _ (List.mem_of_getElem? (i := 10) rfl)) q772 q782 q630 q119 q632 (by decide +kernel) cX_1 ⟨Nat.le_of_ble_eq_true rfl, Nat.le_of_ble_eq_true rfl⟩ (by decide) rfl (Nat.le_of_ble_eq_true rfl) dX0_kindBy_1 (JE_str 3 (JE.of (X' := (cX E, none)) (by decide +kernel) (Nat.le_of_ble_eq_true rfl) (fun _ z => by cases z) (?_)))
  refine b_toString hB hN (by omega) (fun s1 s o1 O1 => ?_)
  refine J_ra ?_
  have O2 := O1.c (b := 3) (σ := σ)
  refine J_astore_n dX0_kindBy_6 rfl (by decide) _ rfl ?_
  refine J_iconst (zI (-1)) dX0_kindBy_7 rfl ?_
  refine J_istore_n dX0_kindBy_8 rfl (by decide) _ rfl ?_
  refine J_aload_n dX0_kindBy_9 rfl ?_
  obtain ⟨V2, r2⟩ := O2.hr (α := α)
  refine J_eV (y := yJ4_hashCode) (R' := (jR 4 0 0)) [] 0 (200 + (3 + 2)) r2 rfl q687 q688 q689 q112 q690 (by decide +kernel) cX_1 ⟨Nat.le_of_ble_eq_true rfl, Nat.le_of_ble_eq_true rfl⟩ (by decide) rfl (Nat.le_of_ble_eq_true rfl) dX0_kindBy_10 (JE_str 3 (JE.of (X' := (cX E, none)) (by decide +kernel) (Nat.le_of_ble_eq_true rfl) (fun _ z => by cases z) (?_)))
  refine b_hash O2 hu hul (fun s3 h3 hz3 o3 O3 => ?_)
  refine J_ri ?_
  have O4 := O3.c (b := 3) (σ := cDs 3 σ s1)
  obtain ⟨V3, r3⟩ := O4.hr (α := α)
  have hz := hq (cDs 3 (cDs 3 σ s1) s3) cR.refl.ds.ds
  obtain hh | hh | hh | hh | hh := or5 (hsU u = zI (-1383304148)) (hsU u = zI 3226745) (hsU u = zI 3327403) (hsU u = zI 97692013)
  · skip
    refine J_top (zI (-1383304148)) hh ?_
    refine J_lookup (tgt := 84) (71) dX0_kindBy_13 (by decide) (by decide) (by decide) ?_
    refine J_aload_n dX0_kindBy_84 rfl ?_
    refine J_ldcS rfl (List.mem_of_getElem? (i := 4) rfl) dX0_kindBy_85 ?_
    refine J_eV (y := yJ4_equals) (R' := (jR 2 0 0)) [.ref (sA E 4)] 1 (200 + (3 + 2)) r3 rfl q741 q742 q743 q112 q744 (by decide +kernel) cX_1 ⟨Nat.le_of_ble_eq_true rfl, Nat.le_of_ble_eq_true rfl⟩ (by decide) rfl (Nat.le_of_ble_eq_true rfl) dX0_kindBy_87 (JE_str 3 (JE.of (X' := (cX E, none)) (by decide +kernel) (Nat.le_of_ble_eq_true rfl) (fun _ z => by cases z) (?_)))
    refine b_equals (i := 4) O4 hu hul (by decide) (fun e1 => ?_) (fun e1 => ?_)
    · refine J_ri ?_
      rw [cDs_self]
      have hkx : kdOf u = 2 := kd_4 e1
      refine J_if_eq_n (tgt := 109) dX0_kindBy_90 (by decide) (by decide) ?_
      refine J_iconst (zI 2) dX0_kindBy_93 rfl ?_
      refine J_istore_n dX0_kindBy_94 rfl (by decide) _ rfl ?_
      refine J_goto (tgt := 109) dX0_kindBy_95 (by decide) ?_
      refine J_iload_n dX0_kindBy_109 rfl ?_
      refine J_tableIn (tgt := 144) (34) dX0_kindBy_110 (by decide) (by decide) rfl (by decide) ?_
      refine J_iconst (zI 2) dX0_kindBy_144 rfl ?_
      exact J_iret rfl dX0_kindBy_145 (by rw [hkx] at hz; exact hz)
    · refine J_ri ?_
      rw [cDs_self]
      have hkx : kdOf u = -9 := kd_x (hsT_ne (i := 4) (j := 2) hh (by decide) (by decide)) (hsT_ne (i := 4) (j := 3) hh (by decide) (by decide)) e1 (hsT_ne (i := 4) (j := 5) hh (by decide) (by decide))
      refine J_if_eq_y (tgt := 109) dX0_kindBy_90 (by decide) (by decide) ?_
      refine J_iload_n dX0_kindBy_109 rfl ?_
      refine J_tableOut (tgt := 148) dX0_kindBy_110 (by decide) (by decide) ?_
      refine J_bipush (zI (-9)) dX0_kindBy_148 rfl ?_
      exact J_iret rfl dX0_kindBy_150 (by rw [hkx] at hz; exact hz)
  · skip
    refine J_top (zI (3226745)) hh ?_
    refine J_lookup (tgt := 70) (57) dX0_kindBy_13 (by decide) (by decide) (by decide) ?_
    refine J_aload_n dX0_kindBy_70 rfl ?_
    refine J_ldcS rfl (List.mem_of_getElem? (i := 3) rfl) dX0_kindBy_71 ?_
    refine J_eV (y := yJ4_equals) (R' := (jR 2 0 0)) [.ref (sA E 3)] 1 (200 + (3 + 2)) r3 rfl q741 q742 q743 q112 q744 (by decide +kernel) cX_1 ⟨Nat.le_of_ble_eq_true rfl, Nat.le_of_ble_eq_true rfl⟩ (by decide) rfl (Nat.le_of_ble_eq_true rfl) dX0_kindBy_73 (JE_str 3 (JE.of (X' := (cX E, none)) (by decide +kernel) (Nat.le_of_ble_eq_true rfl) (fun _ z => by cases z) (?_)))
    refine b_equals (i := 3) O4 hu hul (by decide) (fun e1 => ?_) (fun e1 => ?_)
    · refine J_ri ?_
      rw [cDs_self]
      have hkx : kdOf u = 1 := kd_3 e1
      refine J_if_eq_n (tgt := 109) dX0_kindBy_76 (by decide) (by decide) ?_
      refine J_iconst (zI 1) dX0_kindBy_79 rfl ?_
      refine J_istore_n dX0_kindBy_80 rfl (by decide) _ rfl ?_
      refine J_goto (tgt := 109) dX0_kindBy_81 (by decide) ?_
      refine J_iload_n dX0_kindBy_109 rfl ?_
      refine J_tableIn (tgt := 142) (32) dX0_kindBy_110 (by decide) (by decide) rfl (by decide) ?_
      refine J_iconst (zI 1) dX0_kindBy_142 rfl ?_
      exact J_iret rfl dX0_kindBy_143 (by rw [hkx] at hz; exact hz)
    · refine J_ri ?_
      rw [cDs_self]
      have hkx : kdOf u = -9 := kd_x (hsT_ne (i := 3) (j := 2) hh (by decide) (by decide)) e1 (hsT_ne (i := 3) (j := 4) hh (by decide) (by decide)) (hsT_ne (i := 3) (j := 5) hh (by decide) (by decide))
      refine J_if_eq_y (tgt := 109) dX0_kindBy_76 (by decide) (by decide) ?_
      refine J_iload_n dX0_kindBy_109 rfl ?_
      refine J_tableOut (tgt := 148) dX0_kindBy_110 (by decide) (by decide) ?_
      refine J_bipush (zI (-9)) dX0_kindBy_148 rfl ?_
      exact J_iret rfl dX0_kindBy_150 (by rw [hkx] at hz; exact hz)
  · skip
    refine J_top (zI (3327403)) hh ?_
    refine J_lookup (tgt := 98) (85) dX0_kindBy_13 (by decide) (by decide) (by decide) ?_
    refine J_aload_n dX0_kindBy_98 rfl ?_
    refine J_ldcS rfl (List.mem_of_getElem? (i := 5) rfl) dX0_kindBy_99 ?_
    refine J_eV (y := yJ4_equals) (R' := (jR 2 0 0)) [.ref (sA E 5)] 1 (200 + (3 + 2)) r3 rfl q741 q742 q743 q112 q744 (by decide +kernel) cX_1 ⟨Nat.le_of_ble_eq_true rfl, Nat.le_of_ble_eq_true rfl⟩ (by decide) rfl (Nat.le_of_ble_eq_true rfl) dX0_kindBy_101 (JE_str 3 (JE.of (X' := (cX E, none)) (by decide +kernel) (Nat.le_of_ble_eq_true rfl) (fun _ z => by cases z) (?_)))
    refine b_equals (i := 5) O4 hu hul (by decide) (fun e1 => ?_) (fun e1 => ?_)
    · refine J_ri ?_
      rw [cDs_self]
      have hkx : kdOf u = 3 := kd_5 e1
      refine J_if_eq_n (tgt := 109) dX0_kindBy_104 (by decide) (by decide) ?_
      refine J_iconst (zI 3) dX0_kindBy_107 rfl ?_
      refine J_istore_n dX0_kindBy_108 rfl (by decide) _ rfl ?_
      refine J_iload_n dX0_kindBy_109 rfl ?_
      refine J_tableIn (tgt := 146) (36) dX0_kindBy_110 (by decide) (by decide) rfl (by decide) ?_
      refine J_iconst (zI 3) dX0_kindBy_146 rfl ?_
      exact J_iret rfl dX0_kindBy_147 (by rw [hkx] at hz; exact hz)
    · refine J_ri ?_
      rw [cDs_self]
      have hkx : kdOf u = -9 := kd_x (hsT_ne (i := 5) (j := 2) hh (by decide) (by decide)) (hsT_ne (i := 5) (j := 3) hh (by decide) (by decide)) (hsT_ne (i := 5) (j := 4) hh (by decide) (by decide)) e1
      refine J_if_eq_y (tgt := 109) dX0_kindBy_104 (by decide) (by decide) ?_
      refine J_iload_n dX0_kindBy_109 rfl ?_
      refine J_tableOut (tgt := 148) dX0_kindBy_110 (by decide) (by decide) ?_
      refine J_bipush (zI (-9)) dX0_kindBy_148 rfl ?_
      exact J_iret rfl dX0_kindBy_150 (by rw [hkx] at hz; exact hz)
  · skip
    refine J_top (zI (97692013)) hh ?_
    refine J_lookup (tgt := 56) (43) dX0_kindBy_13 (by decide) (by decide) (by decide) ?_
    refine J_aload_n dX0_kindBy_56 rfl ?_
    refine J_ldcS rfl (List.mem_of_getElem? (i := 2) rfl) dX0_kindBy_57 ?_
    refine J_eV (y := yJ4_equals) (R' := (jR 2 0 0)) [.ref (sA E 2)] 1 (200 + (3 + 2)) r3 rfl q741 q742 q743 q112 q744 (by decide +kernel) cX_1 ⟨Nat.le_of_ble_eq_true rfl, Nat.le_of_ble_eq_true rfl⟩ (by decide) rfl (Nat.le_of_ble_eq_true rfl) dX0_kindBy_59 (JE_str 3 (JE.of (X' := (cX E, none)) (by decide +kernel) (Nat.le_of_ble_eq_true rfl) (fun _ z => by cases z) (?_)))
    refine b_equals (i := 2) O4 hu hul (by decide) (fun e1 => ?_) (fun e1 => ?_)
    · refine J_ri ?_
      rw [cDs_self]
      have hkx : kdOf u = 0 := kd_2 e1
      refine J_if_eq_n (tgt := 109) dX0_kindBy_62 (by decide) (by decide) ?_
      refine J_iconst (zI 0) dX0_kindBy_65 rfl ?_
      refine J_istore_n dX0_kindBy_66 rfl (by decide) _ rfl ?_
      refine J_goto (tgt := 109) dX0_kindBy_67 (by decide) ?_
      refine J_iload_n dX0_kindBy_109 rfl ?_
      refine J_tableIn (tgt := 140) (30) dX0_kindBy_110 (by decide) (by decide) rfl (by decide) ?_
      refine J_iconst (zI 0) dX0_kindBy_140 rfl ?_
      exact J_iret rfl dX0_kindBy_141 (by rw [hkx] at hz; exact hz)
    · refine J_ri ?_
      rw [cDs_self]
      have hkx : kdOf u = -9 := kd_x e1 (hsT_ne (i := 2) (j := 3) hh (by decide) (by decide)) (hsT_ne (i := 2) (j := 4) hh (by decide) (by decide)) (hsT_ne (i := 2) (j := 5) hh (by decide) (by decide))
      refine J_if_eq_y (tgt := 109) dX0_kindBy_62 (by decide) (by decide) ?_
      refine J_iload_n dX0_kindBy_109 rfl ?_
      refine J_tableOut (tgt := 148) dX0_kindBy_110 (by decide) (by decide) ?_
      refine J_bipush (zI (-9)) dX0_kindBy_148 rfl ?_
      exact J_iret rfl dX0_kindBy_150 (by rw [hkx] at hz; exact hz)
  · skip
    skip
    refine J_lookup (tgt := 109) 96 dX0_kindBy_13 (by decide) (look_def (fun p hp => ?_)) (by decide) ?_
    · skip
      simp only [List.mem_cons, List.not_mem_nil, or_false] at hp
      rcases hp with rfl | rfl | rfl | rfl
      · exact look_ne hh.1
      · exact look_ne hh.2.1
      · exact look_ne hh.2.2.1
      · exact look_ne hh.2.2.2
    have hkx : kdOf u = -9 := kd_x (hsT_no (by decide) hh.2.2.2) (hsT_no (by decide) hh.2.1) (hsT_no (by decide) hh.1) (hsT_no (by decide) hh.2.2.1)
    refine J_iload_n dX0_kindBy_109 rfl ?_
    refine J_tableOut (tgt := 148) dX0_kindBy_110 (by decide) (by decide) ?_
    refine J_bipush (zI (-9)) dX0_kindBy_148 rfl ?_
    exact J_iret rfl dX0_kindBy_150 (by rw [hkx] at hz; exact hz)
