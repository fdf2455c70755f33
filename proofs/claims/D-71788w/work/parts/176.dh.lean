set_option maxRecDepth 100000
/-! the component: statements -/
def cBl (z : Int) : Int := if z = -1 then -9 else z
/-- what is read so far; the frames read lie in d 10 .. -/
def cPr (s : pS) (ad : Nat → Nat) (σ : cS) : Prop := σ.i 16 = zI s.2.1 ∧ σ.i 17 = zI s.2.2.1 ∧ σ.i 18 = zI (cBl s.2.2.2.1) ∧ σ.i 15 = zI (s.2.2.2.2.1 : Nat) ∧ (∀ f, f < s.2.2.2.2.1 → σ.rf f = some (ad f) ∧ σ.d (10 + f) = some (ad f, fC (s.2.2.2.2.2 f) frC0)) ∧ ∀ j, j < 10 ∨ 10 + s.2.2.2.2.1 ≤ j → σ.d j = none
theorem cPr.q {s : pS} {ad : Nat → Nat} {I A : List Nat} {σ σ' : cS} (h : cPr s ad σ) (e : cQ I A σ σ') (h1 : 16 ∉ I) (h2 : 17 ∉ I) (h3 : 18 ∉ I) (h4 : 15 ∉ I) : cPr s ad σ' := by
  refine ⟨(e.1.1 _ h1).trans h.1, (e.1.1 _ h2).trans h.2.1, (e.1.1 _ h3).trans h.2.2.1, (e.1.1 _ h4).trans h.2.2.2.1, ?_⟩
  have e1 := e.1.2.2.2.2.2.1
  have e2 := e.1.2.2.2.2.2.2.2.2
  rw [e1, e2]
  exact h.2.2.2.2
theorem cBl_c (z : Int) : (z = -1 ∧ cBl z = -9) ∨ (z ≠ -1 ∧ cBl z = z) := by
  unfold cBl
  by_cases h : z = -1
  · rw [if_pos h]; exact Or.inl ⟨h, rfl⟩
  · rw [if_neg h]; exact Or.inr ⟨h, rfl⟩
theorem c_readsPage_no {E : jEnv} {α : Nat → Nat} {σ : cS} {Q : Option Value → cS → Prop} {s : pS} {ad : Nat → Nat}  (hR : cPr s ad σ) (hw : 4 ≤ s.2.1 ∧ s.2.1 ≤ 16) (hq : Q (some (.int (zI 0))) σ) : jX0_readsPage E α 0 [some (.ref (α 0)), none] [] σ Q := by
  refine J_aload_n dX0_readsPage_0 rfl ?_
  refine CG_readWide dX0_readsPage_1 ?_
  refine J_top (zI (s.2.1)) hR.1 ?_
  refine J_if_gt_z (tgt := 17) dX0_readsPage_4 (by decide) (by unfold zR; omega) (fun c4 => ?_) (fun c4 => ?_)
  · skip
    refine J_iconst (zI 0) dX0_readsPage_17 rfl ?_
    exact J_zret rfl dX0_readsPage_18 rfl (by exact hq)
  · exfalso; omega
theorem c_readsPage {E : jEnv} {α : Nat → Nat} {σ : cS} {Q : Option Value → cS → Prop} {t n0 a : Nat} {b : Nat → Int} {s : pS} {ad : Nat → Nat}  (hX : cRe t n0 b σ) (ht : t < 4) (hn0 : n0 ≤ 120) (hby : ∀ i, i < n0 → -128 ≤ b i ∧ b i ≤ 127) (hA : σ.i 12 = zI (a : Nat)) (ha : a ≤ n0) (hR : cPr s ad σ) (hw : s.2.1 = 0) (h1 : ∀ s', mPgS b n0 a s = .ok s' → ∀ σ1, cQ [12, 13, 14, 15, 16, 17, 18] [] σ σ1 → σ1.i 12 = zI (s'.1 : Nat) → cPr s' ad σ1 → Q (some (.int (zI 1))) σ1) (h0 : ∀ p, mPgS b n0 a s = .error p → ∀ σ1, cQ [12, 13, 14, 15, 16, 17, 18] [] σ σ1 → σ1.i 13 = zI (p : Nat) → Q (some (.int (zI 0))) σ1)  : jX0_readsPage E α 0 [some (.ref (α 0)), none] [] σ Q := by
  refine J_aload_n dX0_readsPage_0 rfl ?_
  refine CG_readWide dX0_readsPage_1 ?_
  refine J_top (zI (s.2.1)) hR.1 ?_
  refine J_if_gt_z (tgt := 17) dX0_readsPage_4 (by decide) (by unfold zR; omega) (fun c4 => ?_) (fun c4 => ?_)
  · exfalso; omega
  · skip
    refine J_aload_n dX0_readsPage_7 rfl ?_
    refine J_iconst (zI 4) dX0_readsPage_8 rfl ?_
    refine J_bipush (zI 16) dX0_readsPage_9 rfl ?_
    refine CC_X0_readsNumber (by decide) (by decide) (Nat.le_of_ble_eq_true rfl) dX0_readsPage_11 ?_
    refine c_readsNumber hX ht hn0 hby hA ha (by omega)  (fun v1 e1 m1 σ1 q1 A1 N1 K1 => ?_) (fun p1 m1 σ1 q1 T1 => ?_)
    · refine J_ri ?_
      have hX1 := hX.q q1
      have b1_ := mNum_b ha m1
      refine J_if_ne_y (tgt := 19) dX0_readsPage_14 (by decide) (by decide) ?_
      refine J_aload_n dX0_readsPage_19 rfl ?_
      refine CG_readNumber dX0_readsPage_20 ?_
      refine J_top (zI (v1)) N1 ?_
      refine J_istore_n dX0_readsPage_23 rfl (by decide) _ rfl ?_
      refine J_aload_n dX0_readsPage_24 rfl ?_
      refine J_iconst (zI 4) dX0_readsPage_25 rfl ?_
      refine J_bipush (zI 16) dX0_readsPage_26 rfl ?_
      refine CC_X0_readsNumber (by decide) (by decide) (Nat.le_of_ble_eq_true rfl) dX0_readsPage_28 ?_
      refine c_readsNumber hX1 ht hn0 hby A1 b1_.2.2.2 (by omega)  (fun v2 e2 m2 σ2 q2 A2 N2 K2 => ?_) (fun p2 m2 σ2 q2 T2 => ?_)
      · refine J_ri ?_
        have hX2 := hX1.q q2
        have b2_ := mNum_b b1_.2.2.2 m2
        refine J_if_ne_y (tgt := 36) dX0_readsPage_31 (by decide) (by decide) ?_
        refine J_aload_n dX0_readsPage_36 rfl ?_
        refine J_aload_n dX0_readsPage_37 rfl ?_
        refine CG_readNumber dX0_readsPage_38 ?_
        refine J_top (zI (v2)) N2 ?_
        refine CP_readHigh dX0_readsPage_41 ?_
        refine J_aload_n dX0_readsPage_44 rfl ?_
        refine CC_X0_readsEnd (by decide) (by decide) (Nat.le_of_ble_eq_true rfl) dX0_readsPage_45 ?_
        refine c_readsEnd (σ := cI σ2 17 (zI v2)) (hX2.up rfl rfl) ht hn0 hby A2 b2_.2.2.2  (fun e3 m3 σ3 q3 A3 => ?_) (fun p3 m3 σ3 q3 T3 => ?_)
        · refine J_ri ?_
          refine J_if_ne_y (tgt := 53) dX0_readsPage_48 (by decide) (by decide) ?_
          refine J_aload_n dX0_readsPage_53 rfl ?_
          refine J_iload_n dX0_readsPage_54 rfl ?_
          refine CP_readWide dX0_readsPage_55 ?_
          refine J_iconst (zI 1) dX0_readsPage_58 rfl ?_
          refine J_zret rfl dX0_readsPage_59 rfl ?_
          have q4 : cQ [12, 13, 14] [] σ σ2 := (q1.mono (by decide) (by decide)).trans (q2.mono (by decide) (by decide))
          have q5 : cQ [12, 13] [] (cI σ2 17 (zI v2)) σ3 := q3
          have hR2 := hR.q q4 (by decide) (by decide) (by decide) (by decide)
          refine h1 _ (mPgS_3 m1 m2 m3) _ (((q4.mono (by decide) (by decide)).trans ((cQ.refl.sI (by decide)).trans (q3.mono (by decide) (by decide)))).sI (by decide)) A3 ⟨rfl, (q5.1.1 _ (by decide)), (q5.1.1 _ (by decide)).trans hR2.2.2.1, (q5.1.1 _ (by decide)).trans hR2.2.2.2.1, ?_⟩
          have z1 := q5.1.2.2.2.2.2.1
          have z2 := q5.1.2.2.2.2.2.2.2.2
          refine ⟨fun f hf => ?_, fun j hj => ?_⟩
          · show σ3.rf f = _ ∧ σ3.d (10 + f) = _
            rw [show σ3.rf = σ2.rf from z1, show σ3.d = σ2.d from z2]
            exact hR2.2.2.2.2.1 f hf
          · show σ3.d j = none
            rw [show σ3.d = σ2.d from z2]
            exact hR2.2.2.2.2.2 j hj
        · refine J_ri ?_
          refine J_if_ne_n (tgt := 53) dX0_readsPage_48 (by decide) (by decide) ?_
          refine J_iconst (zI 0) dX0_readsPage_51 rfl ?_
          exact J_zret rfl dX0_readsPage_52 rfl (by exact h0 _ (mPgS_2 m1 m2 m3) σ3 (((q1.mono (by decide) (by decide)).trans (q2.mono (by decide) (by decide))).trans ((cQ.refl.sI (by decide)).trans (q3.mono (by decide) (by decide)))) T3)
      · refine J_ri ?_
        refine J_if_ne_n (tgt := 36) dX0_readsPage_31 (by decide) (by decide) ?_
        refine J_iconst (zI 0) dX0_readsPage_34 rfl ?_
        exact J_zret rfl dX0_readsPage_35 rfl (by exact h0 _ (mPgS_1 m1 m2) σ2 ((q1.mono (by decide) (by decide)).trans (q2.mono (by decide) (by decide))) T2)
    · refine J_ri ?_
      refine J_if_ne_n (tgt := 19) dX0_readsPage_14 (by decide) (by decide) ?_
      refine J_iconst (zI 0) dX0_readsPage_17 rfl ?_
      exact J_zret rfl dX0_readsPage_18 rfl (by exact h0 _ (mPgS_0 m1) σ1 (q1.mono (by decide) (by decide)) T1)
theorem c_readsBleed_no {E : jEnv} {α : Nat → Nat} {σ : cS} {Q : Option Value → cS → Prop} {s : pS} {ad : Nat → Nat}  (hR : cPr s ad σ) (hb : 0 ≤ s.2.2.2.1 ∧ s.2.2.2.1 ≤ 2) (hq : Q (some (.int (zI 0))) σ) : jX0_readsBleed E α 0 [some (.ref (α 0)), none] [] σ Q := by
  have hbl := cBl_c s.2.2.2.1
  refine J_aload_n dX0_readsBleed_0 rfl ?_
  refine CG_readBleed dX0_readsBleed_1 ?_
  refine J_top (zI ((cBl s.2.2.2.1))) hR.2.2.1 ?_
  refine J_bipush (zI (-9)) dX0_readsBleed_4 rfl ?_
  refine J_icmp_ne_z (tgt := 18) dX0_readsBleed_6 (by decide) (by unfold zR; omega) (by unfold zR; omega) (fun c6 => ?_) (fun c6 => ?_)
  · skip
    refine J_iconst (zI 0) dX0_readsBleed_18 rfl ?_
    exact J_zret rfl dX0_readsBleed_19 rfl (by exact hq)
  · exfalso; omega
theorem c_readsBleed {E : jEnv} {α : Nat → Nat} {σ : cS} {Q : Option Value → cS → Prop} {t n0 a : Nat} {b : Nat → Int} {s : pS} {ad : Nat → Nat} {p0 : Nat}  (hX : cRe t n0 b σ) (ht : t < 4) (hn0 : n0 ≤ 120) (hby : ∀ i, i < n0 → -128 ≤ b i ∧ b i ≤ 127) (hA : σ.i 12 = zI (a : Nat)) (ha : a ≤ n0) (hR : cPr s ad σ) (hb : s.2.2.2.1 = -1) (h1 : ∀ s', mBlS b n0 p0 a s = .ok s' → ∀ σ1, cQ [12, 13, 14, 15, 16, 17, 18] [] σ σ1 → σ1.i 12 = zI (s'.1 : Nat) → cPr s' ad σ1 → Q (some (.int (zI 1))) σ1) (h0 : ∀ p, mBlS b n0 p0 a s = .error p → ∀ σ1, cQ [12, 13, 14, 15, 16, 17, 18] [] σ σ1 → σ1.i 13 = zI (p : Nat) → Q (some (.int (zI 0))) σ1)  : jX0_readsBleed E α 0 [some (.ref (α 0)), none] [] σ Q := by
  have hbl := cBl_c s.2.2.2.1
  refine J_aload_n dX0_readsBleed_0 rfl ?_
  refine CG_readBleed dX0_readsBleed_1 ?_
  refine J_top (zI ((cBl s.2.2.2.1))) hR.2.2.1 ?_
  refine J_bipush (zI (-9)) dX0_readsBleed_4 rfl ?_
  refine J_icmp_ne_z (tgt := 18) dX0_readsBleed_6 (by decide) (by unfold zR; omega) (by unfold zR; omega) (fun c6 => ?_) (fun c6 => ?_)
  · exfalso; omega
  · skip
    refine J_aload_n dX0_readsBleed_9 rfl ?_
    refine J_iconst (zI 0) dX0_readsBleed_10 rfl ?_
    refine J_iconst (zI 2) dX0_readsBleed_11 rfl ?_
    refine CC_X0_readsNumber (by decide) (by decide) (Nat.le_of_ble_eq_true rfl) dX0_readsBleed_12 ?_
    refine c_readsNumber hX ht hn0 hby hA ha (by omega)  (fun v1 e1 m1 σ1 q1 A1 N1 K1 => ?_) (fun p1 m1 σ1 q1 T1 => ?_)
    · refine J_ri ?_
      have hX1 := hX.q q1
      have b1_ := mNum_b ha m1
      refine J_if_ne_y (tgt := 20) dX0_readsBleed_15 (by decide) (by decide) ?_
      refine J_aload_n dX0_readsBleed_20 rfl ?_
      refine CG_readNumber dX0_readsBleed_21 ?_
      refine J_top (zI (v1)) N1 ?_
      refine J_istore_n dX0_readsBleed_24 rfl (by decide) _ rfl ?_
      refine J_aload_n dX0_readsBleed_25 rfl ?_
      refine CC_X0_readsEnd (by decide) (by decide) (Nat.le_of_ble_eq_true rfl) dX0_readsBleed_26 ?_
      refine c_readsEnd hX1 ht hn0 hby A1 b1_.2.2.2  (fun e3 m3 σ3 q3 A3 => ?_) (fun p3 m3 σ3 q3 T3 => ?_)
      · refine J_ri ?_
        refine J_if_ne_y (tgt := 34) dX0_readsBleed_29 (by decide) (by decide) ?_
        refine J_aload_n dX0_readsBleed_34 rfl ?_
        refine J_iload_n dX0_readsBleed_35 rfl ?_
        refine CP_readBleed dX0_readsBleed_36 ?_
        refine J_iconst (zI 1) dX0_readsBleed_39 rfl ?_
        refine J_zret rfl dX0_readsBleed_40 rfl ?_
        have q4 : cQ [12, 13, 14] [] σ σ3 := q1.trans (q3.mono (by decide) (by decide))
        have hR2 := hR.q q4 (by decide) (by decide) (by decide) (by decide)
        have hv := b1_
        refine h1 _ (mBlS_2 (by omega) m1 m3) _ ((q4.mono (by decide) (by decide)).sI (by decide)) A3 ⟨hR2.1, hR2.2.1, ?_, hR2.2.2.2⟩
        show zI v1 = zI (cBl v1)
        have := cBl_c v1
        exact congrArg zI (by omega)
      · refine J_ri ?_
        refine J_if_ne_n (tgt := 34) dX0_readsBleed_29 (by decide) (by decide) ?_
        refine J_iconst (zI 0) dX0_readsBleed_32 rfl ?_
        exact J_zret rfl dX0_readsBleed_33 rfl (by exact h0 _ (mBlS_1 (by omega) m1 m3) σ3 ((q1.mono (by decide) (by decide)).trans (q3.mono (by decide) (by decide))) T3)
    · refine J_ri ?_
      refine J_if_ne_n (tgt := 20) dX0_readsBleed_15 (by decide) (by decide) ?_
      refine J_iconst (zI 0) dX0_readsBleed_18 rfl ?_
      exact J_zret rfl dX0_readsBleed_19 rfl (by exact h0 _ (mBlS_0 (by omega) m1) σ1 (q1.mono (by decide) (by decide)) T1)
/-- as cQ, but for d 2 -/
def cQ2 (I A : List Nat) (σ σ' : cS) : Prop := cQ I A σ (cD σ' 2 (σ.d 2))
theorem cQ2.refl {I A : List Nat} {σ : cS} {x : Option (Nat × jE)} : cQ2 I A σ (cD σ 2 x) := by
  unfold cQ2
  rw [cD_cD]
  refine ⟨⟨fun _ _ => rfl, fun _ _ => rfl, rfl, rfl, rfl, rfl, rfl, rfl, ?_⟩, rfl, rfl⟩
  funext j
  show (if j = 2 then σ.d 2 else σ.d j) = σ.d j
  by_cases z : j = 2
  · rw [if_pos z, z]
  · rw [if_neg z]
theorem cQ2.dd {I A : List Nat} {σ σ' : cS} (h : cQ2 I A σ σ') {j : Nat} (hj : j ≠ 2) : σ'.d j = σ.d j := by
  have e := congrFun h.1.2.2.2.2.2.2.2.2 j
  rw [← e]
  exact (if_neg hj).symm
theorem cQ2.step {I A : List Nat} {σ σ1 σ2 : cS} (h : cQ2 I A σ σ1) (e : cQ I A σ1 σ2) : cQ2 I A σ σ2 := by
  unfold cQ2 at *
  refine h.trans ⟨⟨e.1.1, e.1.2.1, e.1.2.2.1, e.1.2.2.2.1, e.1.2.2.2.2.1, e.1.2.2.2.2.2.1, e.1.2.2.2.2.2.2.1, e.1.2.2.2.2.2.2.2.1, ?_⟩, e.2.1, e.2.2⟩
  funext j
  show (if j = 2 then σ.d 2 else σ2.d j) = (if j = 2 then σ.d 2 else σ1.d j)
  rw [e.1.2.2.2.2.2.2.2.2]
theorem cQ2.put {I A : List Nat} {σ σ1 : cS} {x : Option (Nat × jE)} (h : cQ2 I A σ σ1) : cQ2 I A σ (cD σ1 2 x) := by
  unfold cQ2 at *
  rw [cD_cD]
  exact h
theorem cQ2.sI {I A : List Nat} {a b : cS} (h : cQ2 I A a b) {k : Nat} {v : Int32} (hk : k ∈ I) : cQ2 I A a (cI b k v) := cQ.sI (b := cD b 2 (a.d 2)) h hk
