set_option maxRecDepth 100000
/-! reading: readsStatement -/
theorem J_dropS {E : jEnv} {α : Nat → Nat} {X : jX} {cc : ByteArray} {mL : Nat} {ret : Option FieldType} {own : String} {R : Room} {k n pc : Nat} {L : List (Option Value)} {st : List Value} {σ : cS} {Q : Option Value → cS → Prop} (b : Nat) (kk : J E (wC E α) X cc mL ret own R k n pc L st (cDs b σ (fun _ => none)) Q) : J E (wC E α) X cc mL ret own R k n pc L st σ Q := by
  have key : ∀ r x, wC E α (cDs b σ (fun _ => none)) r = some x → wC E α σ r = some x := by
    intro r x h
    rw [wC_Ds] at h
    cases e : sIv b r with
    | none => simp only [j_mix, e] at h; exact h
    | some q => simp only [j_mix, e] at h; cases h
  exact J_apart fun ap => J_view (fun r x h => ⟨r, key r x h⟩) (fun r1 r2 a e1 e2 h1 h2 => ap _ _ _ _ _ (key _ _ h1) (key _ _ h2)) kk
theorem wdL_at {b : Nat → Int} {s k i : Nat} (h : i < k) : (wdL b s k).getD i 0 = b (s + i) := by
  simp [wdL, List.getD_eq_getElem?_getD, h]
theorem wdL_kw {b : Nat → Int} {s e k : Nat} : wdL b s (e - s) = kwd k ↔ isKw b s e k := by
  constructor
  · intro h
    have hl : e - s = (kwd k).length := by rw [← h, wdL_l]
    refine ⟨hl, fun i hi => ?_⟩
    rw [← h, wdL_at (by omega)]
  · intro h
    refine List.ext_getElem (by rw [wdL_l, h.1]) (fun i a c => ?_)
    have h2 := h.2 i c
    rw [wdL_l] at a
    have h3 := wdL_at (b := b) (s := s) a
    rw [List.getD_eq_getElem?_getD, List.getElem?_eq_getElem (by rw [wdL_l]; exact a)] at h3
    rw [List.getD_eq_getElem?_getD, List.getElem?_eq_getElem c] at h2
    exact h3.trans h2
theorem wdL_R {b : Nat → Int} {s k : Nat} (h : ∀ i, i < k → isL (b (s + i)) = true) : uR (wdL b s k) := by
  intro z hz
  simp only [wdL, List.mem_map, List.mem_range] at hz
  obtain ⟨i, hi, rfl⟩ := hz
  have := isL_iff.mp (h i hi)
  omega
theorem mw_k {b : Nat → Int} {n s k : Nat} (hk : k < 6) : mWord b s (sc isL b n s) = kwc k ↔ wdL b s (sc isL b n s - s) = kwd k := (mWord_k hk).trans wdL_kw.symm
theorem cPr.r {s : pS} {ad : Nat → Nat} {I : List Nat} {σ σ' : cS} (h : cPr s ad σ) (e : cR I σ σ') (h1 : 16 ∉ I) (h2 : 17 ∉ I) (h3 : 18 ∉ I) (h4 : 15 ∉ I) : cPr s ad (cDs 3 σ' (fun _ => none)) := by
  refine ⟨(e.1.1 _ h1).trans h.1, (e.1.1 _ h2).trans h.2.1, (e.1.1 _ h3).trans h.2.2.1, (e.1.1 _ h4).trans h.2.2.2.1, fun f hf => ?_, fun j hj => ?_⟩
  · obtain ⟨g1, g2⟩ := h.2.2.2.2.1 f hf
    refine ⟨(congrFun e.2.1 f).trans g1, ?_⟩
    rw [cDs_d, if_neg (by omega), e.2.2 _ (by omega)]
    exact g2
  · rw [cDs_d]
    by_cases z : 3 ≤ j ∧ j < 3 + 5
    · rw [if_pos z]
    · rw [if_neg z, e.2.2 _ (by omega)]
      exact h.2.2.2.2.2 j hj
theorem cl_rs96 {E : jEnv} {α : Nat → Nat} {σ : cS} {Q : Option Value → cS → Prop} {t n0 : Nat} {b : Nat → Int} {s : pS} {ad : Nat → Nat} {ks ns : Nat} {σ2 : cS}  (hX : cRe t n0 b σ) (ht : t < 4) (hn0 : n0 ≤ 120) (hby : ∀ i, i < n0 → -128 ≤ b i ∧ b i ≤ 127) (hps : pOK n0 s) (hR : cPr s ad σ) (c2 : cR [12, 13] σ σ2) (A2 : σ2.i 12 = zI ((sc isL b n0 (sk b n0 s.1)) : Nat)) (T2 : σ2.i 13 = zI ((sk b n0 s.1) : Nat)) (hkn : ks ≤ 20 ∧ ns ≤ 1000) (hwd : mWord b (sk b n0 s.1) (sc isL b n0 (sk b n0 s.1)) = 315851) (h1 : ∀ s', mOne b n0 s = .ok s' → ∀ σ1 ad', cW [12, 13, 14, 15, 16, 17, 18] σ σ1 → σ1.i 12 = zI (s'.1 : Nat) → cPr s' ad' σ1 → Q (some (.int (zI 1))) σ1) (h0 : ∀ p, mOne b n0 s = .error p → ∀ σ1, cW [12, 13, 14, 15, 16, 17, 18] σ σ1 → σ1.i 13 = zI (p : Nat) → Q (some (.int (zI 0))) σ1)  : J E (wC E α) (cX E, none) cX0_readsStatement 5 (some .boolean) RX0 (jR 11 30 2000) (ks) (ns) 96 [some (.ref (α 0)), none, none, none, none] [] σ2 Q := by
  obtain ⟨hp1, hp2, hp3, hp4, hp5, -⟩ := id hps
  have hsb : s.1 ≤ sk b n0 s.1 ∧ sk b n0 s.1 ≤ n0 := sc_b hp1
  have hsc : sk b n0 s.1 ≤ sc isL b n0 (sk b n0 s.1) ∧ sc isL b n0 (sk b n0 s.1) ≤ n0 := sc_b hsb.2
  refine J_dropS 3 ?_
  have P2 := hR.r c2 (by decide) (by decide) (by decide) (by decide)
  have w2 : cW [12, 13, 14, 15, 16, 17, 18] σ (cDs 3 σ2 (fun _ => none)) := c2.ds.1.mono (by decide)
  have X2 := hX.w w2
  obtain hw | hw : s.2.1 = 0 ∨ 4 ≤ s.2.1 ∧ s.2.1 ≤ 16 := by omega
  · skip
    skip
    refine J_aload_n dX0_readsStatement_96 rfl ?_
    refine CC_X0_readsPage (by decide) ⟨Nat.le_trans hkn.1 (Nat.le_of_ble_eq_true rfl), Nat.le_trans hkn.2 (Nat.le_of_ble_eq_true rfl)⟩ (Nat.le_of_ble_eq_true rfl) dX0_readsStatement_97 ?_
    refine c_readsPage X2 ht hn0 hby A2 hsc.2 P2 hw  (fun s' m1 σ5 q5 A5 P5 => ?_) (fun p m1 σ5 q5 T5 => ?_)
    · refine J_ri ?_
      exact J_zret rfl dX0_readsStatement_100 rfl (by first | exact h1 _ ((mOne_pg rfl hwd hw).trans m1) σ5 ad (w2.trans q5.w) A5 P5 | exact h0 _ ((mOne_pg rfl hwd hw).trans m1) σ5 (w2.trans q5.w) T5)
    · refine J_ri ?_
      exact J_zret rfl dX0_readsStatement_100 rfl (by first | exact h1 _ ((mOne_pg rfl hwd hw).trans m1) σ5 ad (w2.trans q5.w) A5 P5 | exact h0 _ ((mOne_pg rfl hwd hw).trans m1) σ5 (w2.trans q5.w) T5)
  · skip
    skip
    refine J_aload_n dX0_readsStatement_96 rfl ?_
    refine CC_X0_readsPage (by decide) ⟨Nat.le_trans hkn.1 (Nat.le_of_ble_eq_true rfl), Nat.le_trans hkn.2 (Nat.le_of_ble_eq_true rfl)⟩ (Nat.le_of_ble_eq_true rfl) dX0_readsStatement_97 ?_
    refine c_readsPage_no P2 hw ?_
    refine J_ri ?_
    exact J_zret rfl dX0_readsStatement_100 rfl (by exact h0 _ (mOne_e1 rfl hwd (by omega)) _ w2 T2)
theorem cl_rs101 {E : jEnv} {α : Nat → Nat} {σ : cS} {Q : Option Value → cS → Prop} {t n0 : Nat} {b : Nat → Int} {s : pS} {ad : Nat → Nat} {ks ns : Nat} {σ2 : cS}  (hX : cRe t n0 b σ) (ht : t < 4) (hn0 : n0 ≤ 120) (hby : ∀ i, i < n0 → -128 ≤ b i ∧ b i ≤ 127) (hps : pOK n0 s) (hR : cPr s ad σ) (c2 : cR [12, 13] σ σ2) (A2 : σ2.i 12 = zI ((sc isL b n0 (sk b n0 s.1)) : Nat)) (T2 : σ2.i 13 = zI ((sk b n0 s.1) : Nat)) (hkn : ks ≤ 20 ∧ ns ≤ 1000) (hwd : mWord b (sk b n0 s.1) (sc isL b n0 (sk b n0 s.1)) = 1302862) (h1 : ∀ s', mOne b n0 s = .ok s' → ∀ σ1 ad', cW [12, 13, 14, 15, 16, 17, 18] σ σ1 → σ1.i 12 = zI (s'.1 : Nat) → cPr s' ad' σ1 → Q (some (.int (zI 1))) σ1) (h0 : ∀ p, mOne b n0 s = .error p → ∀ σ1, cW [12, 13, 14, 15, 16, 17, 18] σ σ1 → σ1.i 13 = zI (p : Nat) → Q (some (.int (zI 0))) σ1)  : J E (wC E α) (cX E, none) cX0_readsStatement 5 (some .boolean) RX0 (jR 11 30 2000) (ks) (ns) 101 [some (.ref (α 0)), none, none, none, none] [] σ2 Q := by
  obtain ⟨hp1, hp2, hp3, hp4, hp5, -⟩ := id hps
  have hsb : s.1 ≤ sk b n0 s.1 ∧ sk b n0 s.1 ≤ n0 := sc_b hp1
  have hsc : sk b n0 s.1 ≤ sc isL b n0 (sk b n0 s.1) ∧ sc isL b n0 (sk b n0 s.1) ≤ n0 := sc_b hsb.2
  refine J_dropS 3 ?_
  have P2 := hR.r c2 (by decide) (by decide) (by decide) (by decide)
  have w2 : cW [12, 13, 14, 15, 16, 17, 18] σ (cDs 3 σ2 (fun _ => none)) := c2.ds.1.mono (by decide)
  have X2 := hX.w w2
  refine J_aload_n dX0_readsStatement_101 rfl ?_
  refine CG_readWide dX0_readsStatement_102 ?_
  refine J_top (zI (s.2.1)) P2.1 ?_
  refine J_if_le_z (tgt := 119) dX0_readsStatement_105 (by decide) (by unfold zR; omega) (fun c105 => ?_) (fun c105 => ?_)
  · skip
    refine J_iconst (zI 0) dX0_readsStatement_119 rfl ?_
    exact J_zret rfl dX0_readsStatement_120 rfl (by exact h0 _ (mOne_e2 rfl (by rw [hwd]; decide) (by omega)) _ w2 T2)
  · skip
    obtain hb1 | hb1 : s.2.2.2.1 = -1 ∨ 0 ≤ s.2.2.2.1 := by omega
    · skip
      skip
      refine J_aload_n dX0_readsStatement_108 rfl ?_
      refine CC_X0_readsBleed (by decide) ⟨Nat.le_trans hkn.1 (Nat.le_of_ble_eq_true rfl), Nat.le_trans hkn.2 (Nat.le_of_ble_eq_true rfl)⟩ (Nat.le_of_ble_eq_true rfl) dX0_readsStatement_109 ?_
      refine c_readsBleed (p0 := (sk b n0 s.1)) X2 ht hn0 hby A2 hsc.2 P2 hb1  (fun s' m1 σ5 q5 A5 P5 => ?_) (fun p m1 σ5 q5 T5 => ?_)
      · refine J_ri ?_
        refine J_if_eq_n (tgt := 119) dX0_readsStatement_112 (by decide) (by decide) ?_
        refine J_iconst (zI 1) dX0_readsStatement_115 rfl ?_
        refine J_goto (tgt := 120) dX0_readsStatement_116 (by decide) ?_
        exact J_zret rfl dX0_readsStatement_120 rfl (by first | exact h1 _ ((mOne_bl rfl hwd (by omega)).trans m1) σ5 ad (w2.trans q5.w) A5 P5 | exact h0 _ ((mOne_bl rfl hwd (by omega)).trans m1) σ5 (w2.trans q5.w) T5)
      · refine J_ri ?_
        refine J_if_eq_y (tgt := 119) dX0_readsStatement_112 (by decide) (by decide) ?_
        refine J_iconst (zI 0) dX0_readsStatement_119 rfl ?_
        exact J_zret rfl dX0_readsStatement_120 rfl (by first | exact h1 _ ((mOne_bl rfl hwd (by omega)).trans m1) σ5 ad (w2.trans q5.w) A5 P5 | exact h0 _ ((mOne_bl rfl hwd (by omega)).trans m1) σ5 (w2.trans q5.w) T5)
    · skip
      skip
      refine J_aload_n dX0_readsStatement_108 rfl ?_
      refine CC_X0_readsBleed (by decide) ⟨Nat.le_trans hkn.1 (Nat.le_of_ble_eq_true rfl), Nat.le_trans hkn.2 (Nat.le_of_ble_eq_true rfl)⟩ (Nat.le_of_ble_eq_true rfl) dX0_readsStatement_109 ?_
      refine c_readsBleed_no P2 ⟨hb1, by omega⟩ ?_
      refine J_ri ?_
      refine J_if_eq_y (tgt := 119) dX0_readsStatement_112 (by decide) (by decide) ?_
      refine J_iconst (zI 0) dX0_readsStatement_119 rfl ?_
      exact J_zret rfl dX0_readsStatement_120 rfl (by exact h0 _ ((mOne_bl rfl hwd (by omega)).trans (mBlS_t hb1)) _ w2 T2)
theorem cl_rs121 {E : jEnv} {α : Nat → Nat} {σ : cS} {Q : Option Value → cS → Prop} {t n0 : Nat} {b : Nat → Int} {s : pS} {ad : Nat → Nat} {ks ns : Nat} {σ2 : cS} {q N : Nat}  (hX : cRe t n0 b σ) (ht : t < 4) (hn0 : n0 ≤ 120) (hby : ∀ i, i < n0 → -128 ≤ b i ∧ b i ≤ 127) (hps : pOK n0 s) (hR : cPr s ad σ) (c2 : cR [12, 13] σ σ2) (A2 : σ2.i 12 = zI ((sc isL b n0 (sk b n0 s.1)) : Nat)) (T2 : σ2.i 13 = zI ((sk b n0 s.1) : Nat)) (hkn : ks ≤ 20 ∧ ns ≤ 1000) (hB : SB E (strW 3 σ2) q (wdL b (sk b n0 s.1) ((sc isL b n0 (sk b n0 s.1)) - (sk b n0 s.1))) N) (hN : N ≤ 142) (hne : (wdL b (sk b n0 s.1) ((sc isL b n0 (sk b n0 s.1)) - (sk b n0 s.1))) ≠ sTx 0 ∧ (wdL b (sk b n0 s.1) ((sc isL b n0 (sk b n0 s.1)) - (sk b n0 s.1))) ≠ sTx 1) (h1 : ∀ s', mOne b n0 s = .ok s' → ∀ σ1 ad', cW [12, 13, 14, 15, 16, 17, 18] σ σ1 → σ1.i 12 = zI (s'.1 : Nat) → cPr s' ad' σ1 → Q (some (.int (zI 1))) σ1) (h0 : ∀ p, mOne b n0 s = .error p → ∀ σ1, cW [12, 13, 14, 15, 16, 17, 18] σ σ1 → σ1.i 13 = zI (p : Nat) → Q (some (.int (zI 0))) σ1)  : J E (wC E α) (cX E, none) cX0_readsStatement 5 (some .boolean) RX0 (jR 11 30 2000) (ks) (ns) 121 [some (.ref (α 0)), some (.ref q), none, none, none] [] σ2 Q := by
  obtain ⟨hp1, hp2, hp3, hp4, hp5, -⟩ := id hps
  have hsb : s.1 ≤ sk b n0 s.1 ∧ sk b n0 s.1 ≤ n0 := sc_b hp1
  have hsc : sk b n0 s.1 ≤ sc isL b n0 (sk b n0 s.1) ∧ sc isL b n0 (sk b n0 s.1) ≤ n0 := sc_b hsb.2
  have hUR : uR (wdL b (sk b n0 s.1) ((sc isL b n0 (sk b n0 s.1)) - (sk b n0 s.1))) := wdL_R (fun i hi => sc_in (p := isL) (n := n0) (a := (sk b n0 s.1)) (by omega) (by omega))
  have hpg : mWord b (sk b n0 s.1) (sc isL b n0 (sk b n0 s.1)) ≠ 315851 := fun h => hne.1 (((mw_k (k := 4) (by decide)).mp h).trans (by decide))
  have hbl : mWord b (sk b n0 s.1) (sc isL b n0 (sk b n0 s.1)) ≠ 1302862 := fun h => hne.2 (((mw_k (k := 5) (by decide)).mp h).trans (by decide))
  have hkd := kd_c (wdL b (sk b n0 s.1) ((sc isL b n0 (sk b n0 s.1)) - (sk b n0 s.1)))
  refine J_aload_n dX0_readsStatement_121 rfl ?_
  refine CC_X0_kindBy (by decide) (by show ks + 4 ≤ 30 ∧ ns + 300 ≤ 2000; omega) (Nat.le_of_ble_eq_true rfl) dX0_readsStatement_122 ?_
  refine c_kindBy hB (by omega) hUR (by rw [wdL_l]; omega) (fun σ3 c3 => ?_)
  refine J_ri ?_
  have c4 : cR [12, 13] σ σ3 := c2.trans (c3.mono (by decide))
  have A3 : σ3.i 12 = zI ((sc isL b n0 (sk b n0 s.1)) : Nat) := (c3.1.1 12 (by decide)).trans A2
  have T3 : σ3.i 13 = zI ((sk b n0 s.1) : Nat) := (c3.1.1 13 (by decide)).trans T2
  have W3 : σ3.i 16 = zI s.2.1 := (c4.1.1 16 (by decide)).trans hR.1
  have M3 : σ3.i 15 = zI (s.2.2.2.2.1 : Nat) := (c4.1.1 15 (by decide)).trans hR.2.2.2.1
  refine J_istore dX0_readsStatement_125 rfl (by decide) _ rfl ?_
  refine J_iload dX0_readsStatement_127 rfl ?_
  refine J_bipush (zI (-9)) dX0_readsStatement_129 rfl ?_
  refine J_icmp_eq_z (tgt := 163) dX0_readsStatement_131 (by decide) (by unfold zR; omega) (by unfold zR; omega) (fun c131 => ?_) (fun c131 => ?_)
  · skip
    refine J_iconst (zI 0) dX0_readsStatement_163 rfl ?_
    refine J_zret rfl dX0_readsStatement_164 rfl ?_
    obtain hk9 | hk9 | hk9 | hk9 | hk9 := hkd
    · by_cases hw0 : s.2.1 = 0
      · exact h0 _ (mOne_e2 rfl hpg hw0) _ (c4.1.mono (by decide)) T3
      · refine h0 _ (mOne_x rfl ⟨hpg, hbl, fun h => hk9.2.1 (((mw_k (k := 0) (by decide)).mp h).trans (by decide)), fun h => hk9.2.2.1 (((mw_k (k := 1) (by decide)).mp h).trans (by decide)), fun h => hk9.2.2.2.1 (((mw_k (k := 2) (by decide)).mp h).trans (by decide)), fun h => hk9.2.2.2.2 (((mw_k (k := 3) (by decide)).mp h).trans (by decide))⟩ hw0) _ (c4.1.mono (by decide)) T3
    all_goals omega
  · skip
    refine J_aload_n dX0_readsStatement_134 rfl ?_
    refine CG_readWide dX0_readsStatement_135 ?_
    refine J_top (zI (s.2.1)) W3 ?_
    refine J_if_le_z (tgt := 163) dX0_readsStatement_138 (by decide) (by unfold zR; omega) (fun c138 => ?_) (fun c138 => ?_)
    · skip
      refine J_iconst (zI 0) dX0_readsStatement_163 rfl ?_
      exact J_zret rfl dX0_readsStatement_164 rfl (by exact h0 _ (mOne_e2 rfl hpg (by omega)) _ (c4.1.mono (by decide)) T3)
    · skip
      refine J_aload_n dX0_readsStatement_141 rfl ?_
      refine CG_readMany dX0_readsStatement_142 ?_
      refine J_top (zI (s.2.2.2.2.1)) M3 ?_
      refine J_bipush (zI 8) dX0_readsStatement_145 rfl ?_
      refine J_icmp_ge_z (tgt := 163) dX0_readsStatement_147 (by decide) (by unfold zR; omega) (by unfold zR; omega) (fun c147 => ?_) (fun c147 => ?_)
      · skip
        refine J_iconst (zI 0) dX0_readsStatement_163 rfl ?_
        refine J_zret rfl dX0_readsStatement_164 rfl ?_
        have hw0 : s.2.1 ≠ 0 := by omega
        have hmo : mOne b n0 s = mFrm b n0 (kdOf (wdL b (sk b n0 s.1) ((sc isL b n0 (sk b n0 s.1)) - (sk b n0 s.1)))) (sk b n0 s.1) (sc isL b n0 (sk b n0 s.1)) s := by
          obtain hk9 | ⟨hk9, hu2⟩ | ⟨hk9, hu2⟩ | ⟨hk9, hu2⟩ | ⟨hk9, hu2⟩ := hkd
          · exact absurd hk9.1 c131
          · rw [hk9]; exact (mOne_f0 rfl ((mw_k (k := 0) (by decide)).mpr (hu2.trans (by decide))) hw0)
          · rw [hk9]; exact (mOne_f1 rfl ((mw_k (k := 1) (by decide)).mpr (hu2.trans (by decide))) hw0)
          · rw [hk9]; exact (mOne_f2 rfl ((mw_k (k := 2) (by decide)).mpr (hu2.trans (by decide))) hw0)
          · rw [hk9]; exact (mOne_f3 rfl ((mw_k (k := 3) (by decide)).mpr (hu2.trans (by decide))) hw0)
        exact h0 _ (hmo.trans (mFrm_t (by omega))) _ (c4.1.mono (by decide)) T3
      · skip
        have hw0 : s.2.1 ≠ 0 := by omega
        refine J_dropS 3 ?_
        have P3 := hR.r c4 (by decide) (by decide) (by decide) (by decide)
        have w3 : cW [12, 13, 14, 15, 16, 17, 18] σ (cDs 3 σ3 (fun _ => none)) := c4.ds.1.mono (by decide)
        have X3 := hX.w w3
        have hmo : mOne b n0 s = mFrm b n0 (kdOf (wdL b (sk b n0 s.1) ((sc isL b n0 (sk b n0 s.1)) - (sk b n0 s.1)))) (sk b n0 s.1) (sc isL b n0 (sk b n0 s.1)) s := by
          obtain hk9 | ⟨hk9, hu2⟩ | ⟨hk9, hu2⟩ | ⟨hk9, hu2⟩ | ⟨hk9, hu2⟩ := hkd
          · exact absurd hk9.1 c131
          · rw [hk9]; exact (mOne_f0 rfl ((mw_k (k := 0) (by decide)).mpr (hu2.trans (by decide))) hw0)
          · rw [hk9]; exact (mOne_f1 rfl ((mw_k (k := 1) (by decide)).mpr (hu2.trans (by decide))) hw0)
          · rw [hk9]; exact (mOne_f2 rfl ((mw_k (k := 2) (by decide)).mpr (hu2.trans (by decide))) hw0)
          · rw [hk9]; exact (mOne_f3 rfl ((mw_k (k := 3) (by decide)).mpr (hu2.trans (by decide))) hw0)
        refine J_aload_n dX0_readsStatement_150 rfl ?_
        refine J_iload dX0_readsStatement_151 rfl ?_
        refine CC_X0_readsFrame (by decide) (by show ks + 4 + 3 ≤ 30 ∧ ns + 300 + 20 ≤ 2000; omega) (Nat.le_of_ble_eq_true rfl) dX0_readsStatement_153 ?_
        refine c_readsFrame (p0 := (sk b n0 s.1)) X3 ht hn0 hby A3 hsc.2 P3 (by omega) (by omega)  (fun s' m1 σ5 ad5 q5 A5 P5 => ?_) (fun p m1 σ5 q5 T5 => ?_)
        · refine J_ri ?_
          refine J_if_eq_n (tgt := 163) dX0_readsStatement_156 (by decide) (by decide) ?_
          refine J_iconst (zI 1) dX0_readsStatement_159 rfl ?_
          refine J_goto (tgt := 164) dX0_readsStatement_160 (by decide) ?_
          exact J_zret rfl dX0_readsStatement_164 rfl (by first | exact h1 _ (hmo.trans m1) σ5 ad5 (w3.trans q5) A5 P5 | exact h0 _ (hmo.trans m1) σ5 (w3.trans q5) T5)
        · refine J_ri ?_
          refine J_if_eq_y (tgt := 163) dX0_readsStatement_156 (by decide) (by decide) ?_
          refine J_iconst (zI 0) dX0_readsStatement_163 rfl ?_
          exact J_zret rfl dX0_readsStatement_164 rfl (by first | exact h1 _ (hmo.trans m1) σ5 ad5 (w3.trans q5) A5 P5 | exact h0 _ (hmo.trans m1) σ5 (w3.trans q5) T5)
theorem c_readsStatement {E : jEnv} {α : Nat → Nat} {σ : cS} {Q : Option Value → cS → Prop} {t n0 : Nat} {b : Nat → Int} {s : pS} {ad : Nat → Nat}  (hX : cRe t n0 b σ) (ht : t < 4) (hn0 : n0 ≤ 120) (hby : ∀ i, i < n0 → -128 ≤ b i ∧ b i ≤ 127) (hA : σ.i 12 = zI (s.1 : Nat)) (hps : pOK n0 s) (hR : cPr s ad σ) (h1 : ∀ s', mOne b n0 s = .ok s' → ∀ σ1 ad', cW [12, 13, 14, 15, 16, 17, 18] σ σ1 → σ1.i 12 = zI (s'.1 : Nat) → cPr s' ad' σ1 → Q (some (.int (zI 1))) σ1) (h0 : ∀ p, mOne b n0 s = .error p → ∀ σ1, cW [12, 13, 14, 15, 16, 17, 18] σ σ1 → σ1.i 13 = zI (p : Nat) → Q (some (.int (zI 0))) σ1)  : jX0_readsStatement E α 0 [some (.ref (α 0)), none, none, none, none] [] σ Q := by
  obtain ⟨hp1, hp2, hp3, hp4, hp5, -⟩ := id hps
  have hsb : s.1 ≤ sk b n0 s.1 ∧ sk b n0 s.1 ≤ n0 := sc_b hp1
  have hsc : sk b n0 s.1 ≤ sc isL b n0 (sk b n0 s.1) ∧ sc isL b n0 (sk b n0 s.1) ≤ n0 := sc_b hsb.2
  refine J_aload_n dX0_readsStatement_0 rfl ?_
  refine CC_X0_readsWord (by decide) (by decide) (Nat.le_of_ble_eq_true rfl) dX0_readsStatement_1 ?_
  refine c_readsWord hX ht hn0 hby hA hp1 (fun σ1 q N c1 A1 T1 B1 hN => ?_)
  refine J_ra ?_
  refine J_astore_n dX0_readsStatement_4 rfl (by decide) _ rfl ?_
  refine J_aload_n dX0_readsStatement_5 rfl ?_
  have hu : uR (wdL b (sk b n0 s.1) ((sc isL b n0 (sk b n0 s.1)) - (sk b n0 s.1))) := wdL_R (fun i hi => sc_in (p := isL) (n := n0) (a := (sk b n0 s.1)) (by omega) (by omega))
  have hul : (wdL b (sk b n0 s.1) ((sc isL b n0 (sk b n0 s.1)) - (sk b n0 s.1))).length ≤ 100000 := by rw [wdL_l]; omega
  obtain ⟨V1, r1⟩ := B1.hr (α := α)
  refine J_eV (y := yJ10_toString) (R' := (jR 6 2 124)) [] 0 (200 + 3) r1 rfl q629 q630 q631 q119 q632 (by decide +kernel) cX_1 ⟨Nat.le_of_ble_eq_true rfl, Nat.le_of_ble_eq_true rfl⟩ (by decide) rfl (Nat.le_of_ble_eq_true rfl) dX0_readsStatement_6 (JE_str 3 (JE.of (X' := (cX E, none)) (by decide +kernel) (Nat.le_of_ble_eq_true rfl) (fun _ z => by cases z) (?_)))
  refine b_toString B1 (by omega) (by rw [wdL_l]; omega) (fun s2 s9 o2 O1 => ?_)
  refine J_ra ?_
  have O2 := O1.c (b := 3) (σ := σ1)
  refine J_astore_n dX0_readsStatement_9 rfl (by decide) _ rfl ?_
  refine J_iconst (zI (-1)) dX0_readsStatement_10 rfl ?_
  refine J_istore_n dX0_readsStatement_11 rfl (by decide) _ rfl ?_
  refine J_aload_n dX0_readsStatement_12 rfl ?_
  obtain ⟨V2, r2⟩ := O2.hr (α := α)
  refine J_eV (y := yJ4_hashCode) (R' := (jR 4 0 0)) [] 0 (200 + (3 + 2)) r2 rfl q687 q688 q689 q112 q690 (by decide +kernel) cX_1 ⟨Nat.le_of_ble_eq_true rfl, Nat.le_of_ble_eq_true rfl⟩ (by decide) rfl (Nat.le_of_ble_eq_true rfl) dX0_readsStatement_13 (JE_str 3 (JE.of (X' := (cX E, none)) (by decide +kernel) (Nat.le_of_ble_eq_true rfl) (fun _ z => by cases z) (?_)))
  refine b_hash O2 hu hul (fun s3 h3 hz3 o3 O3 => ?_)
  refine J_ri ?_
  have O4 := O3.c (b := 3) (σ := cDs 3 σ1 s2)
  obtain ⟨V3, r3⟩ := O4.hr (α := α)
  obtain hh | hh | hh := or3 (hsU (wdL b (sk b n0 s.1) ((sc isL b n0 (sk b n0 s.1)) - (sk b n0 s.1))) = zI 3433103) (hsU (wdL b (sk b n0 s.1) ((sc isL b n0 (sk b n0 s.1)) - (sk b n0 s.1))) = zI 93822778)
  · skip
    refine J_top (zI 3433103) hh ?_
    refine J_lookup (tgt := 44) (28) dX0_readsStatement_16 (by decide) (by decide) (by decide) ?_
    refine J_aload_n dX0_readsStatement_44 rfl ?_
    refine J_ldcS rfl (List.mem_of_getElem? (i := 0) rfl) dX0_readsStatement_45 ?_
    refine J_eV (y := yJ4_equals) (R' := (jR 2 0 0)) [.ref (sA E 0)] 1 (200 + (3 + 2)) r3 rfl q741 q742 q743 q112 q744 (by decide +kernel) cX_1 ⟨Nat.le_of_ble_eq_true rfl, Nat.le_of_ble_eq_true rfl⟩ (by decide) rfl (Nat.le_of_ble_eq_true rfl) dX0_readsStatement_47 (JE_str 3 (JE.of (X' := (cX E, none)) (by decide +kernel) (Nat.le_of_ble_eq_true rfl) (fun _ z => by cases z) (?_)))
    refine b_equals (i := 0) O4 hu hul (by decide) (fun e1 => ?_) (fun e1 => ?_)
    · refine J_ri ?_
      rw [cDs_self]
      skip
      refine J_if_eq_n (tgt := 69) dX0_readsStatement_50 (by decide) (by decide) ?_
      refine J_iconst (zI 0) dX0_readsStatement_53 rfl ?_
      refine J_istore_n dX0_readsStatement_54 rfl (by decide) _ rfl ?_
      refine J_goto (tgt := 69) dX0_readsStatement_55 (by decide) ?_
      refine J_iload_n dX0_readsStatement_69 rfl ?_
      refine J_lookup (tgt := 96) (26) dX0_readsStatement_70 (by decide) (by decide) (by decide) ?_
      refine J_fg (L' := [some (.ref (α 0)), none, none, none, none]) (by repeat' constructor) ?_
      exact cl_rs96 hX ht hn0 hby hps hR c1.ds.ds A1 T1 (by decide) ((mw_k (k := 4) (by decide)).mpr (e1.trans (by decide))) h1 h0
    · refine J_ri ?_
      rw [cDs_self]
      have hn01 : (wdL b (sk b n0 s.1) ((sc isL b n0 (sk b n0 s.1)) - (sk b n0 s.1))) ≠ sTx 0 ∧ (wdL b (sk b n0 s.1) ((sc isL b n0 (sk b n0 s.1)) - (sk b n0 s.1))) ≠ sTx 1 := ⟨e1, (hsT_ne (i := 0) (j := 1) hh (by decide) (by decide))⟩
      refine J_if_eq_y (tgt := 69) dX0_readsStatement_50 (by decide) (by decide) ?_
      refine J_iload_n dX0_readsStatement_69 rfl ?_
      refine J_lookup (tgt := 121) (51) dX0_readsStatement_70 (by decide) (by decide) (by decide) ?_
      refine J_fg (L' := [some (.ref (α 0)), some (.ref q), none, none, none]) (by repeat' constructor) ?_
      exact cl_rs121 hX ht hn0 hby hps hR c1.ds.ds A1 T1 (by decide) (((B1.up (o2.1 0 (by decide) (by decide) (by decide)) (o2.1 1 (by decide) (by decide) (by decide))).c (σ := σ1) |>.up (o3 0 (by decide)) (o3 1 (by decide))).c) hN hn01 h1 h0
  · skip
    refine J_top (zI 93822778) hh ?_
    refine J_lookup (tgt := 58) (42) dX0_readsStatement_16 (by decide) (by decide) (by decide) ?_
    refine J_aload_n dX0_readsStatement_58 rfl ?_
    refine J_ldcS rfl (List.mem_of_getElem? (i := 1) rfl) dX0_readsStatement_59 ?_
    refine J_eV (y := yJ4_equals) (R' := (jR 2 0 0)) [.ref (sA E 1)] 1 (200 + (3 + 2)) r3 rfl q741 q742 q743 q112 q744 (by decide +kernel) cX_1 ⟨Nat.le_of_ble_eq_true rfl, Nat.le_of_ble_eq_true rfl⟩ (by decide) rfl (Nat.le_of_ble_eq_true rfl) dX0_readsStatement_61 (JE_str 3 (JE.of (X' := (cX E, none)) (by decide +kernel) (Nat.le_of_ble_eq_true rfl) (fun _ z => by cases z) (?_)))
    refine b_equals (i := 1) O4 hu hul (by decide) (fun e1 => ?_) (fun e1 => ?_)
    · refine J_ri ?_
      rw [cDs_self]
      skip
      refine J_if_eq_n (tgt := 69) dX0_readsStatement_64 (by decide) (by decide) ?_
      refine J_iconst (zI 1) dX0_readsStatement_67 rfl ?_
      refine J_istore_n dX0_readsStatement_68 rfl (by decide) _ rfl ?_
      refine J_iload_n dX0_readsStatement_69 rfl ?_
      refine J_lookup (tgt := 101) (31) dX0_readsStatement_70 (by decide) (by decide) (by decide) ?_
      refine J_fg (L' := [some (.ref (α 0)), none, none, none, none]) (by repeat' constructor) ?_
      exact cl_rs101 hX ht hn0 hby hps hR c1.ds.ds A1 T1 (by decide) ((mw_k (k := 5) (by decide)).mpr (e1.trans (by decide))) h1 h0
    · refine J_ri ?_
      rw [cDs_self]
      have hn01 : (wdL b (sk b n0 s.1) ((sc isL b n0 (sk b n0 s.1)) - (sk b n0 s.1))) ≠ sTx 0 ∧ (wdL b (sk b n0 s.1) ((sc isL b n0 (sk b n0 s.1)) - (sk b n0 s.1))) ≠ sTx 1 := ⟨(hsT_ne (i := 1) (j := 0) hh (by decide) (by decide)), e1⟩
      refine J_if_eq_y (tgt := 69) dX0_readsStatement_64 (by decide) (by decide) ?_
      refine J_iload_n dX0_readsStatement_69 rfl ?_
      refine J_lookup (tgt := 121) (51) dX0_readsStatement_70 (by decide) (by decide) (by decide) ?_
      refine J_fg (L' := [some (.ref (α 0)), some (.ref q), none, none, none]) (by repeat' constructor) ?_
      exact cl_rs121 hX ht hn0 hby hps hR c1.ds.ds A1 T1 (by decide) (((B1.up (o2.1 0 (by decide) (by decide) (by decide)) (o2.1 1 (by decide) (by decide) (by decide))).c (σ := σ1) |>.up (o3 0 (by decide)) (o3 1 (by decide))).c) hN hn01 h1 h0
  · skip
    skip
    refine J_lookup (tgt := 69) 53 dX0_readsStatement_16 (by decide) (look_def (fun p hp => ?_)) (by decide) ?_
    · skip
      simp only [List.mem_cons, List.not_mem_nil, or_false] at hp
      rcases hp with rfl | rfl
      · exact look_ne hh.1
      · exact look_ne hh.2
    have hn01 : (wdL b (sk b n0 s.1) ((sc isL b n0 (sk b n0 s.1)) - (sk b n0 s.1))) ≠ sTx 0 ∧ (wdL b (sk b n0 s.1) ((sc isL b n0 (sk b n0 s.1)) - (sk b n0 s.1))) ≠ sTx 1 := ⟨hsT_no (by decide) hh.1, hsT_no (by decide) hh.2⟩
    refine J_iload_n dX0_readsStatement_69 rfl ?_
    refine J_lookup (tgt := 121) (51) dX0_readsStatement_70 (by decide) (by decide) (by decide) ?_
    refine J_fg (L' := [some (.ref (α 0)), some (.ref q), none, none, none]) (by repeat' constructor) ?_
    exact cl_rs121 hX ht hn0 hby hps hR c1.ds.ds A1 T1 (by decide) (((B1.up (o2.1 0 (by decide) (by decide) (by decide)) (o2.1 1 (by decide) (by decide) (by decide))).c (σ := σ1) |>.up (o3 0 (by decide)) (o3 1 (by decide))).c) hN hn01 h1 h0
