set_option maxRecDepth 100000
/-! the twin: readsOne -/
theorem tPs.r {s : pS} {σ : tS} (h : tPs s σ) : tPr s σ := h.2
theorem t_readsOne {E : jEnv} {α : Nat → Nat} {σ : tS} {Q : Option Value → tS → Prop} {t n0 : Nat} {b : Nat → Int} {s0 : pS}  (hX : tTx t n0 b σ) (ht : t < 4) (hn0 : n0 ≤ 120) (hby : ∀ i, -128 ≤ b i ∧ b i ≤ 127) (hPs : tPs s0 σ) (hpo : pOK n0 s0) (q1 : ∀ s, mOne b n0 s0 = .ok s → ∀ σ1, tEq [13, 14, 15, 16, 17, 18, 19, 20, 21] [22] σ σ1 → tPs s σ1 → Q (some (.int (zI 1))) σ1) (q0 : ∀ p, mOne b n0 s0 = .error p → ∀ σ1, tEq [13, 14, 15, 16, 17, 18, 19, 20, 21] [22] σ σ1 → σ1.1 17 = zI (p : Nat) → Q (some (.int (zI 0))) σ1) : jX2_readsOne E α 0 [some (.ref (α 0)), some (.int (zI (t : Nat))), none] [] σ Q := by
  refine J_aload_n dX2_readsOne_0 rfl ?_
  refine J_iload_n dX2_readsOne_1 rfl ?_
  refine TC_X2_next (by decide) (Nat.le_of_ble_eq_true rfl) dX2_readsOne_2 ?_
  refine t_next hX ht hn0 hby hPs.1 hpo.1 (fun σ1 tk e v e1 T1 K1 A1 V1 R1 => ?_)
  have hsb : s0.1 ≤ (sk b n0 s0.1) ∧ (sk b n0 s0.1) ≤ n0 := sc_b hpo.1
  have htk := tkR_b R1 hsb.2
  have hX1 := hX.eq e1 (by decide) (by decide)
  have hR1 := hPs.r.eq e1 (by decide) (by decide) (by decide) (by decide) (by decide)
  have hpw := hpo.2.2.1
  refine J_rv ?_
  refine J_aload_n dX2_readsOne_5 rfl ?_
  refine TG_token dX2_readsOne_6 ?_
  refine J_top (zI (tk)) K1 ?_
  refine J_iconst (zI 1) dX2_readsOne_9 rfl ?_
  refine J_icmp_ne_z (tgt := 21) dX2_readsOne_10 (by decide) (by unfold zR; omega) (by unfold zR; omega) (fun c10 => ?_) (fun c10 => ?_)
  · skip
    have hw : mWord b (sk b n0 s0.1) (sc isL b n0 (sk b n0 s0.1)) = 0 := mWord_0 (tkR_nw R1 c10)
    refine J_iconst (zI 0) dX2_readsOne_21 rfl ?_
    refine J_istore_n dX2_readsOne_22 rfl (by decide) _ rfl ?_
    refine J_iload_n dX2_readsOne_23 rfl ?_
    refine J_ldc (zI 315851) q1814 dX2_readsOne_24 ?_
    refine J_icmp_ne_y (tgt := 33) dX2_readsOne_26 (by decide) (by decide) ?_
    refine J_iconst (zI 0) dX2_readsOne_33 rfl ?_
    refine J_aload_n dX2_readsOne_34 rfl ?_
    refine TG_readWide dX2_readsOne_35 ?_
    refine J_top (zI (s0.2.1)) hR1.1 ?_
    refine J_if_ne_z (tgt := 45) dX2_readsOne_38 (by decide) (by unfold zR; omega) (fun c38 => ?_) (fun c38 => ?_)
    · skip
      refine J_iconst (zI 0) dX2_readsOne_45 rfl ?_
      refine J_icmp_eq_y (tgt := 54) dX2_readsOne_46 (by decide) (by decide) ?_
      refine J_iload_n dX2_readsOne_54 rfl ?_
      refine J_lookup (tgt := 152) (97) dX2_readsOne_55 (by decide) (by decide) (by decide) ?_
      refine J_aload_n dX2_readsOne_152 rfl ?_
      refine TC_X2_fails (by decide) (Nat.le_of_ble_eq_true rfl) dX2_readsOne_153 ?_
      refine t_fails (p := (sk b n0 s0.1)) T1 ?_
      refine J_ri ?_
      exact J_zret rfl dX2_readsOne_156 rfl (by exact q0 _ (mOne_x hw (by omega) (by omega)) _ ((e1.mono (by decide) (by decide)).sI (by decide)) rfl)
    · skip
      refine J_iconst (zI 1) dX2_readsOne_41 rfl ?_
      refine J_goto (tgt := 46) dX2_readsOne_42 (by decide) ?_
      refine J_icmp_eq_n (tgt := 54) dX2_readsOne_46 (by decide) (by decide) ?_
      refine J_aload_n dX2_readsOne_49 rfl ?_
      refine TC_X2_fails (by decide) (Nat.le_of_ble_eq_true rfl) dX2_readsOne_50 ?_
      refine t_fails (p := (sk b n0 s0.1)) T1 ?_
      refine J_ri ?_
      exact J_zret rfl dX2_readsOne_53 rfl (by exact q0 _ (mOne_e2 hw (by omega) (by omega)) _ ((e1.mono (by decide) (by decide)).sI (by decide)) rfl)
  · skip
    obtain rfl : e = sc isL b n0 (sk b n0 s0.1) := tkR_w R1 c10
    have hes : sc isL b n0 (sk b n0 s0.1) ≤ n0 := by omega
    refine J_aload_n dX2_readsOne_13 rfl ?_
    refine J_iload_n dX2_readsOne_14 rfl ?_
    refine TC_X2_word (by decide) (Nat.le_of_ble_eq_true rfl) dX2_readsOne_15 ?_
    refine t_word hX1 ht hn0 hby T1 A1 (by omega) ?_
    have hwb := mWord_b (b := b) (n := n0) (s := (sk b n0 s0.1))
    generalize hw : mWord b (sk b n0 s0.1) (sc isL b n0 (sk b n0 s0.1)) = W at hwb ⊢
    refine J_ri ?_
    refine J_goto (tgt := 22) dX2_readsOne_18 (by decide) ?_
    refine J_istore_n dX2_readsOne_22 rfl (by decide) _ rfl ?_
    refine J_iload_n dX2_readsOne_23 rfl ?_
    refine J_ldc (zI 315851) q1814 dX2_readsOne_24 ?_
    refine J_icmp_ne_z (tgt := 33) dX2_readsOne_26 (by decide) (by unfold zR; omega) (by unfold zR; omega) (fun c26 => ?_) (fun c26 => ?_)
    · skip
      refine J_iconst (zI 0) dX2_readsOne_33 rfl ?_
      refine J_aload_n dX2_readsOne_34 rfl ?_
      refine TG_readWide dX2_readsOne_35 ?_
      refine J_top (zI (s0.2.1)) hR1.1 ?_
      refine J_if_ne_z (tgt := 45) dX2_readsOne_38 (by decide) (by unfold zR; omega) (fun c38 => ?_) (fun c38 => ?_)
      · skip
        refine J_iconst (zI 0) dX2_readsOne_45 rfl ?_
        refine J_icmp_eq_y (tgt := 54) dX2_readsOne_46 (by decide) (by decide) ?_
        refine J_iload_n dX2_readsOne_54 rfl ?_
        rcases (show W = 1302862 ∨ W = 3544025 ∨ W = 179753 ∨ W = 37026792 ∨ W = 247335 ∨ (W ≠ 315851 ∧ W ≠ 1302862 ∧ W ≠ 3544025 ∧ W ≠ 179753 ∧ W ≠ 37026792 ∧ W ≠ 247335) by omega) with z | z | z | z | z | z
        · skip
          refine J_top (zI 1302862) (congrArg zI z) ?_
          refine J_lookup (tgt := 118) (63) dX2_readsOne_55 (by decide) (by decide) (by decide) ?_
          refine J_aload_n dX2_readsOne_118 rfl ?_
          refine J_iload_n dX2_readsOne_119 rfl ?_
          refine TC_X2_readsBleed (by decide) (Nat.le_of_ble_eq_true rfl) dX2_readsOne_120 ?_
          refine t_readsBleed (s0 := s0) hX1 ht hn0 hby A1 hes hR1 (by have := hpo.2.2.2; omega) T1  (fun s hm σ2 e2 P2 => ?_) (fun p hm σ2 e2 F2 => ?_)
          · refine J_ri ?_
            exact J_zret rfl dX2_readsOne_123 rfl (by first | exact q1 s ((mOne_bl hw z (by omega)).trans hm) σ2 ((e1.mono (by decide) (by decide)).trans e2) P2 | exact q0 p ((mOne_bl hw z (by omega)).trans hm) σ2 ((e1.mono (by decide) (by decide)).trans e2) F2)
          · refine J_ri ?_
            exact J_zret rfl dX2_readsOne_123 rfl (by first | exact q1 s ((mOne_bl hw z (by omega)).trans hm) σ2 ((e1.mono (by decide) (by decide)).trans e2) P2 | exact q0 p ((mOne_bl hw z (by omega)).trans hm) σ2 ((e1.mono (by decide) (by decide)).trans e2) F2)
        · skip
          refine J_top (zI 3544025) (congrArg zI z) ?_
          refine J_lookup (tgt := 124) (69) dX2_readsOne_55 (by decide) (by decide) (by decide) ?_
          refine J_aload_n dX2_readsOne_124 rfl ?_
          refine J_iload_n dX2_readsOne_125 rfl ?_
          refine J_iconst (zI 0) dX2_readsOne_126 rfl ?_
          refine TC_X2_readsFrame (by decide) (Nat.le_of_ble_eq_true rfl) dX2_readsOne_127 ?_
          refine t_readsFrame (s0 := s0) hX1 ht hn0 hby A1 hes hR1 hpo.2.1 (by omega) T1  (fun s hm σ2 e2 P2 => ?_) (fun p hm σ2 e2 F2 => ?_)
          · refine J_ri ?_
            exact J_zret rfl dX2_readsOne_130 rfl (by first | exact q1 s ((mOne_f0 hw z (by omega)).trans hm) σ2 ((e1.mono (by decide) (by decide)).trans e2) P2 | exact q0 p ((mOne_f0 hw z (by omega)).trans hm) σ2 ((e1.mono (by decide) (by decide)).trans e2) F2)
          · refine J_ri ?_
            exact J_zret rfl dX2_readsOne_130 rfl (by first | exact q1 s ((mOne_f0 hw z (by omega)).trans hm) σ2 ((e1.mono (by decide) (by decide)).trans e2) P2 | exact q0 p ((mOne_f0 hw z (by omega)).trans hm) σ2 ((e1.mono (by decide) (by decide)).trans e2) F2)
        · skip
          refine J_top (zI 179753) (congrArg zI z) ?_
          refine J_lookup (tgt := 131) (76) dX2_readsOne_55 (by decide) (by decide) (by decide) ?_
          refine J_aload_n dX2_readsOne_131 rfl ?_
          refine J_iload_n dX2_readsOne_132 rfl ?_
          refine J_iconst (zI 1) dX2_readsOne_133 rfl ?_
          refine TC_X2_readsFrame (by decide) (Nat.le_of_ble_eq_true rfl) dX2_readsOne_134 ?_
          refine t_readsFrame (s0 := s0) hX1 ht hn0 hby A1 hes hR1 hpo.2.1 (by omega) T1  (fun s hm σ2 e2 P2 => ?_) (fun p hm σ2 e2 F2 => ?_)
          · refine J_ri ?_
            exact J_zret rfl dX2_readsOne_137 rfl (by first | exact q1 s ((mOne_f1 hw z (by omega)).trans hm) σ2 ((e1.mono (by decide) (by decide)).trans e2) P2 | exact q0 p ((mOne_f1 hw z (by omega)).trans hm) σ2 ((e1.mono (by decide) (by decide)).trans e2) F2)
          · refine J_ri ?_
            exact J_zret rfl dX2_readsOne_137 rfl (by first | exact q1 s ((mOne_f1 hw z (by omega)).trans hm) σ2 ((e1.mono (by decide) (by decide)).trans e2) P2 | exact q0 p ((mOne_f1 hw z (by omega)).trans hm) σ2 ((e1.mono (by decide) (by decide)).trans e2) F2)
        · skip
          refine J_top (zI 37026792) (congrArg zI z) ?_
          refine J_lookup (tgt := 138) (83) dX2_readsOne_55 (by decide) (by decide) (by decide) ?_
          refine J_aload_n dX2_readsOne_138 rfl ?_
          refine J_iload_n dX2_readsOne_139 rfl ?_
          refine J_iconst (zI 2) dX2_readsOne_140 rfl ?_
          refine TC_X2_readsFrame (by decide) (Nat.le_of_ble_eq_true rfl) dX2_readsOne_141 ?_
          refine t_readsFrame (s0 := s0) hX1 ht hn0 hby A1 hes hR1 hpo.2.1 (by omega) T1  (fun s hm σ2 e2 P2 => ?_) (fun p hm σ2 e2 F2 => ?_)
          · refine J_ri ?_
            exact J_zret rfl dX2_readsOne_144 rfl (by first | exact q1 s ((mOne_f2 hw z (by omega)).trans hm) σ2 ((e1.mono (by decide) (by decide)).trans e2) P2 | exact q0 p ((mOne_f2 hw z (by omega)).trans hm) σ2 ((e1.mono (by decide) (by decide)).trans e2) F2)
          · refine J_ri ?_
            exact J_zret rfl dX2_readsOne_144 rfl (by first | exact q1 s ((mOne_f2 hw z (by omega)).trans hm) σ2 ((e1.mono (by decide) (by decide)).trans e2) P2 | exact q0 p ((mOne_f2 hw z (by omega)).trans hm) σ2 ((e1.mono (by decide) (by decide)).trans e2) F2)
        · skip
          refine J_top (zI 247335) (congrArg zI z) ?_
          refine J_lookup (tgt := 145) (90) dX2_readsOne_55 (by decide) (by decide) (by decide) ?_
          refine J_aload_n dX2_readsOne_145 rfl ?_
          refine J_iload_n dX2_readsOne_146 rfl ?_
          refine J_iconst (zI 3) dX2_readsOne_147 rfl ?_
          refine TC_X2_readsFrame (by decide) (Nat.le_of_ble_eq_true rfl) dX2_readsOne_148 ?_
          refine t_readsFrame (s0 := s0) hX1 ht hn0 hby A1 hes hR1 hpo.2.1 (by omega) T1  (fun s hm σ2 e2 P2 => ?_) (fun p hm σ2 e2 F2 => ?_)
          · refine J_ri ?_
            exact J_zret rfl dX2_readsOne_151 rfl (by first | exact q1 s ((mOne_f3 hw z (by omega)).trans hm) σ2 ((e1.mono (by decide) (by decide)).trans e2) P2 | exact q0 p ((mOne_f3 hw z (by omega)).trans hm) σ2 ((e1.mono (by decide) (by decide)).trans e2) F2)
          · refine J_ri ?_
            exact J_zret rfl dX2_readsOne_151 rfl (by first | exact q1 s ((mOne_f3 hw z (by omega)).trans hm) σ2 ((e1.mono (by decide) (by decide)).trans e2) P2 | exact q0 p ((mOne_f3 hw z (by omega)).trans hm) σ2 ((e1.mono (by decide) (by decide)).trans e2) F2)
        · skip
          refine J_lookup (tgt := 152) (97) dX2_readsOne_55 (by decide) (by rw [zI_toInt (by unfold zR; omega)]; simp [Op.lookupswitch.offset]; repeat rw [if_neg (by omega)]) (by decide) ?_
          refine J_aload_n dX2_readsOne_152 rfl ?_
          refine TC_X2_fails (by decide) (Nat.le_of_ble_eq_true rfl) dX2_readsOne_153 ?_
          refine t_fails (p := (sk b n0 s0.1)) T1 ?_
          refine J_ri ?_
          exact J_zret rfl dX2_readsOne_156 rfl (by exact q0 _ (mOne_x hw z (by omega)) _ ((e1.mono (by decide) (by decide)).sI (by decide)) rfl)
      · skip
        refine J_iconst (zI 1) dX2_readsOne_41 rfl ?_
        refine J_goto (tgt := 46) dX2_readsOne_42 (by decide) ?_
        refine J_icmp_eq_n (tgt := 54) dX2_readsOne_46 (by decide) (by decide) ?_
        refine J_aload_n dX2_readsOne_49 rfl ?_
        refine TC_X2_fails (by decide) (Nat.le_of_ble_eq_true rfl) dX2_readsOne_50 ?_
        refine t_fails (p := (sk b n0 s0.1)) T1 ?_
        refine J_ri ?_
        exact J_zret rfl dX2_readsOne_53 rfl (by exact q0 _ (mOne_e2 hw c26 (by omega)) _ ((e1.mono (by decide) (by decide)).sI (by decide)) rfl)
    · skip
      refine J_iconst (zI 1) dX2_readsOne_29 rfl ?_
      refine J_goto (tgt := 34) dX2_readsOne_30 (by decide) ?_
      refine J_aload_n dX2_readsOne_34 rfl ?_
      refine TG_readWide dX2_readsOne_35 ?_
      refine J_top (zI (s0.2.1)) hR1.1 ?_
      refine J_if_ne_z (tgt := 45) dX2_readsOne_38 (by decide) (by unfold zR; omega) (fun c38 => ?_) (fun c38 => ?_)
      · skip
        refine J_iconst (zI 0) dX2_readsOne_45 rfl ?_
        refine J_icmp_eq_n (tgt := 54) dX2_readsOne_46 (by decide) (by decide) ?_
        refine J_aload_n dX2_readsOne_49 rfl ?_
        refine TC_X2_fails (by decide) (Nat.le_of_ble_eq_true rfl) dX2_readsOne_50 ?_
        refine t_fails (p := (sk b n0 s0.1)) T1 ?_
        refine J_ri ?_
        exact J_zret rfl dX2_readsOne_53 rfl (by exact q0 _ (mOne_e1 hw c26 (by omega)) _ ((e1.mono (by decide) (by decide)).sI (by decide)) rfl)
      · skip
        refine J_iconst (zI 1) dX2_readsOne_41 rfl ?_
        refine J_goto (tgt := 46) dX2_readsOne_42 (by decide) ?_
        refine J_icmp_eq_y (tgt := 54) dX2_readsOne_46 (by decide) (by decide) ?_
        refine J_iload_n dX2_readsOne_54 rfl ?_
        refine J_top (zI 315851) (congrArg zI c26) ?_
        refine J_lookup (tgt := 112) (57) dX2_readsOne_55 (by decide) (by decide) (by decide) ?_
        refine J_aload_n dX2_readsOne_112 rfl ?_
        refine J_iload_n dX2_readsOne_113 rfl ?_
        refine TC_X2_readsPage (by decide) (Nat.le_of_ble_eq_true rfl) dX2_readsOne_114 ?_
        refine t_readsPage (s0 := s0) hX1 ht hn0 hby A1 hes hR1  (fun s hm σ2 e2 P2 => ?_) (fun p hm σ2 e2 F2 => ?_)
        · refine J_ri ?_
          exact J_zret rfl dX2_readsOne_117 rfl (by first | exact q1 s ((mOne_pg hw c26 (by omega)).trans hm) σ2 ((e1.mono (by decide) (by decide)).trans e2) P2 | exact q0 p ((mOne_pg hw c26 (by omega)).trans hm) σ2 ((e1.mono (by decide) (by decide)).trans e2) F2)
        · refine J_ri ?_
          exact J_zret rfl dX2_readsOne_117 rfl (by first | exact q1 s ((mOne_pg hw c26 (by omega)).trans hm) σ2 ((e1.mono (by decide) (by decide)).trans e2) P2 | exact q0 p ((mOne_pg hw c26 (by omega)).trans hm) σ2 ((e1.mono (by decide) (by decide)).trans e2) F2)
