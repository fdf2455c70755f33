set_option maxRecDepth 100000
/-! the twin: lots -/
theorem t_lots_bad {E : jEnv} {α : Nat → Nat} {σ : tS} {Q : Option Value → tS → Prop} {many : Nat} {wide high bl : Int} {G : Nat → Nat → Int} {v u : Int} (rv : zR v) (ru : zR u) (hv : ¬ (1 ≤ v ∧ v ≤ 20) ∨ ¬ (1 ≤ u ∧ u ≤ 2147483646)) (hq : Q (some (.int (zI (-1)))) σ) : jX2_lots E α 0 [some (.ref (α 0)), some (.int (zI (v))), some (.int (zI (u))), none, none, none, none, none, none] [] σ Q := by
  refine J_iload_n dX2_lots_0 rfl ?_
  refine J_iconst (zI 1) dX2_lots_1 rfl ?_
  refine J_bipush (zI 20) dX2_lots_2 rfl ?_
  refine TC_X2_in (by decide) (Nat.le_of_ble_eq_true rfl) dX2_lots_4 ?_
  refine t_in (by unfold zR at *; omega) (by unfold zR at *; omega) (by unfold zR at *; omega) (fun b4 => ?_) (fun b4 => ?_)
  · refine J_ri ?_
    refine J_if_eq_n (tgt := 21) dX2_lots_7 (by decide) (by decide) ?_
    refine J_iload_n dX2_lots_10 rfl ?_
    refine J_iconst (zI 1) dX2_lots_11 rfl ?_
    refine J_ldcw (zI 2147483646) q2069 dX2_lots_12 ?_
    refine TC_X2_in (by decide) (Nat.le_of_ble_eq_true rfl) dX2_lots_15 ?_
    refine t_in (by unfold zR at *; omega) (by unfold zR at *; omega) (by unfold zR at *; omega) (fun b15 => ?_) (fun b15 => ?_)
    · exfalso; omega
    · refine J_ri ?_
      refine J_if_ne_n (tgt := 23) dX2_lots_18 (by decide) (by decide) ?_
      refine J_iconst (zI (-1)) dX2_lots_21 rfl ?_
      exact J_iret rfl dX2_lots_22 (by exact hq)
  · refine J_ri ?_
    refine J_if_eq_y (tgt := 21) dX2_lots_7 (by decide) (by decide) ?_
    refine J_iconst (zI (-1)) dX2_lots_21 rfl ?_
    exact J_iret rfl dX2_lots_22 (by exact hq)
theorem t_lots_no {E : jEnv} {α : Nat → Nat} {σ : tS} {Q : Option Value → tS → Prop} {many : Nat} {wide high bl : Int} {G : Nat → Nat → Int} {v u : Int} (hS : tSh many wide high bl G σ) (hO : shOK many wide high bl G) (hv : 1 ≤ v ∧ v ≤ 20) (hu : 1 ≤ u ∧ u ≤ 2147483646) (hm : many = 0) (hq : Q (some (.int (zI (-4)))) σ) : jX2_lots E α 0 [some (.ref (α 0)), some (.int (zI (v))), some (.int (zI (u))), none, none, none, none, none, none] [] σ Q := by
  have := hO.s
  refine J_iload_n dX2_lots_0 rfl ?_
  refine J_iconst (zI 1) dX2_lots_1 rfl ?_
  refine J_bipush (zI 20) dX2_lots_2 rfl ?_
  refine TC_X2_in (by decide) (Nat.le_of_ble_eq_true rfl) dX2_lots_4 ?_
  refine t_in (by unfold zR; omega) (by unfold zR; omega) (by unfold zR; omega) (fun b4 => ?_) (fun b4 => ?_)
  · refine J_ri ?_
    refine J_if_eq_n (tgt := 21) dX2_lots_7 (by decide) (by decide) ?_
    refine J_iload_n dX2_lots_10 rfl ?_
    refine J_iconst (zI 1) dX2_lots_11 rfl ?_
    refine J_ldcw (zI 2147483646) q2069 dX2_lots_12 ?_
    refine TC_X2_in (by decide) (Nat.le_of_ble_eq_true rfl) dX2_lots_15 ?_
    refine t_in (by unfold zR; omega) (by unfold zR; omega) (by unfold zR; omega) (fun b15 => ?_) (fun b15 => ?_)
    · refine J_ri ?_
      refine J_if_ne_y (tgt := 23) dX2_lots_18 (by decide) (by decide) ?_
      refine J_aload_n dX2_lots_23 rfl ?_
      refine TG_frameMany dX2_lots_24 ?_
      refine J_top (zI (many)) hS.1 ?_
      refine J_if_ne_z (tgt := 33) dX2_lots_27 (by decide) (by unfold zR; omega) (fun c27 => ?_) (fun c27 => ?_)
      · exfalso; omega
      · skip
        refine J_bipush (zI (-4)) dX2_lots_30 rfl ?_
        exact J_iret rfl dX2_lots_32 (by exact hq)
    · exfalso; omega
  · exfalso; omega
theorem t_lots_full {E : jEnv} {α : Nat → Nat} {σ : tS} {Q : Option Value → tS → Prop} {many : Nat} {wide high bl : Int} {G : Nat → Nat → Int} {dm : Nat} {H : Nat → mPl} {v u : Int} (hS : tSh many wide high bl G σ) (hO : shOK many wide high bl G) (hL : tLg dm H σ) (hd : dm ≤ 40) (hv : 1 ≤ v ∧ v ≤ 20) (hu : 1 ≤ u ∧ u ≤ 2147483646) (hm : 0 < many) (hf : 40 < (dm : Int) + v) (hq : Q (some (.int (zI (-2)))) σ) : jX2_lots E α 0 [some (.ref (α 0)), some (.int (zI (v))), some (.int (zI (u))), none, none, none, none, none, none] [] σ Q := by
  have := hO.s
  refine J_iload_n dX2_lots_0 rfl ?_
  refine J_iconst (zI 1) dX2_lots_1 rfl ?_
  refine J_bipush (zI 20) dX2_lots_2 rfl ?_
  refine TC_X2_in (by decide) (Nat.le_of_ble_eq_true rfl) dX2_lots_4 ?_
  refine t_in (by unfold zR; omega) (by unfold zR; omega) (by unfold zR; omega) (fun b4 => ?_) (fun b4 => ?_)
  · refine J_ri ?_
    refine J_if_eq_n (tgt := 21) dX2_lots_7 (by decide) (by decide) ?_
    refine J_iload_n dX2_lots_10 rfl ?_
    refine J_iconst (zI 1) dX2_lots_11 rfl ?_
    refine J_ldcw (zI 2147483646) q2069 dX2_lots_12 ?_
    refine TC_X2_in (by decide) (Nat.le_of_ble_eq_true rfl) dX2_lots_15 ?_
    refine t_in (by unfold zR; omega) (by unfold zR; omega) (by unfold zR; omega) (fun b15 => ?_) (fun b15 => ?_)
    · refine J_ri ?_
      refine J_if_ne_y (tgt := 23) dX2_lots_18 (by decide) (by decide) ?_
      refine J_aload_n dX2_lots_23 rfl ?_
      refine TG_frameMany dX2_lots_24 ?_
      refine J_top (zI (many)) hS.1 ?_
      refine J_if_ne_z (tgt := 33) dX2_lots_27 (by decide) (by unfold zR; omega) (fun c27 => ?_) (fun c27 => ?_)
      · skip
        refine J_aload_n dX2_lots_33 rfl ?_
        refine TG_deedMany dX2_lots_34 ?_
        refine J_top (zI (dm)) hL.1 ?_
        refine J_iload_n dX2_lots_37 rfl ?_
        refine J_iadd_z dX2_lots_38 ?_
        refine J_bipush (zI 40) dX2_lots_39 rfl ?_
        refine J_icmp_le_z (tgt := 47) dX2_lots_41 (by decide) (by unfold zR; omega) (by unfold zR; omega) (fun c41 => ?_) (fun c41 => ?_)
        · exfalso; omega
        · skip
          refine J_bipush (zI (-2)) dX2_lots_44 rfl ?_
          exact J_iret rfl dX2_lots_46 (by exact hq)
      · exfalso; omega
    · exfalso; omega
  · exfalso; omega
theorem tl_lots53 {E : jEnv} {α : Nat → Nat} {σ : tS} {Q : Option Value → tS → Prop} {many : Nat} {wide high bl : Int} {G : Nat → Nat → Int} {dm : Nat} {H : Nat → mPl} {p0 : mPl} {n0 s : Nat}  (hS : tSh many wide high bl G σ) (hO : shOK many wide high bl G) (hm : 0 < many) (hp0 : plR many wide high bl G p0) (hn0 : 1 ≤ n0 ∧ n0 ≤ 20) (hs : 1 ≤ s ∧ s ≤ 2147483646) (hd : dm + n0 ≤ 40) (hq : ∀ σ1, tEq [27, 32, 33, 34, 35, 36] [23, 26, 28, 29, 30, 31, 37] σ σ1 → tPl (mLots many wide high bl G s p0 n0).1 (mLots many wide high bl G s p0 n0).2 σ1 → tLg (dm + n0) (mLotsH many wide high bl G s p0 dm H) σ1 → Q (some (.int (zI (mSetN (mLots many wide high bl G s p0 n0).1 many)))) σ1) : ∀ (n : Nat) (k : Nat) (P : Nat → Nat → Int) (rule : Int) (σ1 : tS), (mLots many wide high bl G s p0 k) = (P, rule) → k ≤ n0 → tEq [27, 32, 33, 34, 35, 36] [23, 26, 28, 29, 30, 31, 37] σ σ1 → tPl P rule σ1 → tLg (dm + k) (mLotsH many wide high bl G s p0 dm H) σ1 → n0 - k < n → jX2_lots E α 53 [some (.ref (α 0)), some (.int (zI (n0 : Nat))), some (.int (zI (s : Nat))), some (.long (lN (mLcg s k))), none, some (.int (zI (k : Nat))), none, none, none] [] σ1 Q := by
  intro n
  induction n with
  | zero => intro k P rule σ1 h1 h2 h3 h4 h5 hn; exact absurd hn (Nat.not_lt_zero _)
  | succ n ih =>
    intro k P rule σ1 h1 h2 h3 h4 h5 hn
    have := hO.s
    have hS := hS.eq h3 (by decide) (by decide) (by decide) (by decide) (by decide)
    have hR := mLots_ok (s := s) hO hm hp0 k
    rw [h1] at hR
    have hN : plOK many P rule := hR.1
    have hV : plV many wide high bl G P := hR.2
    have hL := h5
    have hP := h4
    have hv0 := mLcg_b (s := s) (by omega) k
    have hv1 := mLcg_b (s := s) (by omega) (k + 1)
    have hf : ((mLcg s (k + 1)) / 8 % many) < many := Nat.mod_lt _ hm
    refine J_iload dX2_lots_53 rfl ?_
    refine J_iload_n dX2_lots_55 rfl ?_
    refine J_icmp_ge_z (tgt := 178) dX2_lots_56 (by decide) (by unfold zR; omega) (by unfold zR; omega) (fun c56 => ?_) (fun c56 => ?_)
    · skip
      obtain rfl : k = n0 := by omega
      refine J_aload_n dX2_lots_178 rfl ?_
      rw [h1] at hq
      have hN : plOK many P rule := hR.1
      refine TC_X2_setMany (by decide) (Nat.le_of_ble_eq_true rfl) dX2_lots_179 ?_
      refine t_setMany hS hO hP hN  ?_
      refine J_ri ?_
      exact J_iret rfl dX2_lots_182 (by exact hq σ1 h3 h4 h5)
    · skip
      refine J_lload_n dX2_lots_59 rfl ?_
      refine J_ldc2 48271 q2070 dX2_lots_60 ?_
      refine J_lmul dX2_lots_63 ?_
      refine J_topl (lN (48271 * mLcg s k)) (l_mul rfl) ?_
      refine J_ldc2 2147483647 q2071 dX2_lots_64 ?_
      refine J_lrem dX2_lots_67 (by decide) ?_
      refine J_topl (lN (mLcg s (k + 1))) (l_rem (b := 2147483647) rfl (by omega) (by omega) (by omega)) ?_
      refine J_lstore_n dX2_lots_68 rfl (by decide) _ rfl ?_
      refine J_aload_n dX2_lots_69 rfl ?_
      refine TC_X2_remember (by decide) (Nat.le_of_ble_eq_true rfl) dX2_lots_70 ?_
      refine t_remember hP hL (by omega) (fun σ9 e9 L9 => ?_)
      rw [mLotsH_u h1] at L9
      have hP := hP.eq e9 (by decide)
      have hS := hS.eq e9 (by decide) (by decide) (by decide) (by decide) (by decide)
      refine J_rv ?_
      refine J_lload_n dX2_lots_73 rfl ?_
      refine J_ldc2 8 q2072 dX2_lots_74 ?_
      refine J_ldiv dX2_lots_77 (by decide) ?_
      refine J_topl (lN ((mLcg s (k + 1)) / 8)) (l_div (b := 8) rfl (by omega) (by omega) (by omega)) ?_
      refine J_aload_n dX2_lots_78 rfl ?_
      refine TG_frameMany dX2_lots_79 ?_
      refine J_top (zI (many)) hS.1 ?_
      refine J_i2l dX2_lots_82 ?_
      refine J_topl (lN many) (l_of (by omega)) ?_
      refine J_lrem dX2_lots_83 (l_ne (by omega) hm) ?_
      refine J_topl (lN ((mLcg s (k + 1)) / 8 % many)) (l_rem rfl (by omega) hm (by omega)) ?_
      refine J_l2i dX2_lots_84 ?_
      refine J_top (zI (((mLcg s (k + 1)) / 8 % many) : Nat)) (l_i _) ?_
      refine J_istore dX2_lots_85 rfl (by decide) _ rfl ?_
      refine J_lload_n dX2_lots_87 rfl ?_
      refine J_ldc2 8 q2072 dX2_lots_88 ?_
      refine J_lrem dX2_lots_91 (by decide) ?_
      refine J_topl (lN ((mLcg s (k + 1)) % 8)) (l_rem (b := 8) rfl (by omega) (by omega) (by omega)) ?_
      refine J_l2i dX2_lots_92 ?_
      refine J_top (zI (((mLcg s (k + 1)) % 8 : Nat) : Int)) (l_i _) ?_
      refine J_istore dX2_lots_93 rfl (by decide) _ rfl ?_
      refine J_iload dX2_lots_95 rfl ?_
      refine J_if_ne_z (tgt := 120) dX2_lots_97 (by decide) (by unfold zR; omega) (fun c97 => ?_) (fun c97 => ?_)
      · skip
        refine J_iload dX2_lots_120 rfl ?_
        refine J_iconst (zI 4) dX2_lots_122 rfl ?_
        refine J_icmp_le_z (tgt := 135) dX2_lots_123 (by decide) (by unfold zR; omega) (by unfold zR; omega) (fun c123 => ?_) (fun c123 => ?_)
        · skip
          refine J_aload_n dX2_lots_135 rfl ?_
          refine J_iload dX2_lots_136 rfl ?_
          refine TC_X2_isSet (by decide) (Nat.le_of_ble_eq_true rfl) dX2_lots_138 ?_
          refine t_isSet hS hO hP hN hf (fun b138 => ?_) (fun b138 => ?_)
          · refine J_ri ?_
            refine J_if_eq_n (tgt := 149) dX2_lots_141 (by decide) (by decide) ?_
            refine J_bipush (zI (-9)) dX2_lots_144 rfl ?_
            refine J_goto (tgt := 155) dX2_lots_146 (by decide) ?_
            refine J_istore dX2_lots_155 rfl (by decide) _ rfl ?_
            refine J_iload dX2_lots_157 rfl ?_
            refine J_bipush (zI (-9)) dX2_lots_159 rfl ?_
            refine J_icmp_eq_y (tgt := 172) dX2_lots_161 (by decide) (by decide) ?_
            refine J_iinc_z ((((k + 1)) : Nat) : Int) (by omega) dX2_lots_172 rfl rfl (by decide) _ rfl ?_
            refine J_goto (tgt := 53) dX2_lots_175 (by decide) ?_
            refine J_fg (L' := [some (.ref (α 0)), some (.int (zI (n0 : Nat))), some (.int (zI (s : Nat))), some (.long (lN (mLcg s (k + 1)))), none, some (.int (zI ((k + 1 : Nat)))), none, none, none]) (by repeat' constructor) ?_
            exact ih (k + 1) _ _ _ (by simp only [mLots]; rw [h1]; exact mDraw_a (by omega) (by omega) b138) (by omega) (h3.trans (e9.mono (by decide) (by decide))) hP L9 (by omega)
          · refine J_ri ?_
            refine J_if_eq_y (tgt := 149) dX2_lots_141 (by decide) (by decide) ?_
            refine J_aload_n dX2_lots_149 rfl ?_
            refine J_iload dX2_lots_150 rfl ?_
            refine TC_X2_findsPage (by decide) (Nat.le_of_ble_eq_true rfl) dX2_lots_152 ?_
            refine t_findsPage hS hO hP hN hV hf (fun p hp σ1 e1 F1 B1 O1 => ?_) (fun hp σ1 e1 => ?_)
            · refine J_ri ?_
              obtain ⟨r1, r2, r3, r4, r5, r6⟩ := mRoom_ok hO hf O1 hp.2.2.2.1
              have hp1 := hp.1
              have hp2 := hp.2.2.1
              have hP := hP.eq e1 (by decide)
              have hS := hS.eq e1 (by decide) (by decide) (by decide) (by decide) (by decide)
              refine J_istore dX2_lots_155 rfl (by decide) _ rfl ?_
              refine J_iload dX2_lots_157 rfl ?_
              refine J_bipush (zI (-9)) dX2_lots_159 rfl ?_
              refine J_icmp_eq_z (tgt := 172) dX2_lots_161 (by decide) (by unfold zR; omega) (by unfold zR; omega) (fun c161 => ?_) (fun c161 => ?_)
              · exfalso; omega
              · skip
                refine J_aload_n dX2_lots_164 rfl ?_
                refine J_iload dX2_lots_165 rfl ?_
                refine J_iload dX2_lots_167 rfl ?_
                refine TC_X2_sets (by decide) (Nat.le_of_ble_eq_true rfl) dX2_lots_169 ?_
                refine t_sets (r := mRect many wide high bl G P rule ((mLcg s (k + 1)) / 8 % many) p) hP (by omega) (by have := O1.2.2; omega) (by rw [B1.1]; exact congrArg zI (by omega)) (B1.2 hp.2.2.2.1).1 (F1.rc r2) (fun σ2 e2 P2 => ?_)
                refine J_rv ?_
                refine J_iinc_z ((((k + 1)) : Nat) : Int) (by omega) dX2_lots_172 rfl rfl (by decide) _ rfl ?_
                refine J_goto (tgt := 53) dX2_lots_175 (by decide) ?_
                refine J_fg (L' := [some (.ref (α 0)), some (.int (zI (n0 : Nat))), some (.int (zI (s : Nat))), some (.long (lN (mLcg s (k + 1)))), none, some (.int (zI ((k + 1 : Nat)))), none, none, none]) (by repeat' constructor) ?_
                exact ih (k + 1) (mPut many wide high bl G rule P ((mLcg s (k + 1)) / 8 % many)) rule _ (by simp only [mLots]; rw [h1]; exact mDraw_s (by omega) (by omega) (by show ¬ 0 ≤ P _ 0; omega)) (by omega) (((h3.trans (e9.mono (by decide) (by decide))).trans (e1.mono (by decide) (by decide))).trans (e2.mono (by decide) (by decide))) (by rw [mPut_p hp]; exact P2) ((L9.eq e1 (by decide) (by decide)).eq e2 (by decide) (by decide)) (by omega)
            · refine J_ri ?_
              have hP := hP.eq e1 (by decide)
              have hS := hS.eq e1 (by decide) (by decide) (by decide) (by decide) (by decide)
              refine J_istore dX2_lots_155 rfl (by decide) _ rfl ?_
              refine J_iload dX2_lots_157 rfl ?_
              refine J_bipush (zI (-9)) dX2_lots_159 rfl ?_
              refine J_icmp_eq_y (tgt := 172) dX2_lots_161 (by decide) (by decide) ?_
              refine J_iinc_z ((((k + 1)) : Nat) : Int) (by omega) dX2_lots_172 rfl rfl (by decide) _ rfl ?_
              refine J_goto (tgt := 53) dX2_lots_175 (by decide) ?_
              refine J_fg (L' := [some (.ref (α 0)), some (.int (zI (n0 : Nat))), some (.int (zI (s : Nat))), some (.long (lN (mLcg s (k + 1)))), none, some (.int (zI ((k + 1 : Nat)))), none, none, none]) (by repeat' constructor) ?_
              exact ih (k + 1) (mPut many wide high bl G rule P ((mLcg s (k + 1)) / 8 % many)) rule _ (by simp only [mLots]; rw [h1]; exact mDraw_s (by omega) (by omega) (by show ¬ 0 ≤ P _ 0; omega)) (by omega) ((h3.trans (e9.mono (by decide) (by decide))).trans (e1.mono (by decide) (by decide))) (by rw [mPut_n hp]; exact hP) (L9.eq e1 (by decide) (by decide)) (by omega)
        · skip
          refine J_aload_n dX2_lots_126 rfl ?_
          refine J_iload dX2_lots_127 rfl ?_
          refine TC_X2_lifts (by decide) (Nat.le_of_ble_eq_true rfl) dX2_lots_129 ?_
          refine t_lifts hP (by omega) (fun σ2 e2 P2 => ?_)
          refine J_rv ?_
          refine J_goto (tgt := 172) dX2_lots_132 (by decide) ?_
          refine J_iinc_z ((((k + 1)) : Nat) : Int) (by omega) dX2_lots_172 rfl rfl (by decide) _ rfl ?_
          refine J_goto (tgt := 53) dX2_lots_175 (by decide) ?_
          refine J_fg (L' := [some (.ref (α 0)), some (.int (zI (n0 : Nat))), some (.int (zI (s : Nat))), some (.long (lN (mLcg s (k + 1)))), none, some (.int (zI ((k + 1 : Nat)))), none, none, none]) (by repeat' constructor) ?_
          exact ih (k + 1) _ _ _ (by simp only [mLots]; rw [h1]; exact mDraw_l (by omega) (by omega)) (by omega) ((h3.trans (e9.mono (by decide) (by decide))).trans (e2.mono (by decide) (by decide))) P2 (L9.eq e2 (by decide) (by decide)) (by omega)
      · skip
        refine J_aload_n dX2_lots_100 rfl ?_
        refine TG_now dX2_lots_101 ?_
        refine J_bipush (zI 32) dX2_lots_104 rfl ?_
        refine J_lload_n dX2_lots_106 rfl ?_
        refine J_ldc2 64 q2073 dX2_lots_107 ?_
        refine J_ldiv dX2_lots_110 (by decide) ?_
        refine J_topl (lN ((mLcg s (k + 1)) / 64)) (l_div (b := 64) rfl (by omega) (by omega) (by omega)) ?_
        refine J_ldc2 4 q2074 dX2_lots_111 ?_
        refine J_lrem dX2_lots_114 (by decide) ?_
        refine J_topl (lN ((mLcg s (k + 1)) / 64 % 4)) (l_rem (b := 4) rfl (by omega) (by omega) (by omega)) ?_
        refine J_l2i dX2_lots_115 ?_
        refine J_top (zI (((mLcg s (k + 1)) / 64 % 4 : Nat) : Int)) (l_i _) ?_
        refine TJ_iast 23 (32) ⟨rfl, rfl, by decide⟩ (by omega) (show 32 < 33 by omega) dX2_lots_116 ?_
        refine J_goto (tgt := 172) dX2_lots_117 (by decide) ?_
        refine J_iinc_z ((((k + 1)) : Nat) : Int) (by omega) dX2_lots_172 rfl rfl (by decide) _ rfl ?_
        refine J_goto (tgt := 53) dX2_lots_175 (by decide) ?_
        refine J_fg (L' := [some (.ref (α 0)), some (.int (zI (n0 : Nat))), some (.int (zI (s : Nat))), some (.long (lN (mLcg s (k + 1)))), none, some (.int (zI ((k + 1 : Nat)))), none, none, none]) (by repeat' constructor) ?_
        exact ih (k + 1) _ _ _ (by simp only [mLots]; rw [h1]; exact mDraw_r (by omega)) (by omega) ((h3.trans (e9.mono (by decide) (by decide))).sA (by decide)) (tPl_rule hP) (L9.eq (tEq.refl.sA (A := [23]) (I := []) (by decide)) (by decide) (by decide)) (by omega)
theorem t_lots {E : jEnv} {α : Nat → Nat} {σ : tS} {Q : Option Value → tS → Prop} {many : Nat} {wide high bl : Int} {G : Nat → Nat → Int} {P : Nat → Nat → Int} {rule : Int} {dm : Nat} {H : Nat → mPl} {n0 s : Nat} (hS : tSh many wide high bl G σ) (hO : shOK many wide high bl G) (hP : tPl P rule σ) (hN : plOK many P rule) (hV : plV many wide high bl G P) (hL : tLg dm H σ) (hd : dm ≤ 40) (hn0 : 1 ≤ n0 ∧ n0 ≤ 20) (hs : 1 ≤ s ∧ s ≤ 2147483646) (hm : 0 < many) (hdn : dm + n0 ≤ 40) (hq : ∀ σ1, tEq [27, 32, 33, 34, 35, 36] [23, 26, 28, 29, 30, 31, 37] σ σ1 → tPl (mLots many wide high bl G s (P, rule) n0).1 (mLots many wide high bl G s (P, rule) n0).2 σ1 → tLg (dm + n0) (mLotsH many wide high bl G s (P, rule) dm H) σ1 → Q (some (.int (zI (mSetN (mLots many wide high bl G s (P, rule) n0).1 many)))) σ1) : jX2_lots E α 0 [some (.ref (α 0)), some (.int (zI (n0 : Nat))), some (.int (zI (s : Nat))), none, none, none, none, none, none] [] σ Q := by
  have := hO.s
  refine J_iload_n dX2_lots_0 rfl ?_
  refine J_iconst (zI 1) dX2_lots_1 rfl ?_
  refine J_bipush (zI 20) dX2_lots_2 rfl ?_
  refine TC_X2_in (by decide) (Nat.le_of_ble_eq_true rfl) dX2_lots_4 ?_
  refine t_in (by unfold zR; omega) (by unfold zR; omega) (by unfold zR; omega) (fun b4 => ?_) (fun b4 => ?_)
  · refine J_ri ?_
    refine J_if_eq_n (tgt := 21) dX2_lots_7 (by decide) (by decide) ?_
    refine J_iload_n dX2_lots_10 rfl ?_
    refine J_iconst (zI 1) dX2_lots_11 rfl ?_
    refine J_ldcw (zI 2147483646) q2069 dX2_lots_12 ?_
    refine TC_X2_in (by decide) (Nat.le_of_ble_eq_true rfl) dX2_lots_15 ?_
    refine t_in (by unfold zR; omega) (by unfold zR; omega) (by unfold zR; omega) (fun b15 => ?_) (fun b15 => ?_)
    · refine J_ri ?_
      refine J_if_ne_y (tgt := 23) dX2_lots_18 (by decide) (by decide) ?_
      refine J_aload_n dX2_lots_23 rfl ?_
      refine TG_frameMany dX2_lots_24 ?_
      refine J_top (zI (many)) hS.1 ?_
      refine J_if_ne_z (tgt := 33) dX2_lots_27 (by decide) (by unfold zR; omega) (fun c27 => ?_) (fun c27 => ?_)
      · skip
        refine J_aload_n dX2_lots_33 rfl ?_
        refine TG_deedMany dX2_lots_34 ?_
        refine J_top (zI (dm)) hL.1 ?_
        refine J_iload_n dX2_lots_37 rfl ?_
        refine J_iadd_z dX2_lots_38 ?_
        refine J_bipush (zI 40) dX2_lots_39 rfl ?_
        refine J_icmp_le_z (tgt := 47) dX2_lots_41 (by decide) (by unfold zR; omega) (by unfold zR; omega) (fun c41 => ?_) (fun c41 => ?_)
        · skip
          refine J_iload_n dX2_lots_47 rfl ?_
          refine J_i2l dX2_lots_48 ?_
          refine J_topl (lN s) (l_of (by omega)) ?_
          refine J_lstore_n dX2_lots_49 rfl (by decide) _ rfl ?_
          refine J_iconst (zI 0) dX2_lots_50 rfl ?_
          refine J_istore dX2_lots_51 rfl (by decide) _ rfl ?_
          exact tl_lots53 (p0 := (P, rule)) hS hO hm ⟨hN, hV⟩ hn0 hs hdn hq _ 0 P rule σ rfl (by omega) tEq.refl hP ⟨hL.1, fun d h2 => (by unfold mLotsH; rw [if_pos (show d < dm from h2)]; exact hL.2 d h2)⟩ (Nat.lt_succ_self _)
        · exfalso; omega
      · exfalso; omega
    · exfalso; omega
  · exfalso; omega
