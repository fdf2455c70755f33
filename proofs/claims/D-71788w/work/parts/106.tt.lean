set_option maxRecDepth 100000
/-! the twin: write, whole -/
theorem tl_write81 {E : jEnv} {α : Nat → Nat} {σ : tS} {Q : Option Value → tS → Prop} {many : Nat} {wide high bl : Int} {G : Nat → Nat → Int} {t : Nat} {o : List Int} (hS : tSh many wide high bl G σ) (hO : shOK many wide high bl G) (hl : o.length < 100) (hx : ∀ σ1, tEq [24] [25] σ σ1 → tOut (o ++ mOutL G many) σ1 → jX2_write E α 174 [some (.ref (α 0)), some (.int (zI (t : Nat))), none, none, none] [] σ1 Q) : ∀ (n : Nat) (f : Nat) (σ1 : tS), f ≤ many → tEq [24] [25] σ σ1 → tOut (o ++ mOutL G f) σ1 → many - f < n → jX2_write E α 81 [some (.ref (α 0)), some (.int (zI (t : Nat))), some (.int (zI (f : Nat))), none, none] [] σ1 Q := by
  intro n
  induction n with
  | zero => intro f σ1 h1 h2 h3 hn; exact absurd hn (Nat.not_lt_zero _)
  | succ n ih =>
    intro f σ1 h1 h2 h3 hn
    have := hO.s
    have hS := hS.eq h2 (by decide) (by decide) (by decide) (by decide) (by decide)
    refine J_iload_n dX2_write_81 rfl ?_
    refine J_aload_n dX2_write_82 rfl ?_
    refine TG_frameMany dX2_write_83 ?_
    refine J_top (zI (many)) hS.1 ?_
    refine J_icmp_ge_z (tgt := 174) dX2_write_86 (by decide) (by unfold zR; omega) (by unfold zR; omega) (fun c86 => ?_) (fun c86 => ?_)
    · skip
      obtain rfl : f = many := by omega
      refine J_fg (L' := [some (.ref (α 0)), some (.int (zI (t : Nat))), none, none, none]) (by repeat' constructor) ?_
      exact hx σ1 h2 h3
    · skip
      have hg := hO.g (f := f) (by omega)
      have hol := mOutL_l G f
      have hkl := mKw_l (G f 0)
      refine J_aload_n dX2_write_89 rfl ?_
      refine J_iload_n dX2_write_90 rfl ?_
      refine TC_X2_kindOf (by decide) (Nat.le_of_ble_eq_true rfl) dX2_write_91 ?_
      refine t_kindOf hS hO (by omega) ?_
      refine J_ri ?_
      refine J_istore_n dX2_write_94 rfl (by decide) _ rfl ?_
      refine J_aload_n dX2_write_95 rfl ?_
      refine J_iload_n dX2_write_96 rfl ?_
      refine J_if_ne_z (tgt := 105) dX2_write_97 (by decide) (by unfold zR; omega) (fun c97 => ?_) (fun c97 => ?_)
      · skip
        refine J_iload_n dX2_write_105 rfl ?_
        refine J_iconst (zI 1) dX2_write_106 rfl ?_
        refine J_icmp_ne_z (tgt := 115) dX2_write_107 (by decide) (by unfold zR; omega) (by unfold zR; omega) (fun c107 => ?_) (fun c107 => ?_)
        · skip
          refine J_iload_n dX2_write_115 rfl ?_
          refine J_iconst (zI 2) dX2_write_116 rfl ?_
          refine J_icmp_ne_z (tgt := 125) dX2_write_117 (by decide) (by unfold zR; omega) (by unfold zR; omega) (fun c117 => ?_) (fun c117 => ?_)
          · skip
            refine J_ldc (zI 247335) q1871 dX2_write_125 ?_
            refine TC_X2_writesWord (by decide) (Nat.le_of_ble_eq_true rfl) dX2_write_127 ?_
            refine t_writesWord_logo h3 (by simp only [List.length_append]; omega) (fun σ2 e2 o2 => ?_)
            have hkw : mKw (G f 0) = [108, 111, 103, 111] := by unfold mKw; rw [if_neg (by omega), if_neg (by omega), if_neg (by omega)]
            rw [← hkw] at o2
            refine J_rv ?_
            refine J_iconst (zI 1) dX2_write_130 rfl ?_
            refine J_istore dX2_write_131 rfl (by decide) _ rfl ?_
            refine tl_write133 (o := (o ++ mOutL G f) ++ mKw (G f 0)) (hS.eq e2 (by decide) (by decide) (by decide) (by decide) (by decide)) hO (by omega) (by simp only [List.length_append]; omega) (fun σ3 e3 o3 => ?_) _ 1 σ2 (by omega) tEq.refl (by rw [show mNos (G f) 1 = [] from rfl, List.append_nil]; exact o2) (Nat.lt_succ_self _)
            refine J_aload_n dX2_write_162 rfl ?_
            refine J_bipush (zI 59) dX2_write_163 rfl ?_
            refine TC_X2_writes (by decide) (Nat.le_of_ble_eq_true rfl) dX2_write_165 ?_
            refine t_writes o3 (by omega) (by have := mNos_l (G f) 7; simp only [List.length_append]; omega) (fun σ4 e4 o4 => ?_)
            refine J_rv ?_
            refine J_iinc_z ((((f + 1)) : Nat) : Int) (by omega) dX2_write_168 rfl rfl (by decide) _ rfl ?_
            refine J_goto (tgt := 81) dX2_write_171 (by decide) ?_
            exact ih (f + 1) σ4 (by omega) (((h2.trans e2).trans e3).trans e4) (by rw [mOutL]; simpa [List.append_assoc] using o4) (by omega)
          · skip
            refine J_ldc (zI 37026792) q1870 dX2_write_120 ?_
            refine J_goto (tgt := 127) dX2_write_122 (by decide) ?_
            refine TC_X2_writesWord (by decide) (Nat.le_of_ble_eq_true rfl) dX2_write_127 ?_
            refine t_writesWord_border h3 (by simp only [List.length_append]; omega) (fun σ2 e2 o2 => ?_)
            have hkw : mKw (G f 0) = [98, 111, 114, 100, 101, 114] := by unfold mKw; rw [if_neg (by omega), if_neg (by omega), if_pos (by omega)]
            rw [← hkw] at o2
            refine J_rv ?_
            refine J_iconst (zI 1) dX2_write_130 rfl ?_
            refine J_istore dX2_write_131 rfl (by decide) _ rfl ?_
            refine tl_write133 (o := (o ++ mOutL G f) ++ mKw (G f 0)) (hS.eq e2 (by decide) (by decide) (by decide) (by decide) (by decide)) hO (by omega) (by simp only [List.length_append]; omega) (fun σ3 e3 o3 => ?_) _ 1 σ2 (by omega) tEq.refl (by rw [show mNos (G f) 1 = [] from rfl, List.append_nil]; exact o2) (Nat.lt_succ_self _)
            refine J_aload_n dX2_write_162 rfl ?_
            refine J_bipush (zI 59) dX2_write_163 rfl ?_
            refine TC_X2_writes (by decide) (Nat.le_of_ble_eq_true rfl) dX2_write_165 ?_
            refine t_writes o3 (by omega) (by have := mNos_l (G f) 7; simp only [List.length_append]; omega) (fun σ4 e4 o4 => ?_)
            refine J_rv ?_
            refine J_iinc_z ((((f + 1)) : Nat) : Int) (by omega) dX2_write_168 rfl rfl (by decide) _ rfl ?_
            refine J_goto (tgt := 81) dX2_write_171 (by decide) ?_
            exact ih (f + 1) σ4 (by omega) (((h2.trans e2).trans e3).trans e4) (by rw [mOutL]; simpa [List.append_assoc] using o4) (by omega)
        · skip
          refine J_ldc (zI 179753) q1869 dX2_write_110 ?_
          refine J_goto (tgt := 127) dX2_write_112 (by decide) ?_
          refine TC_X2_writesWord (by decide) (Nat.le_of_ble_eq_true rfl) dX2_write_127 ?_
          refine t_writesWord_icon h3 (by simp only [List.length_append]; omega) (fun σ2 e2 o2 => ?_)
          have hkw : mKw (G f 0) = [105, 99, 111, 110] := by unfold mKw; rw [if_neg (by omega), if_pos (by omega)]
          rw [← hkw] at o2
          refine J_rv ?_
          refine J_iconst (zI 1) dX2_write_130 rfl ?_
          refine J_istore dX2_write_131 rfl (by decide) _ rfl ?_
          refine tl_write133 (o := (o ++ mOutL G f) ++ mKw (G f 0)) (hS.eq e2 (by decide) (by decide) (by decide) (by decide) (by decide)) hO (by omega) (by simp only [List.length_append]; omega) (fun σ3 e3 o3 => ?_) _ 1 σ2 (by omega) tEq.refl (by rw [show mNos (G f) 1 = [] from rfl, List.append_nil]; exact o2) (Nat.lt_succ_self _)
          refine J_aload_n dX2_write_162 rfl ?_
          refine J_bipush (zI 59) dX2_write_163 rfl ?_
          refine TC_X2_writes (by decide) (Nat.le_of_ble_eq_true rfl) dX2_write_165 ?_
          refine t_writes o3 (by omega) (by have := mNos_l (G f) 7; simp only [List.length_append]; omega) (fun σ4 e4 o4 => ?_)
          refine J_rv ?_
          refine J_iinc_z ((((f + 1)) : Nat) : Int) (by omega) dX2_write_168 rfl rfl (by decide) _ rfl ?_
          refine J_goto (tgt := 81) dX2_write_171 (by decide) ?_
          exact ih (f + 1) σ4 (by omega) (((h2.trans e2).trans e3).trans e4) (by rw [mOutL]; simpa [List.append_assoc] using o4) (by omega)
      · skip
        refine J_ldc (zI 3544025) q1868 dX2_write_100 ?_
        refine J_goto (tgt := 127) dX2_write_102 (by decide) ?_
        refine TC_X2_writesWord (by decide) (Nat.le_of_ble_eq_true rfl) dX2_write_127 ?_
        refine t_writesWord_frame h3 (by simp only [List.length_append]; omega) (fun σ2 e2 o2 => ?_)
        have hkw : mKw (G f 0) = [102, 114, 97, 109, 101] := by unfold mKw; rw [if_pos (by omega)]
        rw [← hkw] at o2
        refine J_rv ?_
        refine J_iconst (zI 1) dX2_write_130 rfl ?_
        refine J_istore dX2_write_131 rfl (by decide) _ rfl ?_
        refine tl_write133 (o := (o ++ mOutL G f) ++ mKw (G f 0)) (hS.eq e2 (by decide) (by decide) (by decide) (by decide) (by decide)) hO (by omega) (by simp only [List.length_append]; omega) (fun σ3 e3 o3 => ?_) _ 1 σ2 (by omega) tEq.refl (by rw [show mNos (G f) 1 = [] from rfl, List.append_nil]; exact o2) (Nat.lt_succ_self _)
        refine J_aload_n dX2_write_162 rfl ?_
        refine J_bipush (zI 59) dX2_write_163 rfl ?_
        refine TC_X2_writes (by decide) (Nat.le_of_ble_eq_true rfl) dX2_write_165 ?_
        refine t_writes o3 (by omega) (by have := mNos_l (G f) 7; simp only [List.length_append]; omega) (fun σ4 e4 o4 => ?_)
        refine J_rv ?_
        refine J_iinc_z ((((f + 1)) : Nat) : Int) (by omega) dX2_write_168 rfl rfl (by decide) _ rfl ?_
        refine J_goto (tgt := 81) dX2_write_171 (by decide) ?_
        exact ih (f + 1) σ4 (by omega) (((h2.trans e2).trans e3).trans e4) (by rw [mOutL]; simpa [List.append_assoc] using o4) (by omega)
theorem tl_write198 {E : jEnv} {α : Nat → Nat} {σ : tS} {Q : Option Value → tS → Prop} {t : Nat} {o : List Int} (ht : t < 4) (hl : o.length ≤ 120) (oO : tOut o σ) (hq : ∀ σ1, tEq [] [7] σ σ1 → σ1.2.1 7 = va_cpy (fun i => if i < o.length then zI (o.getD i 0) else zI 32) (σ.2.1 7) 0 (120 * t) 120 → Q (some (.int (zI (o.length : Nat)))) σ1) : ∀ (n : Nat) (i : Nat) (σ1 : tS), i ≤ 120 → tEq [] [7] σ σ1 → σ1.2.1 7 = va_cpy (fun i => if i < o.length then zI (o.getD i 0) else zI 32) (σ.2.1 7) 0 (120 * t) i → 120 - i < n → jX2_write E α 198 [some (.ref (α 0)), some (.int (zI (t : Nat))), some (.int (zI (i : Nat))), none, none] [] σ1 Q := by
  intro n
  induction n with
  | zero => intro i σ1 h1 h2 h3 hn; exact absurd hn (Nat.not_lt_zero _)
  | succ n ih =>
    intro i σ1 h1 h2 h3 hn
    refine J_iload_n dX2_write_198 rfl ?_
    refine J_bipush (zI 120) dX2_write_199 rfl ?_
    refine J_icmp_ge_z (tgt := 240) dX2_write_201 (by decide) (by unfold zR; omega) (by unfold zR; omega) (fun c201 => ?_) (fun c201 => ?_)
    · skip
      obtain rfl : i = 120 := by omega
      refine J_aload_n dX2_write_240 rfl ?_
      refine TG_outMany dX2_write_241 ?_
      refine J_top (zI (o.length)) ((h2.1 24 (by decide)).trans oO.1) ?_
      exact J_iret rfl dX2_write_244 (by exact hq σ1 h2 h3)
    · skip
      refine J_aload_n dX2_write_204 rfl ?_
      refine TG_bytes dX2_write_205 ?_
      refine J_bipush (zI 120) dX2_write_208 rfl ?_
      refine J_iload_n dX2_write_210 rfl ?_
      refine J_imul_z dX2_write_211 ?_
      refine J_iload_n dX2_write_212 rfl ?_
      refine J_iadd_z dX2_write_213 ?_
      refine J_iload_n dX2_write_214 rfl ?_
      refine J_aload_n dX2_write_215 rfl ?_
      refine TG_outMany dX2_write_216 ?_
      refine J_top (zI (o.length)) ((h2.1 24 (by decide)).trans oO.1) ?_
      refine J_icmp_ge_z (tgt := 231) dX2_write_219 (by decide) (by unfold zR; omega) (by unfold zR; omega) (fun c219 => ?_) (fun c219 => ?_)
      · skip
        refine J_bipush (zI 32) dX2_write_231 rfl ?_
        refine TJ_bast 7 (((120 * t) + i)) ⟨rfl, rfl, by decide⟩ (by omega) (show ((120 * t) + i) < 480 by omega) dX2_write_233 ?_
        refine J_iinc_z ((((i + 1)) : Nat) : Int) (by omega) dX2_write_234 rfl rfl (by decide) _ rfl ?_
        refine J_goto (tgt := 198) dX2_write_237 (by decide) ?_
        exact ih (i + 1) _ (by omega) (h2.sA (by decide)) (by have h := cpy_stepE (s' := (fun i => if i < o.length then zI (o.getD i 0) else zI 32)) (q := 0 + i) (p := 120 * t + i) h3 rfl rfl rfl; simp only [Nat.zero_add] at h; rw [if_neg (by omega)] at h; show upd _ _ _ = _; rw [by8_s (by omega)]; exact h) (by omega)
      · skip
        refine J_aload_n dX2_write_222 rfl ?_
        refine TG_out dX2_write_223 ?_
        refine J_iload_n dX2_write_226 rfl ?_
        refine TJ_bald 25 (i) ⟨rfl, rfl, by decide⟩ (by omega) (show i < 120 by omega) dX2_write_227 ?_
        refine J_top (zI (o.getD i 0)) ((by rw [h2.2.1 25 (by decide)]; exact (oO.2 i (by omega) (by omega)).1)) ?_
        refine J_goto (tgt := 233) dX2_write_228 (by decide) ?_
        refine TJ_bast 7 (((120 * t) + i)) ⟨rfl, rfl, by decide⟩ (by omega) (show ((120 * t) + i) < 480 by omega) dX2_write_233 ?_
        refine J_iinc_z ((((i + 1)) : Nat) : Int) (by omega) dX2_write_234 rfl rfl (by decide) _ rfl ?_
        refine J_goto (tgt := 198) dX2_write_237 (by decide) ?_
        exact ih (i + 1) _ (by omega) (h2.sA (by decide)) (by have h := cpy_stepE (s' := (fun i => if i < o.length then zI (o.getD i 0) else zI 32)) (q := 0 + i) (p := 120 * t + i) h3 rfl rfl rfl; simp only [Nat.zero_add] at h; rw [if_pos (by omega)] at h; show upd _ _ _ = _; rw [by8_s (by have := (oO.2 i (by omega) (by omega)).2; omega)]; exact h) (by omega)
theorem write_ok {rs : Nat → Int} {rd : Nat → Nat → Int32} {ts : Nat → Int} {tb : Nat → Nat → Int} {σ σ1 : tS} {t : Nat} {o : List Int} (h : tDt rs rd ts tb σ) (ht : t < 4) (hb : ∀ r, r < 4 → -1 ≤ ts r ∧ ts r ≤ 120) (hl : o.length ≤ 120) (e : tEq [] [7] (setA σ 6 (upd (σ.2.1 6) t (zI (o.length : Nat)))) σ1) (c : σ1.2.1 7 = va_cpy (fun i => if i < o.length then zI (o.getD i 0) else zI 32) (σ.2.1 7) 0 (120 * t) 120) : tDt rs rd (upk ts t o.length) (upk tb t (fun i => o.getD i 0)) σ1 := by
  have h6 : σ1.2.1 6 = upd (σ.2.1 6) t (zI (o.length : Nat)) := e.2.1 6 (by decide)
  have h3 : σ1.2.1 3 = σ.2.1 3 := e.2.1 3 (by decide)
  have h4 : σ1.2.1 4 = σ.2.1 4 := e.2.1 4 (by decide)
  refine ⟨by rw [h3]; exact h.1, by rw [h4]; exact h.2.1, fun q hq => ?_, fun q i hq hi => ?_⟩
  · rw [h6]
    unfold upk upd
    split
    · rfl
    · exact h.2.2.1 q hq
  · rw [c]
    unfold upk at *
    by_cases z : q = t
    · subst z
      rw [if_pos rfl] at hi ⊢
      rw [pk_cpy_in (by omega) (by omega)]
      have e2 : 0 + (120 * q + i - 120 * q) = i := by omega
      rw [e2, if_pos (by omega)]
    · rw [if_neg z] at hi ⊢
      have := hb q hq
      rw [pk_cpy_out (by omega)]
      exact h.2.2.2 q i hq hi
theorem t_write_bad {E : jEnv} {α : Nat → Nat} {σ : tS} {Q : Option Value → tS → Prop} {v : Int} (rv : zR v) (hv : ¬ (0 ≤ v ∧ v ≤ 3)) (hq : Q (some (.int (zI (-1)))) σ) : jX2_write E α 0 [some (.ref (α 0)), some (.int (zI (v))), none, none, none] [] σ Q := by
  refine J_iload_n dX2_write_0 rfl ?_
  refine TC_X2_isText (by decide) (Nat.le_of_ble_eq_true rfl) dX2_write_1 ?_
  refine t_isText (by unfold zR at *; omega) (fun b1 => ?_) (fun b1 => ?_)
  · exfalso; omega
  · refine J_ri ?_
    refine J_if_ne_n (tgt := 9) dX2_write_4 (by decide) (by decide) ?_
    refine J_iconst (zI (-1)) dX2_write_7 rfl ?_
    exact J_iret rfl dX2_write_8 (by exact hq)
theorem t_write_no {E : jEnv} {α : Nat → Nat} {σ : tS} {Q : Option Value → tS → Prop} {many : Nat} {wide high bl : Int} {G : Nat → Nat → Int} {t : Nat} (hS : tSh many wide high bl G σ) (hO : shOK many wide high bl G) (ht : t < 4) (hm : many = 0) (hq : Q (some (.int (zI (-4)))) σ) : jX2_write E α 0 [some (.ref (α 0)), some (.int (zI (t : Nat))), none, none, none] [] σ Q := by
  have := hO.s
  refine J_iload_n dX2_write_0 rfl ?_
  refine TC_X2_isText (by decide) (Nat.le_of_ble_eq_true rfl) dX2_write_1 ?_
  refine t_isText (by unfold zR at *; omega) (fun b1 => ?_) (fun b1 => ?_)
  · refine J_ri ?_
    refine J_if_ne_y (tgt := 9) dX2_write_4 (by decide) (by decide) ?_
    refine J_aload_n dX2_write_9 rfl ?_
    refine TG_frameMany dX2_write_10 ?_
    refine J_top (zI (many)) hS.1 ?_
    refine J_if_ne_z (tgt := 19) dX2_write_13 (by decide) (by unfold zR; omega) (fun c13 => ?_) (fun c13 => ?_)
    · exfalso; omega
    · skip
      refine J_bipush (zI (-4)) dX2_write_16 rfl ?_
      exact J_iret rfl dX2_write_18 (by exact hq)
  · exfalso; omega
theorem t_write {E : jEnv} {α : Nat → Nat} {σ : tS} {Q : Option Value → tS → Prop} {many : Nat} {wide high bl : Int} {G : Nat → Nat → Int} {rs : Nat → Int} {rd : Nat → Nat → Int32} {ts : Nat → Int} {tb : Nat → Nat → Int} {t : Nat} (hS : tSh many wide high bl G σ) (hO : shOK many wide high bl G) (hDt : tDt rs rd ts tb σ) (hDo : dtOK rs ts tb) (ht : t < 4) (hm : 0 < many) (q0 : 120 < (mOut many wide high bl G).length → ∀ σ1, tEq [24] [25] σ σ1 → Q (some (.int (zI (-6)))) σ1) (q1 : (mOut many wide high bl G).length ≤ 120 → ∀ σ1, tEq [24] [6, 7, 25] σ σ1 → tDt rs rd (upk ts t (mOut many wide high bl G).length) (upk tb t (fun i => (mOut many wide high bl G).getD i 0)) σ1 → Q (some (.int (zI ((mOut many wide high bl G).length : Nat)))) σ1) : jX2_write E α 0 [some (.ref (α 0)), some (.int (zI (t : Nat))), none, none, none] [] σ Q := by
  have := hO.s
  have nl1 := mNo_l wide
  have nl2 := mNo_l high
  have nl3 := mNo_l bl
  refine J_iload_n dX2_write_0 rfl ?_
  refine TC_X2_isText (by decide) (Nat.le_of_ble_eq_true rfl) dX2_write_1 ?_
  refine t_isText (by unfold zR at *; omega) (fun b1 => ?_) (fun b1 => ?_)
  · refine J_ri ?_
    refine J_if_ne_y (tgt := 9) dX2_write_4 (by decide) (by decide) ?_
    refine J_aload_n dX2_write_9 rfl ?_
    refine TG_frameMany dX2_write_10 ?_
    refine J_top (zI (many)) hS.1 ?_
    refine J_if_ne_z (tgt := 19) dX2_write_13 (by decide) (by unfold zR; omega) (fun c13 => ?_) (fun c13 => ?_)
    · skip
      refine J_aload_n dX2_write_19 rfl ?_
      refine J_iconst (zI 0) dX2_write_20 rfl ?_
      refine TP_outMany dX2_write_21 ?_
      have EE : tEq [24] [25] σ (setI σ 24 (zI 0)) := tEq.refl.sI (by decide)
      have hS := hS.eq EE (by decide) (by decide) (by decide) (by decide) (by decide)
      have oO : tOut [] (setI σ 24 (zI 0)) := ⟨rfl, fun i h => absurd h (by simp)⟩
      refine J_aload_n dX2_write_24 rfl ?_
      refine J_ldc (zI 315851) q1814 dX2_write_25 ?_
      refine TC_X2_writesWord (by decide) (Nat.le_of_ble_eq_true rfl) dX2_write_27 ?_
      refine t_writesWord_page oO (by first | (simp only [List.length_append, List.length_cons, List.length_nil]; omega) | decide) (fun σ1 e1 oO => ?_)
      have EE := EE.trans (e1.mono (by decide) (by decide))
      have hS := hS.eq e1 (by decide) (by decide) (by decide) (by decide) (by decide)
      refine J_rv ?_
      refine J_aload_n dX2_write_30 rfl ?_
      refine J_aload_n dX2_write_31 rfl ?_
      refine TG_wide dX2_write_32 ?_
      refine J_top (zI (wide)) hS.2.1 ?_
      refine TC_X2_writesNumber (by decide) (Nat.le_of_ble_eq_true rfl) dX2_write_35 ?_
      refine t_writesNumber oO (by omega) (by first | (simp only [List.length_append, List.length_cons, List.length_nil]; omega) | decide) (fun σ1 e1 oO => ?_)
      have EE := EE.trans (e1.mono (by decide) (by decide))
      have hS := hS.eq e1 (by decide) (by decide) (by decide) (by decide) (by decide)
      refine J_rv ?_
      refine J_aload_n dX2_write_38 rfl ?_
      refine J_aload_n dX2_write_39 rfl ?_
      refine TG_high dX2_write_40 ?_
      refine J_top (zI (high)) hS.2.2.1 ?_
      refine TC_X2_writesNumber (by decide) (Nat.le_of_ble_eq_true rfl) dX2_write_43 ?_
      refine t_writesNumber oO (by omega) (by first | (simp only [List.length_append, List.length_cons, List.length_nil]; omega) | decide) (fun σ1 e1 oO => ?_)
      have EE := EE.trans (e1.mono (by decide) (by decide))
      have hS := hS.eq e1 (by decide) (by decide) (by decide) (by decide) (by decide)
      refine J_rv ?_
      refine J_aload_n dX2_write_46 rfl ?_
      refine J_bipush (zI 59) dX2_write_47 rfl ?_
      refine TC_X2_writes (by decide) (Nat.le_of_ble_eq_true rfl) dX2_write_49 ?_
      refine t_writes oO (by omega) (by first | (simp only [List.length_append, List.length_cons, List.length_nil]; omega) | decide) (fun σ1 e1 oO => ?_)
      have EE := EE.trans (e1.mono (by decide) (by decide))
      have hS := hS.eq e1 (by decide) (by decide) (by decide) (by decide) (by decide)
      refine J_rv ?_
      refine J_aload_n dX2_write_52 rfl ?_
      refine TG_bleed dX2_write_53 ?_
      refine J_top (zI (bl)) hS.2.2.2.1 ?_
      refine J_if_le_z (tgt := 79) dX2_write_56 (by decide) (by unfold zR; omega) (fun c56 => ?_) (fun c56 => ?_)
      · skip
        refine J_iconst (zI 0) dX2_write_79 rfl ?_
        refine J_istore_n dX2_write_80 rfl (by decide) _ rfl ?_
        refine tl_write81 (o := [] ++ [112, 97, 103, 101] ++ mNo wide ++ mNo high ++ [59]) hS hO (by first | (simp only [List.length_append, List.length_cons, List.length_nil]; omega) | decide) (fun σ5 e5 o5 => ?_) _ 0 _ (by omega) tEq.refl (by rw [show mOutL G 0 = [] from rfl, List.append_nil]; exact oO) (Nat.lt_succ_self _)
        have oE : tOut (mOut many wide high bl G) σ5 := by
                unfold mOut
                rw [if_neg (by omega)]
                simpa [List.append_assoc] using o5
        have EF := EE.trans e5
        have hlm := mOutL_l G many
        have hml : (mOut many wide high bl G).length ≤ 1000 := by
                unfold mOut
                simp only [List.length_append]
                split <;> simp <;> omega
        refine J_aload_n dX2_write_174 rfl ?_
        refine TG_outMany dX2_write_175 ?_
        refine J_top (zI ((mOut many wide high bl G).length)) oE.1 ?_
        refine J_bipush (zI 120) dX2_write_178 rfl ?_
        refine J_icmp_le_z (tgt := 186) dX2_write_180 (by decide) (by unfold zR; omega) (by unfold zR; omega) (fun c180 => ?_) (fun c180 => ?_)
        · skip
          refine J_aload_n dX2_write_186 rfl ?_
          refine TG_textSizes dX2_write_187 ?_
          refine J_iload_n dX2_write_190 rfl ?_
          refine J_aload_n dX2_write_191 rfl ?_
          refine TG_outMany dX2_write_192 ?_
          refine J_top (zI ((mOut many wide high bl G).length)) oE.1 ?_
          refine TJ_iast 6 (t) ⟨rfl, rfl, by decide⟩ (by omega) (show t < 4 by omega) dX2_write_195 ?_
          refine J_iconst (zI 0) dX2_write_196 rfl ?_
          refine J_istore_n dX2_write_197 rfl (by decide) _ rfl ?_
          exact tl_write198 ht (by omega) (o := mOut many wide high bl G) (by exact oE) (fun σ6 e6 c6 => q1 (by omega) σ6 (((EF.mono (by decide) (by decide)).sA (by decide)).trans (e6.mono (by decide) (by decide))) (write_ok (hDt.eq EF (by decide) (by decide) (by decide) (by decide)) ht hDo.2.1 (by omega) e6 c6)) _ 0 _ (by omega) tEq.refl cpy_0 (Nat.lt_succ_self _)
        · skip
          refine J_bipush (zI (-6)) dX2_write_183 rfl ?_
          exact J_iret rfl dX2_write_185 (by exact q0 (by omega) σ5 EF)
      · skip
        refine J_aload_n dX2_write_59 rfl ?_
        refine J_ldc (zI 1302862) q1863 dX2_write_60 ?_
        refine TC_X2_writesWord (by decide) (Nat.le_of_ble_eq_true rfl) dX2_write_62 ?_
        refine t_writesWord_bleed oO (by first | (simp only [List.length_append, List.length_cons, List.length_nil]; omega) | decide) (fun σ1 e1 oO => ?_)
        have EE := EE.trans (e1.mono (by decide) (by decide))
        have hS := hS.eq e1 (by decide) (by decide) (by decide) (by decide) (by decide)
        refine J_rv ?_
        refine J_aload_n dX2_write_65 rfl ?_
        refine J_aload_n dX2_write_66 rfl ?_
        refine TG_bleed dX2_write_67 ?_
        refine J_top (zI (bl)) hS.2.2.2.1 ?_
        refine TC_X2_writesNumber (by decide) (Nat.le_of_ble_eq_true rfl) dX2_write_70 ?_
        refine t_writesNumber oO (by omega) (by first | (simp only [List.length_append, List.length_cons, List.length_nil]; omega) | decide) (fun σ1 e1 oO => ?_)
        have EE := EE.trans (e1.mono (by decide) (by decide))
        have hS := hS.eq e1 (by decide) (by decide) (by decide) (by decide) (by decide)
        refine J_rv ?_
        refine J_aload_n dX2_write_73 rfl ?_
        refine J_bipush (zI 59) dX2_write_74 rfl ?_
        refine TC_X2_writes (by decide) (Nat.le_of_ble_eq_true rfl) dX2_write_76 ?_
        refine t_writes oO (by omega) (by first | (simp only [List.length_append, List.length_cons, List.length_nil]; omega) | decide) (fun σ1 e1 oO => ?_)
        have EE := EE.trans (e1.mono (by decide) (by decide))
        have hS := hS.eq e1 (by decide) (by decide) (by decide) (by decide) (by decide)
        refine J_rv ?_
        refine J_iconst (zI 0) dX2_write_79 rfl ?_
        refine J_istore_n dX2_write_80 rfl (by decide) _ rfl ?_
        refine tl_write81 (o := [] ++ [112, 97, 103, 101] ++ mNo wide ++ mNo high ++ [59] ++ [98, 108, 101, 101, 100] ++ mNo bl ++ [59]) hS hO (by first | (simp only [List.length_append, List.length_cons, List.length_nil]; omega) | decide) (fun σ5 e5 o5 => ?_) _ 0 _ (by omega) tEq.refl (by rw [show mOutL G 0 = [] from rfl, List.append_nil]; exact oO) (Nat.lt_succ_self _)
        have oE : tOut (mOut many wide high bl G) σ5 := by
                unfold mOut
                rw [if_pos (by omega)]
                simpa [List.append_assoc] using o5
        have EF := EE.trans e5
        have hlm := mOutL_l G many
        have hml : (mOut many wide high bl G).length ≤ 1000 := by
                unfold mOut
                simp only [List.length_append]
                split <;> simp <;> omega
        refine J_aload_n dX2_write_174 rfl ?_
        refine TG_outMany dX2_write_175 ?_
        refine J_top (zI ((mOut many wide high bl G).length)) oE.1 ?_
        refine J_bipush (zI 120) dX2_write_178 rfl ?_
        refine J_icmp_le_z (tgt := 186) dX2_write_180 (by decide) (by unfold zR; omega) (by unfold zR; omega) (fun c180 => ?_) (fun c180 => ?_)
        · skip
          refine J_aload_n dX2_write_186 rfl ?_
          refine TG_textSizes dX2_write_187 ?_
          refine J_iload_n dX2_write_190 rfl ?_
          refine J_aload_n dX2_write_191 rfl ?_
          refine TG_outMany dX2_write_192 ?_
          refine J_top (zI ((mOut many wide high bl G).length)) oE.1 ?_
          refine TJ_iast 6 (t) ⟨rfl, rfl, by decide⟩ (by omega) (show t < 4 by omega) dX2_write_195 ?_
          refine J_iconst (zI 0) dX2_write_196 rfl ?_
          refine J_istore_n dX2_write_197 rfl (by decide) _ rfl ?_
          exact tl_write198 ht (by omega) (o := mOut many wide high bl G) (by exact oE) (fun σ6 e6 c6 => q1 (by omega) σ6 (((EF.mono (by decide) (by decide)).sA (by decide)).trans (e6.mono (by decide) (by decide))) (write_ok (hDt.eq EF (by decide) (by decide) (by decide) (by decide)) ht hDo.2.1 (by omega) e6 c6)) _ 0 _ (by omega) tEq.refl cpy_0 (Nat.lt_succ_self _)
        · skip
          refine J_bipush (zI (-6)) dX2_write_183 rfl ?_
          exact J_iret rfl dX2_write_185 (by exact q0 (by omega) σ5 EF)
    · exfalso; omega
  · exfalso; omega
