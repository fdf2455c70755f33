set_option maxRecDepth 100000
/-! the component: a frame is read -/
section CT
variable {E : jEnv} {α : Nat → Nat} {o : Option MethodName} {cc : ByteArray} {mL : Nat} {ret : Option FieldType} {R : Room} {k n pc : Nat} {L : List (Option Value)} {st : List Value} {σ : cS} {Q : Option Value → cS → Prop}
theorem CT_iald {z : Int} {a N : Nat} {f : Nat → Int32} (m : Nat) (hd : σ.d 2 = some (a, .inl (E.2.2 0, N, .inl f))) (h : z = m) (hm : m < N) (hN : N ≤ 1000000) (d : decode cc pc = .ok (.iaload, 1)) (kk : J E (wC E α) (cX E, o) cc mL ret RX0 R k n (pc + 1) L (.int (f m) :: st) σ Q) : J E (wC E α) (cX E, o) cc mL ret RX0 R k n (pc) L (.int (zI z) :: .ref a :: st) σ Q := by
  obtain ⟨h1, h2⟩ := zI_in h hm hN
  exact J_iald (N := N) (f := f) 202 ((wC_d 2).trans hd) h1 d (by rw [h2]; exact kk)
theorem CT_iast {z : Int} {v : Int32} {a N : Nat} {f : Nat → Int32} (m : Nat) (hd : σ.d 2 = some (a, .inl (E.2.2 0, N, .inl f))) (h : z = m) (hm : m < N) (hN : N ≤ 1000000) (d : decode cc pc = .ok (.iastore, 1)) (kk : J E (wC E α) (cX E, o) cc mL ret RX0 R k n (pc + 1) L (st) (cD σ 2 (some (a, .inl (E.2.2 0, N, .inl (upd f m v))))) Q) : J E (wC E α) (cX E, o) cc mL ret RX0 R k n (pc) L (.int v :: .int (zI z) :: .ref a :: st) σ Q := by
  obtain ⟨h1, h2⟩ := zI_in h hm hN
  exact J_iast (N := N) (f := f) 202 ((wC_d 2).trans hd) h1 (by rw [wC_D 2, h2]) d kk
end CT
theorem cl_readsFrame7 {E : jEnv} {α : Nat → Nat} {σ : cS} {Q : Option Value → cS → Prop} {t n0 m6 a0 : Nat} {b : Nat → Int} {kd : Int}  (hX : cRe t n0 b σ) (ht : t < 4) (hn0 : n0 ≤ 120) (hby : ∀ i, i < n0 → -128 ≤ b i ∧ b i ≤ 127) (q0 : ∀ p, mFrS b n0 6 1 a0 (fun _ => kd) = .error p → ∀ σ1, cQ2 [12, 13, 14] [] σ σ1 → σ1.i 13 = zI (p : Nat) → Q (some (.int (zI 0))) σ1) (hx : ∀ R e f, mFrS b n0 6 1 a0 (fun _ => kd) = .ok (R, e) → ∀ σ1, cQ2 [12, 13, 14] [] σ σ1 → σ1.d 2 = some (m6, .inl (E.2.2 0, 6, .inl f)) → (∀ j, j < 6 → f j = zI (R (j + 1))) → σ1.i 12 = zI (e : Nat) → e ≤ n0 → J E (wC E α) (cX E, none) cX0_readsFrame 4 (some .boolean) RX0 (jR 6 3 20) (0 + 1) (0 + 6) 81 [some (.ref (α 0)), some (.int (zI (kd))), some (.ref m6), none] [] σ1 Q)  : ∀ (n : Nat) (i a : Nat) (R : Nat → Int) (f : Nat → Int32) (σ1 : cS), i ≤ 6 → cQ2 [12, 13, 14] [] σ σ1 → σ1.d 2 = some (m6, .inl (E.2.2 0, 6, .inl f)) → (∀ j, j < i → f j = zI (R (j + 1))) → σ1.i 12 = zI (a : Nat) → a ≤ n0 → mFrS b n0 6 1 a0 (fun _ => kd) = mFrS b n0 (6 - i) (i + 1) a R → (∀ j, 1 ≤ j → j ≤ i → 0 ≤ R j ∧ R j ≤ 16) → 6 - i < n → J E (wC E α) (cX E, none) cX0_readsFrame 4 (some .boolean) RX0 (jR 6 3 20) (0 + 1) (0 + 6) 7 [some (.ref (α 0)), some (.int (zI (kd))), some (.ref m6), some (.int (zI (i : Nat)))] [] σ1 Q := by
  intro n
  induction n with
  | zero => intro i a R f σ1 h1 h2 h3 h4 h5 h6 h7 h8 hn; exact absurd hn (Nat.not_lt_zero _)
  | succ n ih =>
    intro i a R f σ1 h1 h2 h3 h4 h5 h6 h7 h8 hn
    have hX1 : cRe t n0 b σ1 := hX.up (show σ1.rd = σ.rd from h2.1.2.2.2.2.2.2.2.1) (show σ1.tx = σ.tx from h2.1.2.2.2.2.1)
    refine J_iload_n dX0_readsFrame_7 rfl ?_
    refine J_bipush (zI 6) dX0_readsFrame_8 rfl ?_
    refine J_icmp_ge_z (tgt := 81) dX0_readsFrame_10 (by decide) (by unfold zR; omega) (by unfold zR; omega) (fun c10 => ?_) (fun c10 => ?_)
    · skip
      obtain rfl : i = 6 := by omega
      refine J_fg (L' := [some (.ref (α 0)), some (.int (zI (kd))), some (.ref m6), none]) (by repeat' constructor) ?_
      exact hx R a f h7 σ1 h2 h3 h4 h5 h6
    · skip
      have hi : i < 6 := by omega
      refine J_aload_n dX0_readsFrame_13 rfl ?_
      refine J_iload_n dX0_readsFrame_14 rfl ?_
      refine J_iconst (zI 2) dX0_readsFrame_15 rfl ?_
      refine J_icmp_ge_z (tgt := 23) dX0_readsFrame_16 (by decide) (by unfold zR; omega) (by unfold zR; omega) (fun c16 => ?_) (fun c16 => ?_)
      · skip
        refine J_iconst (zI 0) dX0_readsFrame_23 rfl ?_
        refine J_iload_n dX0_readsFrame_24 rfl ?_
        refine J_iconst (zI 2) dX0_readsFrame_25 rfl ?_
        refine J_icmp_ge_z (tgt := 34) dX0_readsFrame_26 (by decide) (by unfold zR; omega) (by unfold zR; omega) (fun c26 => ?_) (fun c26 => ?_)
        · skip
          refine J_bipush (zI 9) dX0_readsFrame_34 rfl ?_
          refine CC_X0_readsNumber (by decide) (by decide) (Nat.le_of_ble_eq_true rfl) dX0_readsFrame_36 ?_
          refine c_readsNumber (lo := 0) (hi := 9) hX1 ht hn0 hby h5 h6 (by omega)  (fun v e m1 σ2 q2 A2 N2 K2 => ?_) (fun p m1 σ2 q2 T2 => ?_)
          · refine J_ri ?_
            have b1 := mNum_b h6 m1
            have hm1 : mNum b n0 (if i + 1 < 3 then 1 else 0) (if i + 1 < 3 then 16 else 9) a = .ok (v, e) := by rw [if_neg (by omega), if_neg (by omega)]; exact m1
            have D2 : σ2.d 2 = some (m6, .inl (E.2.2 0, 6, .inl f)) := by rw [q2.1.2.2.2.2.2.2.2.2]; exact h3
            have c2 := h2.step q2
            refine J_if_ne_y (tgt := 44) dX0_readsFrame_39 (by decide) (by decide) ?_
            refine J_aload_n dX0_readsFrame_44 rfl ?_
            refine J_iload_n dX0_readsFrame_45 rfl ?_
            refine J_aload_n dX0_readsFrame_46 rfl ?_
            refine CG_readNumber dX0_readsFrame_47 ?_
            refine J_top (zI (v)) N2 ?_
            refine CT_iast i D2 (by omega) (by omega) (by decide) dX0_readsFrame_50 ?_
            refine J_iload_n dX0_readsFrame_51 rfl ?_
            refine J_iconst (zI 3) dX0_readsFrame_52 rfl ?_
            refine J_icmp_le_z (tgt := 75) dX0_readsFrame_53 (by decide) (by unfold zR; omega) (by unfold zR; omega) (fun c53 => ?_) (fun c53 => ?_)
            · skip
              have hcnd : ¬ (4 < i + 1 ∧ R (i + 1 - 4) ≤ R (i + 1 - 2) + v) := by omega
              refine J_iinc_z ((((i + 1)) : Nat) : Int) (by omega) dX0_readsFrame_75 rfl rfl (by decide) _ rfl ?_
              refine J_goto (tgt := 7) dX0_readsFrame_78 (by decide) ?_
              refine ih (i + 1) e (fun j => if j = i + 1 then v else R j) (upd f i (zI v)) _ (by omega) c2.put rfl (fun j hj => ?_) A2 b1.2.2.2 ?_ (fun j hj1 hj2 => ?_) (by omega)
              · show upd f i (zI v) j = zI (if j + 1 = i + 1 then v else R (j + 1))
                by_cases z : j = i
                · rw [z, upd_s, if_pos rfl]
                · rw [upd_n z, if_neg (by omega)]
                  exact h4 j (by omega)
              · rw [h7, show 6 - i = (6 - (i + 1)) + 1 by omega]
                exact mFrS_2 hm1 hcnd
              · show 0 ≤ (if j = i + 1 then v else R j) ∧ (if j = i + 1 then v else R j) ≤ 16
                by_cases z : j = i + 1
                · rw [if_pos z]; omega
                · rw [if_neg z]; exact h8 j hj1 (by omega)
            · skip
              have hr2 := h8 (i - 1) (by omega) (by omega)
              have hr4 := h8 (i - 3) (by omega) (by omega)
              refine J_aload_n dX0_readsFrame_56 rfl ?_
              refine J_iload_n dX0_readsFrame_57 rfl ?_
              refine CT_iald (i) rfl (by omega) (by omega) (by decide) dX0_readsFrame_58 ?_
              refine J_top (zI (v)) (upd_s _ _ _) ?_
              refine J_aload_n dX0_readsFrame_59 rfl ?_
              refine J_iload_n dX0_readsFrame_60 rfl ?_
              refine J_iconst (zI 2) dX0_readsFrame_61 rfl ?_
              refine J_isub_z dX0_readsFrame_62 ?_
              refine CT_iald (i - 2) rfl (by omega) (by omega) (by decide) dX0_readsFrame_63 ?_
              refine J_top (zI (R (i - 1))) ((upd_n (by omega)).trans ((h4 (i - 2) (by omega)).trans (congrArg (fun x => zI (R x)) (by omega)))) ?_
              refine J_iadd_z dX0_readsFrame_64 ?_
              refine J_aload_n dX0_readsFrame_65 rfl ?_
              refine J_iload_n dX0_readsFrame_66 rfl ?_
              refine J_iconst (zI 4) dX0_readsFrame_67 rfl ?_
              refine J_isub_z dX0_readsFrame_68 ?_
              refine CT_iald (i - 4) rfl (by omega) (by omega) (by decide) dX0_readsFrame_69 ?_
              refine J_top (zI (R (i - 3))) ((upd_n (by omega)).trans ((h4 (i - 4) (by omega)).trans (congrArg (fun x => zI (R x)) (by omega)))) ?_
              refine J_icmp_lt_z (tgt := 75) dX0_readsFrame_70 (by decide) (by unfold zR; omega) (by unfold zR; omega) (fun c70 => ?_) (fun c70 => ?_)
              · skip
                have hcnd : ¬ (4 < i + 1 ∧ R (i + 1 - 4) ≤ R (i + 1 - 2) + v) := by
                  rw [show i + 1 - 4 = i - 3 by omega, show i + 1 - 2 = i - 1 by omega]
                  omega
                refine J_iinc_z ((((i + 1)) : Nat) : Int) (by omega) dX0_readsFrame_75 rfl rfl (by decide) _ rfl ?_
                refine J_goto (tgt := 7) dX0_readsFrame_78 (by decide) ?_
                refine ih (i + 1) e (fun j => if j = i + 1 then v else R j) (upd f i (zI v)) _ (by omega) c2.put rfl (fun j hj => ?_) A2 b1.2.2.2 ?_ (fun j hj1 hj2 => ?_) (by omega)
                · show upd f i (zI v) j = zI (if j + 1 = i + 1 then v else R (j + 1))
                  by_cases z : j = i
                  · rw [z, upd_s, if_pos rfl]
                  · rw [upd_n z, if_neg (by omega)]
                    exact h4 j (by omega)
                · rw [h7, show 6 - i = (6 - (i + 1)) + 1 by omega]
                  exact mFrS_2 hm1 hcnd
                · show 0 ≤ (if j = i + 1 then v else R j) ∧ (if j = i + 1 then v else R j) ≤ 16
                  by_cases z : j = i + 1
                  · rw [if_pos z]; omega
                  · rw [if_neg z]; exact h8 j hj1 (by omega)
              · skip
                refine J_iconst (zI 0) dX0_readsFrame_73 rfl ?_
                refine J_zret rfl dX0_readsFrame_74 rfl ?_
                refine q0 (sk b n0 a) ?_ _ c2.put K2
                rw [h7, show 6 - i = (6 - (i + 1)) + 1 by omega]
                exact mFrS_1 hm1 (by rw [show i + 1 - 4 = i - 3 by omega, show i + 1 - 2 = i - 1 by omega]; omega)
          · refine J_ri ?_
            have hm1 : mNum b n0 (if i + 1 < 3 then 1 else 0) (if i + 1 < 3 then 16 else 9) a = .error p := by rw [if_neg (by omega), if_neg (by omega)]; exact m1
            refine J_if_ne_n (tgt := 44) dX0_readsFrame_39 (by decide) (by decide) ?_
            refine J_iconst (zI 0) dX0_readsFrame_42 rfl ?_
            refine J_zret rfl dX0_readsFrame_43 rfl ?_
            refine q0 p ?_ σ2 (h2.step q2) T2
            rw [h7, show 6 - i = (6 - (i + 1)) + 1 by omega]
            exact mFrS_0 hm1
        · exfalso; omega
      · skip
        refine J_iconst (zI 1) dX0_readsFrame_19 rfl ?_
        refine J_goto (tgt := 24) dX0_readsFrame_20 (by decide) ?_
        refine J_iload_n dX0_readsFrame_24 rfl ?_
        refine J_iconst (zI 2) dX0_readsFrame_25 rfl ?_
        refine J_icmp_ge_z (tgt := 34) dX0_readsFrame_26 (by decide) (by unfold zR; omega) (by unfold zR; omega) (fun c26 => ?_) (fun c26 => ?_)
        · exfalso; omega
        · skip
          refine J_bipush (zI 16) dX0_readsFrame_29 rfl ?_
          refine J_goto (tgt := 36) dX0_readsFrame_31 (by decide) ?_
          refine CC_X0_readsNumber (by decide) (by decide) (Nat.le_of_ble_eq_true rfl) dX0_readsFrame_36 ?_
          refine c_readsNumber (lo := 1) (hi := 16) hX1 ht hn0 hby h5 h6 (by omega)  (fun v e m1 σ2 q2 A2 N2 K2 => ?_) (fun p m1 σ2 q2 T2 => ?_)
          · refine J_ri ?_
            have b1 := mNum_b h6 m1
            have hm1 : mNum b n0 (if i + 1 < 3 then 1 else 0) (if i + 1 < 3 then 16 else 9) a = .ok (v, e) := by rw [if_pos (by omega), if_pos (by omega)]; exact m1
            have D2 : σ2.d 2 = some (m6, .inl (E.2.2 0, 6, .inl f)) := by rw [q2.1.2.2.2.2.2.2.2.2]; exact h3
            have c2 := h2.step q2
            refine J_if_ne_y (tgt := 44) dX0_readsFrame_39 (by decide) (by decide) ?_
            refine J_aload_n dX0_readsFrame_44 rfl ?_
            refine J_iload_n dX0_readsFrame_45 rfl ?_
            refine J_aload_n dX0_readsFrame_46 rfl ?_
            refine CG_readNumber dX0_readsFrame_47 ?_
            refine J_top (zI (v)) N2 ?_
            refine CT_iast i D2 (by omega) (by omega) (by decide) dX0_readsFrame_50 ?_
            refine J_iload_n dX0_readsFrame_51 rfl ?_
            refine J_iconst (zI 3) dX0_readsFrame_52 rfl ?_
            refine J_icmp_le_z (tgt := 75) dX0_readsFrame_53 (by decide) (by unfold zR; omega) (by unfold zR; omega) (fun c53 => ?_) (fun c53 => ?_)
            · skip
              have hcnd : ¬ (4 < i + 1 ∧ R (i + 1 - 4) ≤ R (i + 1 - 2) + v) := by omega
              refine J_iinc_z ((((i + 1)) : Nat) : Int) (by omega) dX0_readsFrame_75 rfl rfl (by decide) _ rfl ?_
              refine J_goto (tgt := 7) dX0_readsFrame_78 (by decide) ?_
              refine ih (i + 1) e (fun j => if j = i + 1 then v else R j) (upd f i (zI v)) _ (by omega) c2.put rfl (fun j hj => ?_) A2 b1.2.2.2 ?_ (fun j hj1 hj2 => ?_) (by omega)
              · show upd f i (zI v) j = zI (if j + 1 = i + 1 then v else R (j + 1))
                by_cases z : j = i
                · rw [z, upd_s, if_pos rfl]
                · rw [upd_n z, if_neg (by omega)]
                  exact h4 j (by omega)
              · rw [h7, show 6 - i = (6 - (i + 1)) + 1 by omega]
                exact mFrS_2 hm1 hcnd
              · show 0 ≤ (if j = i + 1 then v else R j) ∧ (if j = i + 1 then v else R j) ≤ 16
                by_cases z : j = i + 1
                · rw [if_pos z]; omega
                · rw [if_neg z]; exact h8 j hj1 (by omega)
            · skip
              have hr2 := h8 (i - 1) (by omega) (by omega)
              have hr4 := h8 (i - 3) (by omega) (by omega)
              refine J_aload_n dX0_readsFrame_56 rfl ?_
              refine J_iload_n dX0_readsFrame_57 rfl ?_
              refine CT_iald (i) rfl (by omega) (by omega) (by decide) dX0_readsFrame_58 ?_
              refine J_top (zI (v)) (upd_s _ _ _) ?_
              refine J_aload_n dX0_readsFrame_59 rfl ?_
              refine J_iload_n dX0_readsFrame_60 rfl ?_
              refine J_iconst (zI 2) dX0_readsFrame_61 rfl ?_
              refine J_isub_z dX0_readsFrame_62 ?_
              refine CT_iald (i - 2) rfl (by omega) (by omega) (by decide) dX0_readsFrame_63 ?_
              refine J_top (zI (R (i - 1))) ((upd_n (by omega)).trans ((h4 (i - 2) (by omega)).trans (congrArg (fun x => zI (R x)) (by omega)))) ?_
              refine J_iadd_z dX0_readsFrame_64 ?_
              refine J_aload_n dX0_readsFrame_65 rfl ?_
              refine J_iload_n dX0_readsFrame_66 rfl ?_
              refine J_iconst (zI 4) dX0_readsFrame_67 rfl ?_
              refine J_isub_z dX0_readsFrame_68 ?_
              refine CT_iald (i - 4) rfl (by omega) (by omega) (by decide) dX0_readsFrame_69 ?_
              refine J_top (zI (R (i - 3))) ((upd_n (by omega)).trans ((h4 (i - 4) (by omega)).trans (congrArg (fun x => zI (R x)) (by omega)))) ?_
              refine J_icmp_lt_z (tgt := 75) dX0_readsFrame_70 (by decide) (by unfold zR; omega) (by unfold zR; omega) (fun c70 => ?_) (fun c70 => ?_)
              · skip
                have hcnd : ¬ (4 < i + 1 ∧ R (i + 1 - 4) ≤ R (i + 1 - 2) + v) := by
                  rw [show i + 1 - 4 = i - 3 by omega, show i + 1 - 2 = i - 1 by omega]
                  omega
                refine J_iinc_z ((((i + 1)) : Nat) : Int) (by omega) dX0_readsFrame_75 rfl rfl (by decide) _ rfl ?_
                refine J_goto (tgt := 7) dX0_readsFrame_78 (by decide) ?_
                refine ih (i + 1) e (fun j => if j = i + 1 then v else R j) (upd f i (zI v)) _ (by omega) c2.put rfl (fun j hj => ?_) A2 b1.2.2.2 ?_ (fun j hj1 hj2 => ?_) (by omega)
                · show upd f i (zI v) j = zI (if j + 1 = i + 1 then v else R (j + 1))
                  by_cases z : j = i
                  · rw [z, upd_s, if_pos rfl]
                  · rw [upd_n z, if_neg (by omega)]
                    exact h4 j (by omega)
                · rw [h7, show 6 - i = (6 - (i + 1)) + 1 by omega]
                  exact mFrS_2 hm1 hcnd
                · show 0 ≤ (if j = i + 1 then v else R j) ∧ (if j = i + 1 then v else R j) ≤ 16
                  by_cases z : j = i + 1
                  · rw [if_pos z]; omega
                  · rw [if_neg z]; exact h8 j hj1 (by omega)
              · skip
                refine J_iconst (zI 0) dX0_readsFrame_73 rfl ?_
                refine J_zret rfl dX0_readsFrame_74 rfl ?_
                refine q0 (sk b n0 a) ?_ _ c2.put K2
                rw [h7, show 6 - i = (6 - (i + 1)) + 1 by omega]
                exact mFrS_1 hm1 (by rw [show i + 1 - 4 = i - 3 by omega, show i + 1 - 2 = i - 1 by omega]; omega)
          · refine J_ri ?_
            have hm1 : mNum b n0 (if i + 1 < 3 then 1 else 0) (if i + 1 < 3 then 16 else 9) a = .error p := by rw [if_pos (by omega), if_pos (by omega)]; exact m1
            refine J_if_ne_n (tgt := 44) dX0_readsFrame_39 (by decide) (by decide) ?_
            refine J_iconst (zI 0) dX0_readsFrame_42 rfl ?_
            refine J_zret rfl dX0_readsFrame_43 rfl ?_
            refine q0 p ?_ σ2 (h2.step q2) T2
            rw [h7, show 6 - i = (6 - (i + 1)) + 1 by omega]
            exact mFrS_0 hm1
