set_option maxRecDepth 100000
/-! the twin: set, lift, all, rule -/
theorem t_set_bad {E : jEnv} {α : Nat → Nat} {σ : tS} {Q : Option Value → tS → Prop} {many : Nat} {wide high bl : Int} {G : Nat → Nat → Int} {v : Int} (hS : tSh many wide high bl G σ) (hO : shOK many wide high bl G) (rv : zR v) (hv : ¬ (0 ≤ v ∧ v < many)) (hq : Q (some (.int (zI (-1)))) σ) : jX2_set E α 0 [some (.ref (α 0)), some (.int (zI (v))), none] [] σ Q := by
  refine J_aload_n dX2_set_0 rfl ?_
  refine J_iload_n dX2_set_1 rfl ?_
  refine TC_X2_isFrame (by decide) (Nat.le_of_ble_eq_true rfl) dX2_set_2 ?_
  refine t_isFrame hS hO (by unfold zR at *; omega) (fun b2 => ?_) (fun b2 => ?_)
  · exfalso; omega
  · refine J_ri ?_
    refine J_if_ne_n (tgt := 10) dX2_set_5 (by decide) (by decide) ?_
    refine J_iconst (zI (-1)) dX2_set_8 rfl ?_
    exact J_iret rfl dX2_set_9 (by exact hq)
theorem t_lift_bad {E : jEnv} {α : Nat → Nat} {σ : tS} {Q : Option Value → tS → Prop} {many : Nat} {wide high bl : Int} {G : Nat → Nat → Int} {v : Int} (hS : tSh many wide high bl G σ) (hO : shOK many wide high bl G) (rv : zR v) (hv : ¬ (0 ≤ v ∧ v < many)) (hq : Q (some (.int (zI (-1)))) σ) : jX2_lift E α 0 [some (.ref (α 0)), some (.int (zI (v)))] [] σ Q := by
  refine J_aload_n dX2_lift_0 rfl ?_
  refine J_iload_n dX2_lift_1 rfl ?_
  refine TC_X2_isFrame (by decide) (Nat.le_of_ble_eq_true rfl) dX2_lift_2 ?_
  refine t_isFrame hS hO (by unfold zR at *; omega) (fun b2 => ?_) (fun b2 => ?_)
  · exfalso; omega
  · refine J_ri ?_
    refine J_if_ne_n (tgt := 10) dX2_lift_5 (by decide) (by decide) ?_
    refine J_iconst (zI (-1)) dX2_lift_8 rfl ?_
    exact J_iret rfl dX2_lift_9 (by exact hq)
theorem t_set_st {E : jEnv} {α : Nat → Nat} {σ : tS} {Q : Option Value → tS → Prop} {many : Nat} {wide high bl : Int} {G : Nat → Nat → Int} {P : Nat → Nat → Int} {rule : Int} {f : Nat} (hS : tSh many wide high bl G σ) (hO : shOK many wide high bl G) (hP : tPl P rule σ) (hN : plOK many P rule) (hf : f < many) (h0 : 0 ≤ P f 0) (hq : Q (some (.int (zI (-4)))) σ) : jX2_set E α 0 [some (.ref (α 0)), some (.int (zI (f : Nat))), none] [] σ Q := by
  have := hO.s
  refine J_aload_n dX2_set_0 rfl ?_
  refine J_iload_n dX2_set_1 rfl ?_
  refine TC_X2_isFrame (by decide) (Nat.le_of_ble_eq_true rfl) dX2_set_2 ?_
  refine t_isFrame hS hO (by unfold zR at *; omega) (fun b2 => ?_) (fun b2 => ?_)
  · refine J_ri ?_
    refine J_if_ne_y (tgt := 10) dX2_set_5 (by decide) (by decide) ?_
    refine J_aload_n dX2_set_10 rfl ?_
    refine J_iload_n dX2_set_11 rfl ?_
    refine TC_X2_isSet (by decide) (Nat.le_of_ble_eq_true rfl) dX2_set_12 ?_
    refine t_isSet hS hO hP hN (by omega) (fun b12 => ?_) (fun b12 => ?_)
    · refine J_ri ?_
      refine J_if_eq_n (tgt := 21) dX2_set_15 (by decide) (by decide) ?_
      refine J_bipush (zI (-4)) dX2_set_18 rfl ?_
      exact J_iret rfl dX2_set_20 (by exact hq)
    · exfalso; omega
  · exfalso; omega
theorem t_setF {E : jEnv} {α : Nat → Nat} {σ : tS} {Q : Option Value → tS → Prop} {many : Nat} {wide high bl : Int} {G : Nat → Nat → Int} {P : Nat → Nat → Int} {rule : Int} {dm : Nat} {H : Nat → mPl} {f : Nat} (hS : tSh many wide high bl G σ) (hO : shOK many wide high bl G) (hP : tPl P rule σ) (hN : plOK many P rule) (hV : plV many wide high bl G P) (hL : tLg dm H σ) (hd : dm ≤ 40) (hf : f < many) (h0 : P f 0 = -1) (q0 : mNoPage many wide high bl G P rule f → ∀ σ1, tEq [27, 32, 33, 34, 35] [26, 28, 29, 30, 31] σ σ1 → Q (some (.int (zI (-6)))) σ1) (q1 : ∀ p, mPage many wide high bl G P rule f p → dm = 40 → ∀ σ1, tEq [27, 32, 33, 34, 35] [26, 28, 29, 30, 31] σ σ1 → Q (some (.int (zI (-2)))) σ1) (q2 : ∀ p, mPage many wide high bl G P rule f p → dm < 40 → ∀ σ1, tEq [27, 32, 33, 34, 35, 36] [23, 26, 28, 29, 30, 31, 37] σ σ1 → tPl (mPut many wide high bl G rule P f) rule σ1 → tLg (dm + 1) (updH H dm (P, rule)) σ1 → plR many wide high bl G (mPut many wide high bl G rule P f, rule) → Q (some (.int (zI p))) σ1) : jX2_set E α 0 [some (.ref (α 0)), some (.int (zI (f : Nat))), none] [] σ Q := by
  have := hO.s
  refine J_aload_n dX2_set_0 rfl ?_
  refine J_iload_n dX2_set_1 rfl ?_
  refine TC_X2_isFrame (by decide) (Nat.le_of_ble_eq_true rfl) dX2_set_2 ?_
  refine t_isFrame hS hO (by unfold zR at *; omega) (fun b2 => ?_) (fun b2 => ?_)
  · refine J_ri ?_
    refine J_if_ne_y (tgt := 10) dX2_set_5 (by decide) (by decide) ?_
    refine J_aload_n dX2_set_10 rfl ?_
    refine J_iload_n dX2_set_11 rfl ?_
    refine TC_X2_isSet (by decide) (Nat.le_of_ble_eq_true rfl) dX2_set_12 ?_
    refine t_isSet hS hO hP hN (by omega) (fun b12 => ?_) (fun b12 => ?_)
    · exfalso; omega
    · refine J_ri ?_
      refine J_if_eq_y (tgt := 21) dX2_set_15 (by decide) (by decide) ?_
      refine J_aload_n dX2_set_21 rfl ?_
      refine J_iload_n dX2_set_22 rfl ?_
      refine TC_X2_findsPage (by decide) (Nat.le_of_ble_eq_true rfl) dX2_set_23 ?_
      refine t_findsPage hS hO hP hN hV (by omega) (fun p hp σ1 e1 F1 B1 O1 => ?_) (fun hp σ1 e1 => ?_)
      · refine J_ri ?_
        obtain ⟨r1, r2, r3, r4, r5, r6⟩ := mRoom_ok hO hf O1 hp.2.2.2.1
        have hp1 := hp.1
        have hp2 := hp.2.2.1
        have hP := hP.eq e1 (by decide)
        have hS := hS.eq e1 (by decide) (by decide) (by decide) (by decide) (by decide)
        refine J_istore_n dX2_set_26 rfl (by decide) _ rfl ?_
        refine J_iload_n dX2_set_27 rfl ?_
        refine J_bipush (zI (-9)) dX2_set_28 rfl ?_
        refine J_icmp_ne_z (tgt := 36) dX2_set_30 (by decide) (by unfold zR; omega) (by unfold zR; omega) (fun c30 => ?_) (fun c30 => ?_)
        · skip
          refine J_aload_n dX2_set_36 rfl ?_
          have hL := hL.eq e1 (by decide) (by decide)
          refine TG_deedMany dX2_set_37 ?_
          refine J_top (zI (dm)) hL.1 ?_
          refine J_bipush (zI 40) dX2_set_40 rfl ?_
          refine J_icmp_ne_z (tgt := 48) dX2_set_42 (by decide) (by unfold zR; omega) (by unfold zR; omega) (fun c42 => ?_) (fun c42 => ?_)
          · skip
            refine J_aload_n dX2_set_48 rfl ?_
            refine TC_X2_remember (by decide) (Nat.le_of_ble_eq_true rfl) dX2_set_49 ?_
            refine t_remember hP hL (by omega) (fun σ9 e9 L9 => ?_)
            have hP := hP.eq e9 (by decide)
            refine J_rv ?_
            refine J_aload_n dX2_set_52 rfl ?_
            refine J_iload_n dX2_set_53 rfl ?_
            refine J_iload_n dX2_set_54 rfl ?_
            refine TC_X2_sets (by decide) (Nat.le_of_ble_eq_true rfl) dX2_set_55 ?_
            refine t_sets (r := mRect many wide high bl G P rule f p) hP (by omega) (by have := O1.2.2; omega) (by rw [e9.1 32 (by decide), B1.1]; exact congrArg zI (by omega)) ((e9.1 33 (by decide)).trans (B1.2 hp.2.2.2.1).1) ((F1.rc r2).eq e9 (by decide) (by decide) (by decide) (by decide)) (fun σ2 e2 P2 => ?_)
            refine J_rv ?_
            refine J_iload_n dX2_set_58 rfl ?_
            exact J_iret rfl dX2_set_59 (by exact q2 p hp (by omega) σ2 (((e1.mono (by decide) (by decide)).trans (e9.mono (by decide) (by decide))).trans (e2.mono (by decide) (by decide))) (by rw [mPut_p hp]; exact P2) (L9.eq e2 (by decide) (by decide)) (by rw [mPut_p hp]; exact set_ok hO hN hV hf ⟨hp1, hp2⟩ O1 hp.2.2.2.1))
          · skip
            refine J_bipush (zI (-2)) dX2_set_45 rfl ?_
            exact J_iret rfl dX2_set_47 (by exact q1 p hp (by omega) σ1 e1)
        · exfalso; omega
      · refine J_ri ?_
        have hP := hP.eq e1 (by decide)
        have hS := hS.eq e1 (by decide) (by decide) (by decide) (by decide) (by decide)
        refine J_istore_n dX2_set_26 rfl (by decide) _ rfl ?_
        refine J_iload_n dX2_set_27 rfl ?_
        refine J_bipush (zI (-9)) dX2_set_28 rfl ?_
        refine J_icmp_ne_n (tgt := 36) dX2_set_30 (by decide) (by decide) ?_
        refine J_bipush (zI (-6)) dX2_set_33 rfl ?_
        exact J_iret rfl dX2_set_35 (by exact q0 hp σ1 e1)
  · exfalso; omega
theorem t_lift_st {E : jEnv} {α : Nat → Nat} {σ : tS} {Q : Option Value → tS → Prop} {many : Nat} {wide high bl : Int} {G : Nat → Nat → Int} {P : Nat → Nat → Int} {rule : Int} {f : Nat} (hS : tSh many wide high bl G σ) (hO : shOK many wide high bl G) (hP : tPl P rule σ) (hN : plOK many P rule) (hf : f < many) (h0 : P f 0 = -1) (hq : Q (some (.int (zI (-4)))) σ) : jX2_lift E α 0 [some (.ref (α 0)), some (.int (zI (f : Nat)))] [] σ Q := by
  have := hO.s
  refine J_aload_n dX2_lift_0 rfl ?_
  refine J_iload_n dX2_lift_1 rfl ?_
  refine TC_X2_isFrame (by decide) (Nat.le_of_ble_eq_true rfl) dX2_lift_2 ?_
  refine t_isFrame hS hO (by unfold zR at *; omega) (fun b2 => ?_) (fun b2 => ?_)
  · refine J_ri ?_
    refine J_if_ne_y (tgt := 10) dX2_lift_5 (by decide) (by decide) ?_
    refine J_aload_n dX2_lift_10 rfl ?_
    refine J_iload_n dX2_lift_11 rfl ?_
    refine TC_X2_isSet (by decide) (Nat.le_of_ble_eq_true rfl) dX2_lift_12 ?_
    refine t_isSet hS hO hP hN (by omega) (fun b12 => ?_) (fun b12 => ?_)
    · exfalso; omega
    · refine J_ri ?_
      refine J_if_ne_n (tgt := 21) dX2_lift_15 (by decide) (by decide) ?_
      refine J_bipush (zI (-4)) dX2_lift_18 rfl ?_
      exact J_iret rfl dX2_lift_20 (by exact hq)
  · exfalso; omega
theorem t_lift {E : jEnv} {α : Nat → Nat} {σ : tS} {Q : Option Value → tS → Prop} {many : Nat} {wide high bl : Int} {G : Nat → Nat → Int} {P : Nat → Nat → Int} {rule : Int} {dm : Nat} {H : Nat → mPl} {f : Nat} (hS : tSh many wide high bl G σ) (hO : shOK many wide high bl G) (hP : tPl P rule σ) (hN : plOK many P rule) (hV : plV many wide high bl G P) (hL : tLg dm H σ) (hd : dm ≤ 40) (hf : f < many) (h0 : 0 ≤ P f 0) (q1 : dm = 40 → Q (some (.int (zI (-2)))) σ) (q2 : dm < 40 → ∀ σ1, tEq [36] [23, 37] σ σ1 → tPl (setP P f (-1) 0 0 0) rule σ1 → tLg (dm + 1) (updH H dm (P, rule)) σ1 → plR many wide high bl G ((setP P f (-1) 0 0 0), rule) → Q (some (.int (zI (pgM (setP P f (-1) 0 0 0) many)))) σ1) : jX2_lift E α 0 [some (.ref (α 0)), some (.int (zI (f : Nat)))] [] σ Q := by
  have := hO.s
  refine J_aload_n dX2_lift_0 rfl ?_
  refine J_iload_n dX2_lift_1 rfl ?_
  refine TC_X2_isFrame (by decide) (Nat.le_of_ble_eq_true rfl) dX2_lift_2 ?_
  refine t_isFrame hS hO (by unfold zR at *; omega) (fun b2 => ?_) (fun b2 => ?_)
  · refine J_ri ?_
    refine J_if_ne_y (tgt := 10) dX2_lift_5 (by decide) (by decide) ?_
    refine J_aload_n dX2_lift_10 rfl ?_
    refine J_iload_n dX2_lift_11 rfl ?_
    refine TC_X2_isSet (by decide) (Nat.le_of_ble_eq_true rfl) dX2_lift_12 ?_
    refine t_isSet hS hO hP hN (by omega) (fun b12 => ?_) (fun b12 => ?_)
    · refine J_ri ?_
      refine J_if_ne_y (tgt := 21) dX2_lift_15 (by decide) (by decide) ?_
      refine J_aload_n dX2_lift_21 rfl ?_
      refine TG_deedMany dX2_lift_22 ?_
      refine J_top (zI (dm)) hL.1 ?_
      refine J_bipush (zI 40) dX2_lift_25 rfl ?_
      refine J_icmp_ne_z (tgt := 33) dX2_lift_27 (by decide) (by unfold zR; omega) (by unfold zR; omega) (fun c27 => ?_) (fun c27 => ?_)
      · skip
        refine J_aload_n dX2_lift_33 rfl ?_
        refine TC_X2_remember (by decide) (Nat.le_of_ble_eq_true rfl) dX2_lift_34 ?_
        refine t_remember hP hL (by omega) (fun σ9 e9 L9 => ?_)
        have hP := hP.eq e9 (by decide)
        have hS := hS.eq e9 (by decide) (by decide) (by decide) (by decide) (by decide)
        refine J_rv ?_
        refine J_aload_n dX2_lift_37 rfl ?_
        refine J_iload_n dX2_lift_38 rfl ?_
        refine TC_X2_lifts (by decide) (Nat.le_of_ble_eq_true rfl) dX2_lift_39 ?_
        refine t_lifts hP (by omega) (fun σ2 e2 P2 => ?_)
        have hP := P2
        have hS := hS.eq e2 (by decide) (by decide) (by decide) (by decide) (by decide)
        have hR := lift_ok hN hV f
        have hN := hR.1
        refine J_rv ?_
        refine J_aload_n dX2_lift_42 rfl ?_
        refine TC_X2_pageMany (by decide) (Nat.le_of_ble_eq_true rfl) dX2_lift_43 ?_
        refine t_pageMany hS hO hP hN  ?_
        refine J_ri ?_
        exact J_iret rfl dX2_lift_46 (by exact q2 (by omega) σ2 ((e9.mono (by decide) (by decide)).trans (e2.mono (by decide) (by decide))) P2 (L9.eq e2 (by decide) (by decide)) hR)
      · skip
        refine J_bipush (zI (-2)) dX2_lift_30 rfl ?_
        exact J_iret rfl dX2_lift_32 (by exact q1 (by omega))
    · exfalso; omega
  · exfalso; omega
theorem t_all_bad {E : jEnv} {α : Nat → Nat} {σ : tS} {Q : Option Value → tS → Prop} {many : Nat} {wide high bl : Int} {G : Nat → Nat → Int} {v : Int} (hS : tSh many wide high bl G σ) (hO : shOK many wide high bl G) (rv : zR v) (hv : ¬ (0 ≤ v ∧ v ≤ 2) ∨ many = 0) (hq : Q (some (.int (zI (-1)))) σ) : jX2_all E α 0 [some (.ref (α 0)), some (.int (zI (v)))] [] σ Q := by
  have := hO.s
  refine J_iload_n dX2_all_0 rfl ?_
  refine J_iconst (zI 0) dX2_all_1 rfl ?_
  refine J_iconst (zI 2) dX2_all_2 rfl ?_
  refine TC_X2_in (by decide) (Nat.le_of_ble_eq_true rfl) dX2_all_3 ?_
  refine t_in (by unfold zR at *; omega) (by unfold zR at *; omega) (by unfold zR at *; omega) (fun b3 => ?_) (fun b3 => ?_)
  · refine J_ri ?_
    refine J_if_eq_n (tgt := 16) dX2_all_6 (by decide) (by decide) ?_
    refine J_aload_n dX2_all_9 rfl ?_
    refine TG_frameMany dX2_all_10 ?_
    refine J_top (zI (many)) hS.1 ?_
    refine J_if_ne_z (tgt := 18) dX2_all_13 (by decide) (by unfold zR at *; omega) (fun c13 => ?_) (fun c13 => ?_)
    · exfalso; omega
    · skip
      refine J_iconst (zI (-1)) dX2_all_16 rfl ?_
      exact J_iret rfl dX2_all_17 (by exact hq)
  · refine J_ri ?_
    refine J_if_eq_y (tgt := 16) dX2_all_6 (by decide) (by decide) ?_
    refine J_iconst (zI (-1)) dX2_all_16 rfl ?_
    exact J_iret rfl dX2_all_17 (by exact hq)
theorem t_all {E : jEnv} {α : Nat → Nat} {σ : tS} {Q : Option Value → tS → Prop} {many : Nat} {wide high bl : Int} {G : Nat → Nat → Int} {P : Nat → Nat → Int} {rule : Int} {dm : Nat} {H : Nat → mPl} {o : Int} (hS : tSh many wide high bl G σ) (hO : shOK many wide high bl G) (hP : tPl P rule σ) (hN : plOK many P rule) (hL : tLg dm H σ) (hd : dm ≤ 40) (ho : 0 ≤ o ∧ o ≤ 2) (hm : 0 < many) (q1 : dm = 40 → Q (some (.int (zI (-2)))) σ) (q2 : dm < 40 → ∀ σ1, tEq [27, 32, 33, 34, 35, 36] [23, 26, 28, 29, 30, 31, 37] σ σ1 → tPl (mAll many wide high bl G rule o many).1 rule σ1 → tLg (dm + 1) (updH H dm (P, rule)) σ1 → plR many wide high bl G ((mAll many wide high bl G rule o many).1, rule) → Q (some (.int (zI (pgM (mAll many wide high bl G rule o many).1 many)))) σ1) : jX2_all E α 0 [some (.ref (α 0)), some (.int (zI (o)))] [] σ Q := by
  have := hO.s
  refine J_iload_n dX2_all_0 rfl ?_
  refine J_iconst (zI 0) dX2_all_1 rfl ?_
  refine J_iconst (zI 2) dX2_all_2 rfl ?_
  refine TC_X2_in (by decide) (Nat.le_of_ble_eq_true rfl) dX2_all_3 ?_
  refine t_in (by unfold zR; omega) (by unfold zR; omega) (by unfold zR; omega) (fun b3 => ?_) (fun b3 => ?_)
  · refine J_ri ?_
    refine J_if_eq_n (tgt := 16) dX2_all_6 (by decide) (by decide) ?_
    refine J_aload_n dX2_all_9 rfl ?_
    refine TG_frameMany dX2_all_10 ?_
    refine J_top (zI (many)) hS.1 ?_
    refine J_if_ne_z (tgt := 18) dX2_all_13 (by decide) (by unfold zR; omega) (fun c13 => ?_) (fun c13 => ?_)
    · skip
      refine J_aload_n dX2_all_18 rfl ?_
      refine TG_deedMany dX2_all_19 ?_
      refine J_top (zI (dm)) hL.1 ?_
      refine J_bipush (zI 40) dX2_all_22 rfl ?_
      refine J_icmp_ne_z (tgt := 30) dX2_all_24 (by decide) (by unfold zR; omega) (by unfold zR; omega) (fun c24 => ?_) (fun c24 => ?_)
      · skip
        refine J_aload_n dX2_all_30 rfl ?_
        refine TC_X2_remember (by decide) (Nat.le_of_ble_eq_true rfl) dX2_all_31 ?_
        refine t_remember hP hL (by omega) (fun σ9 e9 L9 => ?_)
        have hP := hP.eq e9 (by decide)
        have hS := hS.eq e9 (by decide) (by decide) (by decide) (by decide) (by decide)
        refine J_rv ?_
        refine J_aload_n dX2_all_34 rfl ?_
        refine J_iload_n dX2_all_35 rfl ?_
        refine TC_X2_setsAll (by decide) (Nat.le_of_ble_eq_true rfl) dX2_all_36 ?_
        refine t_setsAll hS hO hP hN ho (fun σ2 e2 P2 hR => ?_)
        have hP := P2
        have hS := hS.eq e2 (by decide) (by decide) (by decide) (by decide) (by decide)
        have hN := hR.1
        refine J_rv ?_
        refine J_aload_n dX2_all_39 rfl ?_
        refine TC_X2_pageMany (by decide) (Nat.le_of_ble_eq_true rfl) dX2_all_40 ?_
        refine t_pageMany hS hO hP hN  ?_
        refine J_ri ?_
        exact J_iret rfl dX2_all_43 (by exact q2 (by omega) σ2 ((e9.mono (by decide) (by decide)).trans (e2.mono (by decide) (by decide))) P2 (L9.eq e2 (by decide) (by decide)) hR)
      · skip
        refine J_bipush (zI (-2)) dX2_all_27 rfl ?_
        exact J_iret rfl dX2_all_29 (by exact q1 (by omega))
    · exfalso; omega
  · exfalso; omega
theorem t_rule_bad {E : jEnv} {α : Nat → Nat} {σ : tS} {Q : Option Value → tS → Prop} {v : Int} (rv : zR v) (hv : ¬ (0 ≤ v ∧ v ≤ 3)) (hq : Q (some (.int (zI (-1)))) σ) : jX2_rule E α 0 [some (.ref (α 0)), some (.int (zI (v))), none] [] σ Q := by
  refine J_iload_n dX2_rule_0 rfl ?_
  refine J_iconst (zI 0) dX2_rule_1 rfl ?_
  refine J_iconst (zI 3) dX2_rule_2 rfl ?_
  refine TC_X2_in (by decide) (Nat.le_of_ble_eq_true rfl) dX2_rule_3 ?_
  refine t_in (by unfold zR at *; omega) (by unfold zR at *; omega) (by unfold zR at *; omega) (fun b3 => ?_) (fun b3 => ?_)
  · exfalso; omega
  · refine J_ri ?_
    refine J_if_ne_n (tgt := 11) dX2_rule_6 (by decide) (by decide) ?_
    refine J_iconst (zI (-1)) dX2_rule_9 rfl ?_
    exact J_iret rfl dX2_rule_10 (by exact hq)
theorem tPl_rule {P : Nat → Nat → Int} {rule r2 : Int} {σ : tS} (h : tPl P rule σ) : tPl P r2 (setA σ 23 (upd (σ.2.1 23) 32 (zI r2))) := by
  refine ⟨fun f k hf hk => ?_, ?_⟩
  · show upd (σ.2.1 23) 32 (zI r2) (4 * f + k) = _
    rw [upd_n (by omega)]
    exact h.1 f k hf hk
  · show upd (σ.2.1 23) 32 (zI r2) 32 = _
    rw [upd_s]
theorem t_rule {E : jEnv} {α : Nat → Nat} {σ : tS} {Q : Option Value → tS → Prop} {many : Nat} {wide high bl : Int} {G : Nat → Nat → Int} {P : Nat → Nat → Int} {rule : Int} {dm : Nat} {H : Nat → mPl} {k : Int} (hS : tSh many wide high bl G σ) (hO : shOK many wide high bl G) (hP : tPl P rule σ) (hN : plOK many P rule) (hL : tLg dm H σ) (hd : dm ≤ 40) (hk : 0 ≤ k ∧ k ≤ 3) (q0 : many = 0 ∨ rule = k → Q (some (.int (zI (-4)))) σ) (q1 : ¬ (many = 0 ∨ rule = k) → dm = 40 → Q (some (.int (zI (-2)))) σ) (q2 : ¬ (many = 0 ∨ rule = k) → dm < 40 → ∀ σ1, tEq [36] [23, 37] σ σ1 → tPl P k σ1 → tLg (dm + 1) (updH H dm (P, rule)) σ1 → Q (some (.int (zI rule))) σ1) : jX2_rule E α 0 [some (.ref (α 0)), some (.int (zI (k))), none] [] σ Q := by
  have := hO.s
  have hNr := hN.2
  refine J_iload_n dX2_rule_0 rfl ?_
  refine J_iconst (zI 0) dX2_rule_1 rfl ?_
  refine J_iconst (zI 3) dX2_rule_2 rfl ?_
  refine TC_X2_in (by decide) (Nat.le_of_ble_eq_true rfl) dX2_rule_3 ?_
  refine t_in (by unfold zR; omega) (by unfold zR; omega) (by unfold zR; omega) (fun b3 => ?_) (fun b3 => ?_)
  · refine J_ri ?_
    refine J_if_ne_y (tgt := 11) dX2_rule_6 (by decide) (by decide) ?_
    refine J_aload_n dX2_rule_11 rfl ?_
    refine TG_now dX2_rule_12 ?_
    refine J_bipush (zI 32) dX2_rule_15 rfl ?_
    refine TJ_iald 23 (32) ⟨rfl, rfl, by decide⟩ (by omega) (show 32 < 33 by omega) dX2_rule_17 ?_
    refine J_top (zI (rule)) (hP.2) ?_
    refine J_istore_n dX2_rule_18 rfl (by decide) _ rfl ?_
    refine J_aload_n dX2_rule_19 rfl ?_
    refine TG_frameMany dX2_rule_20 ?_
    refine J_top (zI (many)) hS.1 ?_
    refine J_if_eq_z (tgt := 31) dX2_rule_23 (by decide) (by unfold zR; omega) (fun c23 => ?_) (fun c23 => ?_)
    · skip
      refine J_bipush (zI (-4)) dX2_rule_31 rfl ?_
      exact J_iret rfl dX2_rule_33 (by exact q0 (by omega))
    · skip
      refine J_iload_n dX2_rule_26 rfl ?_
      refine J_iload_n dX2_rule_27 rfl ?_
      refine J_icmp_ne_z (tgt := 34) dX2_rule_28 (by decide) (by unfold zR; omega) (by unfold zR; omega) (fun c28 => ?_) (fun c28 => ?_)
      · skip
        refine J_aload_n dX2_rule_34 rfl ?_
        refine TG_deedMany dX2_rule_35 ?_
        refine J_top (zI (dm)) hL.1 ?_
        refine J_bipush (zI 40) dX2_rule_38 rfl ?_
        refine J_icmp_ne_z (tgt := 46) dX2_rule_40 (by decide) (by unfold zR; omega) (by unfold zR; omega) (fun c40 => ?_) (fun c40 => ?_)
        · skip
          refine J_aload_n dX2_rule_46 rfl ?_
          refine TC_X2_remember (by decide) (Nat.le_of_ble_eq_true rfl) dX2_rule_47 ?_
          refine t_remember hP hL (by omega) (fun σ9 e9 L9 => ?_)
          have hP := hP.eq e9 (by decide)
          refine J_rv ?_
          refine J_aload_n dX2_rule_50 rfl ?_
          refine TG_now dX2_rule_51 ?_
          refine J_bipush (zI 32) dX2_rule_54 rfl ?_
          refine J_iload_n dX2_rule_56 rfl ?_
          refine TJ_iast 23 (32) ⟨rfl, rfl, by decide⟩ (by omega) (show 32 < 33 by omega) dX2_rule_57 ?_
          refine J_iload_n dX2_rule_58 rfl ?_
          exact J_iret rfl dX2_rule_59 (by exact q2 (by omega) (by omega) _ ((e9.mono (by decide) (by decide)).sA (by decide)) (tPl_rule hP) (L9.eq (tEq.refl.sA (A := [23]) (I := []) (by decide)) (by decide) (by decide)))
        · skip
          refine J_bipush (zI (-2)) dX2_rule_43 rfl ?_
          exact J_iret rfl dX2_rule_45 (by exact q1 (by omega) (by omega))
      · skip
        refine J_bipush (zI (-4)) dX2_rule_31 rfl ?_
        exact J_iret rfl dX2_rule_33 (by exact q0 (by omega))
  · exfalso; omega
