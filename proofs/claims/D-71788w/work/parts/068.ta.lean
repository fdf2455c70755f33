set_option maxRecDepth 100000
/-! the twin: setting all, deeds -/
theorem mWt_b {many : Nat} {wide high bl : Int} {G : Nat → Nat → Int} (hO : shOK many wide high bl G) {f : Nat} (hf : f < many) (o : Int) : 0 ≤ mWt bl G f o ∧ mWt bl G f o ≤ 484 := by
  have a := mNX_b hO hf 0
  have b := mNY_b hO hf 0
  have c := mul_b a b
  unfold mWt
  repeat' split
  all_goals omega
theorem tl_setsAll23 {E : jEnv} {α : Nat → Nat} {σ : tS} {Q : Option Value → tS → Prop} {many : Nat} {wide high bl : Int} {G : Nat → Nat → Int} {o : Int} {m t : Nat}  (hS : tSh many wide high bl G σ) (hO : shOK many wide high bl G) (ho : 0 ≤ o ∧ o ≤ 2) (hm : m < 256) (hx : jX2_setsAll E α 80 [some (.ref (α 0)), some (.int (zI (o))), some (.int (nI m)), some (.int (zI (t : Nat))), some (.int (zI (mSel (fun k => mWt bl G k o) m many))), none] [] σ Q) : ∀ (n : Nat) (k : Nat) (z : Int), k ≤ many → z = mSel (fun k => mWt bl G k o) m k → many - k < n → jX2_setsAll E α 23 [some (.ref (α 0)), some (.int (zI (o))), some (.int (nI m)), some (.int (zI (t : Nat))), some (.int (zI (z))), some (.int (zI (k : Nat)))] [] σ Q := by
  intro n
  induction n with
  | zero => intro k z h1 h2 hn; exact absurd hn (Nat.not_lt_zero _)
  | succ n ih =>
    intro k z h1 h2 hn
    have := hO.s
    have hsb := mSel_b (fun k => mWt bl G k o) m k
    rw [← h2] at hsb
    refine J_iload dX2_setsAll_23 rfl ?_
    refine J_aload_n dX2_setsAll_25 rfl ?_
    refine TG_frameMany dX2_setsAll_26 ?_
    refine J_top (zI (many)) hS.1 ?_
    refine J_icmp_ge_z (tgt := 80) dX2_setsAll_29 (by decide) (by unfold zR; omega) (by unfold zR; omega) (fun c29 => ?_) (fun c29 => ?_)
    · skip
      obtain rfl : k = many := by omega
      rw [h2]
      refine J_fg (L' := [some (.ref (α 0)), some (.int (zI (o))), some (.int (nI m)), some (.int (zI (t : Nat))), some (.int (zI (mSel (fun k => mWt bl G k o) m k))), none]) (by repeat' constructor) ?_
      exact hx
    · skip
      have := mWt_b hO (f := k) (by omega) o
      refine J_iload_n dX2_setsAll_32 rfl ?_
      refine J_iload dX2_setsAll_33 rfl ?_
      refine TC_X2_has (by decide) (Nat.le_of_ble_eq_true rfl) dX2_setsAll_35 ?_
      refine t_has (by omega) (by omega) (fun b35 => ?_) (fun b35 => ?_)
      · refine J_ri ?_
        refine J_if_ne_y (tgt := 70) dX2_setsAll_38 (by decide) (by decide) ?_
        refine J_iload dX2_setsAll_70 rfl ?_
        refine J_top (zI (mSel (fun k => mWt bl G k o) m (k + 1))) (congrArg zI (by first | exact mSel_n1 h2 b35 | exact mSel_y h2 b35 (Or.inl c45) | exact mSel_y h2 b35 (Or.inr c62) | exact mSel_n2 h2 c45 c62)) ?_
        refine J_istore dX2_setsAll_72 rfl (by decide) _ rfl ?_
        refine J_iinc_z ((((k + 1)) : Nat) : Int) (by omega) dX2_setsAll_74 rfl rfl (by decide) _ rfl ?_
        refine J_goto (tgt := 23) dX2_setsAll_77 (by decide) ?_
        exact ih (k + 1) _ (by omega) rfl (by omega)
      · refine J_ri ?_
        refine J_if_ne_n (tgt := 70) dX2_setsAll_38 (by decide) (by decide) ?_
        refine J_iload dX2_setsAll_41 rfl ?_
        refine J_bipush (zI (-9)) dX2_setsAll_43 rfl ?_
        refine J_icmp_eq_z (tgt := 65) dX2_setsAll_45 (by decide) (by unfold zR; omega) (by unfold zR; omega) (fun c45 => ?_) (fun c45 => ?_)
        · skip
          refine J_iload dX2_setsAll_65 rfl ?_
          refine J_goto (tgt := 72) dX2_setsAll_67 (by decide) ?_
          refine J_top (zI (mSel (fun k => mWt bl G k o) m (k + 1))) (congrArg zI (by first | exact mSel_n1 h2 b35 | exact mSel_y h2 b35 (Or.inl c45) | exact mSel_y h2 b35 (Or.inr c62) | exact mSel_n2 h2 c45 c62)) ?_
          refine J_istore dX2_setsAll_72 rfl (by decide) _ rfl ?_
          refine J_iinc_z ((((k + 1)) : Nat) : Int) (by omega) dX2_setsAll_74 rfl rfl (by decide) _ rfl ?_
          refine J_goto (tgt := 23) dX2_setsAll_77 (by decide) ?_
          exact ih (k + 1) _ (by omega) rfl (by omega)
        · skip
          have := mWt_b hO (f := z.toNat) (by omega) o
          refine J_aload_n dX2_setsAll_48 rfl ?_
          refine J_iload dX2_setsAll_49 rfl ?_
          refine J_iload_n dX2_setsAll_51 rfl ?_
          refine TC_X2_weight (by decide) (Nat.le_of_ble_eq_true rfl) dX2_setsAll_52 ?_
          refine t_weight hS hO (by omega) (by omega) ?_
          refine J_ri ?_
          refine J_aload_n dX2_setsAll_55 rfl ?_
          refine J_iload dX2_setsAll_56 rfl ?_
          refine J_top (zI ((z.toNat : Nat) : Int)) (congrArg zI (by omega)) ?_
          refine J_iload_n dX2_setsAll_58 rfl ?_
          refine TC_X2_weight (by decide) (Nat.le_of_ble_eq_true rfl) dX2_setsAll_59 ?_
          refine t_weight hS hO (by omega) (by omega) ?_
          refine J_ri ?_
          refine J_icmp_le_z (tgt := 70) dX2_setsAll_62 (by decide) (by unfold zR; omega) (by unfold zR; omega) (fun c62 => ?_) (fun c62 => ?_)
          · skip
            refine J_iload dX2_setsAll_70 rfl ?_
            refine J_top (zI (mSel (fun k => mWt bl G k o) m (k + 1))) (congrArg zI (by first | exact mSel_n1 h2 b35 | exact mSel_y h2 b35 (Or.inl c45) | exact mSel_y h2 b35 (Or.inr c62) | exact mSel_n2 h2 c45 c62)) ?_
            refine J_istore dX2_setsAll_72 rfl (by decide) _ rfl ?_
            refine J_iinc_z ((((k + 1)) : Nat) : Int) (by omega) dX2_setsAll_74 rfl rfl (by decide) _ rfl ?_
            refine J_goto (tgt := 23) dX2_setsAll_77 (by decide) ?_
            exact ih (k + 1) _ (by omega) rfl (by omega)
          · skip
            refine J_iload dX2_setsAll_65 rfl ?_
            refine J_goto (tgt := 72) dX2_setsAll_67 (by decide) ?_
            refine J_top (zI (mSel (fun k => mWt bl G k o) m (k + 1))) (congrArg zI (by first | exact mSel_n1 h2 b35 | exact mSel_y h2 b35 (Or.inl c45) | exact mSel_y h2 b35 (Or.inr c62) | exact mSel_n2 h2 c45 c62)) ?_
            refine J_istore dX2_setsAll_72 rfl (by decide) _ rfl ?_
            refine J_iinc_z ((((k + 1)) : Nat) : Int) (by omega) dX2_setsAll_74 rfl rfl (by decide) _ rfl ?_
            refine J_goto (tgt := 23) dX2_setsAll_77 (by decide) ?_
            exact ih (k + 1) _ (by omega) rfl (by omega)
theorem tl_setsAll80 {E : jEnv} {α : Nat → Nat} {σ : tS} {Q : Option Value → tS → Prop} {many : Nat} {wide high bl : Int} {G : Nat → Nat → Int} {P : Nat → Nat → Int} {rule : Int} {o : Int} {m f t : Nat}  (hS : tSh many wide high bl G σ) (hO : shOK many wide high bl G) (hP : tPl P rule σ) (hN : plOK many P rule) (hV : plV many wide high bl G P) (hf : f < many) (hm : m < 256) (hx : ∀ σ1, tEq [27, 32, 33, 34, 35] [23, 26, 28, 29, 30, 31] σ σ1 → tPl (mPut many wide high bl G rule P f) rule σ1 → plR many wide high bl G (mPut many wide high bl G rule P f, rule) → jX2_setsAll E α 8 [some (.ref (α 0)), some (.int (zI (o))), some (.int (nI (m ||| 2 ^ f))), some (.int (zI ((t + 1 : Nat)))), none, none] [] σ1 Q) : jX2_setsAll E α 80 [some (.ref (α 0)), some (.int (zI (o))), some (.int (nI m)), some (.int (zI (t : Nat))), some (.int (zI (f : Nat))), none] [] σ Q := by
  have := hO.s
  refine J_iload_n dX2_setsAll_80 rfl ?_
  refine J_iconst (zI 1) dX2_setsAll_81 rfl ?_
  refine J_iload dX2_setsAll_82 rfl ?_
  refine J_ishl dX2_setsAll_84 ?_
  refine J_ior dX2_setsAll_85 ?_
  refine J_top (nI (m ||| 2 ^ f)) (mask_or m hm f (by omega)) ?_
  refine J_istore_n dX2_setsAll_86 rfl (by decide) _ rfl ?_
  refine J_aload_n dX2_setsAll_87 rfl ?_
  refine J_iload dX2_setsAll_88 rfl ?_
  refine TC_X2_findsPage (by decide) (Nat.le_of_ble_eq_true rfl) dX2_setsAll_90 ?_
  refine t_findsPage hS hO hP hN hV (by omega) (fun p hp σ1 e1 F1 B1 O1 => ?_) (fun hp σ1 e1 => ?_)
  · refine J_ri ?_
    obtain ⟨r1, r2, r3, r4, r5, r6⟩ := mRoom_ok hO hf O1 hp.2.2.2.1
    have hp1 := hp.1
    have hp2 := hp.2.2.1
    have hP := hP.eq e1 (by decide)
    have hS := hS.eq e1 (by decide) (by decide) (by decide) (by decide) (by decide)
    refine J_istore dX2_setsAll_93 rfl (by decide) _ rfl ?_
    refine J_iload dX2_setsAll_95 rfl ?_
    refine J_bipush (zI (-9)) dX2_setsAll_97 rfl ?_
    refine J_icmp_eq_z (tgt := 110) dX2_setsAll_99 (by decide) (by unfold zR; omega) (by unfold zR; omega) (fun c99 => ?_) (fun c99 => ?_)
    · exfalso; omega
    · skip
      refine J_aload_n dX2_setsAll_102 rfl ?_
      refine J_iload dX2_setsAll_103 rfl ?_
      refine J_iload dX2_setsAll_105 rfl ?_
      refine TC_X2_sets (by decide) (Nat.le_of_ble_eq_true rfl) dX2_setsAll_107 ?_
      refine t_sets (r := mRect many wide high bl G P rule f p) hP (by omega) (by have := O1.2.2; omega) (by rw [B1.1]; exact congrArg zI (by omega)) (B1.2 hp.2.2.2.1).1 (F1.rc r2) (fun σ2 e2 P2 => ?_)
      refine J_rv ?_
      refine J_iinc_z ((((t + 1)) : Nat) : Int) (by omega) dX2_setsAll_110 rfl rfl (by decide) _ rfl ?_
      refine J_goto (tgt := 8) dX2_setsAll_113 (by decide) ?_
      refine J_fg (L' := [some (.ref (α 0)), some (.int (zI (o))), some (.int (nI (m ||| 2 ^ f))), some (.int (zI ((t + 1 : Nat)))), none, none]) (by repeat' constructor) ?_
      exact hx _ ((e1.mono (by decide) (by decide)).trans (e2.mono (by decide) (by decide))) (by rw [mPut_p hp]; exact P2) (by rw [mPut_p hp]; exact set_ok hO hN hV hf ⟨hp1, hp2⟩ O1 hp.2.2.2.1)
  · refine J_ri ?_
    have hP := hP.eq e1 (by decide)
    have hS := hS.eq e1 (by decide) (by decide) (by decide) (by decide) (by decide)
    refine J_istore dX2_setsAll_93 rfl (by decide) _ rfl ?_
    refine J_iload dX2_setsAll_95 rfl ?_
    refine J_bipush (zI (-9)) dX2_setsAll_97 rfl ?_
    refine J_icmp_eq_y (tgt := 110) dX2_setsAll_99 (by decide) (by decide) ?_
    refine J_iinc_z ((((t + 1)) : Nat) : Int) (by omega) dX2_setsAll_110 rfl rfl (by decide) _ rfl ?_
    refine J_goto (tgt := 8) dX2_setsAll_113 (by decide) ?_
    refine J_fg (L' := [some (.ref (α 0)), some (.int (zI (o))), some (.int (nI (m ||| 2 ^ f))), some (.int (zI ((t + 1 : Nat)))), none, none]) (by repeat' constructor) ?_
    exact hx _ (e1.mono (by decide) (by decide)) (by rw [mPut_n hp]; exact hP) (by rw [mPut_n hp]; exact ⟨hN, hV⟩)
theorem tl_setsAll8 {E : jEnv} {α : Nat → Nat} {σ : tS} {Q : Option Value → tS → Prop} {many : Nat} {wide high bl : Int} {G : Nat → Nat → Int} {rule : Int} {o : Int}  (hS : tSh many wide high bl G σ) (hO : shOK many wide high bl G) (ho : 0 ≤ o ∧ o ≤ 2) (hq : ∀ σ1, tEq [27, 32, 33, 34, 35] [23, 26, 28, 29, 30, 31] σ σ1 → tPl (mAll many wide high bl G rule o many).1 rule σ1 → plR many wide high bl G ((mAll many wide high bl G rule o many).1, rule) → Q none σ1) : ∀ (n : Nat) (t : Nat) (σ1 : tS), t ≤ many → tEq [27, 32, 33, 34, 35] [23, 26, 28, 29, 30, 31] σ σ1 → tPl (mAll many wide high bl G rule o t).1 rule σ1 → plR many wide high bl G ((mAll many wide high bl G rule o t).1, rule) → many - t < n → jX2_setsAll E α 8 [some (.ref (α 0)), some (.int (zI (o))), some (.int (nI (mAll many wide high bl G rule o t).2)), some (.int (zI (t : Nat))), none, none] [] σ1 Q := by
  intro n
  induction n with
  | zero => intro t σ1 h1 h2 h3 h4 hn; exact absurd hn (Nat.not_lt_zero _)
  | succ n ih =>
    intro t σ1 h1 h2 h3 h4 hn
    have := hO.s
    have hS0 := hS
    have hS := hS.eq h2 (by decide) (by decide) (by decide) (by decide) (by decide)
    refine J_iload_n dX2_setsAll_8 rfl ?_
    refine J_aload_n dX2_setsAll_9 rfl ?_
    refine TG_frameMany dX2_setsAll_10 ?_
    refine J_top (zI (many)) hS.1 ?_
    refine J_icmp_ge_z (tgt := 116) dX2_setsAll_13 (by decide) (by unfold zR; omega) (by unfold zR; omega) (fun c13 => ?_) (fun c13 => ?_)
    · skip
      obtain rfl : t = many := by omega
      exact J_vret rfl dX2_setsAll_116 (by exact hq σ1 h2 h3 h4)
    · skip
      refine J_bipush (zI (-9)) dX2_setsAll_16 rfl ?_
      refine J_istore dX2_setsAll_18 rfl (by decide) _ rfl ?_
      refine J_iconst (zI 0) dX2_setsAll_20 rfl ?_
      refine J_istore dX2_setsAll_21 rfl (by decide) _ rfl ?_
      obtain ⟨a1, a2⟩ := mAll_ok (wide := wide) (high := high) (bl := bl) (G := G) (rule := rule) (o := o) (many := many) (by omega) t (by omega)
      obtain ⟨k, b1, b2⟩ := cntB_ex (m := (mAll many wide high bl G rule o t).2) many (by omega)
      have hsel := mSel_b (fun k => mWt bl G k o) (mAll many wide high bl G rule o t).2 many
      have hne := mSel_ne (wt := fun k => mWt bl G k o) b1 b2
      refine tl_setsAll23 hS hO ho a1 ?_ _ 0 _ (by omega) rfl (Nat.lt_succ_self _)
      have hsn : ((mSel (fun k => mWt bl G k o) (mAll many wide high bl G rule o t).2 many).toNat : Int) = mSel (fun k => mWt bl G k o) (mAll many wide high bl G rule o t).2 many := by omega
      rw [← hsn]
      exact tl_setsAll80 hS hO h3 h4.1 h4.2 (by omega) a1 (fun σ2 e2 P2 R2 => ih (t + 1) σ2 (by omega) (h2.trans e2) P2 R2 (by omega))
theorem t_setsAll {E : jEnv} {α : Nat → Nat} {σ : tS} {Q : Option Value → tS → Prop} {many : Nat} {wide high bl : Int} {G : Nat → Nat → Int} {P : Nat → Nat → Int} {rule : Int} {o : Int}  (hS : tSh many wide high bl G σ) (hO : shOK many wide high bl G) (hP : tPl P rule σ) (hN : plOK many P rule) (ho : 0 ≤ o ∧ o ≤ 2) (hq : ∀ σ1, tEq [27, 32, 33, 34, 35] [23, 26, 28, 29, 30, 31] σ σ1 → tPl (mAll many wide high bl G rule o many).1 rule σ1 → plR many wide high bl G ((mAll many wide high bl G rule o many).1, rule) → Q none σ1) : jX2_setsAll E α 0 [some (.ref (α 0)), some (.int (zI (o))), none, none, none, none] [] σ Q := by
  refine J_aload_n dX2_setsAll_0 rfl ?_
  refine TC_X2_liftsAll (by decide) (Nat.le_of_ble_eq_true rfl) dX2_setsAll_1 ?_
  refine t_liftsAll hP (fun σ1 e1 P1 => ?_)
  refine J_rv ?_
  refine J_iconst (zI 0) dX2_setsAll_4 rfl ?_
  refine J_istore_n dX2_setsAll_5 rfl (by decide) _ rfl ?_
  refine J_iconst (zI 0) dX2_setsAll_6 rfl ?_
  refine J_istore_n dX2_setsAll_7 rfl (by decide) _ rfl ?_
  exact tl_setsAll8 hS hO ho hq _ 0 _ (by omega) (e1.mono (by decide) (by decide)) P1 (P0_ok hN.2) (Nat.lt_succ_self _)
