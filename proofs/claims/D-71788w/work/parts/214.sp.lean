set_option maxRecDepth 100000
/-! the component: write, whole -/
theorem cl_write69 {E : jEnv} {α : Nat → Nat} {σ : cS} {Q : Option Value → cS → Prop} {rs : Nat → Int} {rd : Nat → Nat → Int32} {ts : Nat → Int} {tb : Nat → Nat → Int} {r q N ks ns : Nat} {o : List Int} {many : Nat} {wide high bl : Int} {G : Nat → Nat → Int} {ad : Nat → Nat} {c : Nat → Nat → Int} {σ2 : cS}  (hDt : cDt rs rd ts tb σ) (hr : r < 4) (hd : ∀ j, σ.d j = none) (hS : cSh many wide high bl G ad c σ) (hO : shOK many wide high bl G) (hm0 : 0 < many) (hN : cNo σ σ2) (hB : SB E (strW 3 σ2) q o (o.length + 16)) (hu : uR o) (hol : o.length ≤ 11) (ho1 : o = [112, 97, 103, 101] ++ mNo wide ++ mNo high ++ [59]) (hkn : ks ≤ 20 ∧ ns ≤ 200) (q0 : 120 < (mOut many wide high bl G).length → Q (some (.int (zI (-6)))) σ) (q1 : (mOut many wide high bl G).length ≤ 120 → ∀ σ1, cT [] σ σ1 → cDt rs rd (upk ts r (mOut many wide high bl G).length) (upk tb r (fun i => (mOut many wide high bl G).getD i 0)) σ1 → Q (some (.int (zI ((mOut many wide high bl G).length : Nat)))) σ1)  : J E (wC E α) (cX E, none) cX0_write 5 (some .int) RX0 (jR 11 400 20000) (ks) (ns) 69 [some (.ref (α 0)), some (.int (zI (r : Nat))), some (.ref q), none, none] [] σ2 Q := by
  have hS2 := cNo.sh hS hN
  have hob : 0 ≤ bl ∧ bl ≤ 2 := ⟨hO.2.2.2.2.2.2.1, hO.2.2.2.2.2.2.2.1⟩
  have hd2 := dgs_l bl
  have l1 : (o ++ sTx 9).length = (o).length + (sTx 9).length := List.length_append
  have l9 : (sTx 9).length = 6 := rfl
  have l2 : ((o ++ sTx 9) ++ (dgs bl)).length = ((o ++ sTx 9)).length + (dgs bl).length := List.length_append
  have l3 : (((o ++ sTx 9) ++ dgs bl) ++ [59]).length = (((o ++ sTx 9) ++ dgs bl)).length + ([59] : List Int).length := List.length_append
  have l4 : ([59] : List Int).length = 1 := rfl
  refine J_aload_n dX0_write_69 rfl ?_
  refine CG_bleed dX0_write_70 ?_
  refine J_top (zI (bl)) hS2.2.2.2.1 ?_
  refine J_if_le_z (tgt := 96) dX0_write_73 (by decide) (by unfold zR; omega) (fun c73 => ?_) (fun c73 => ?_)
  · skip
    have eo : (mOut many wide high bl G) = o ++ mOutL G many := by
      rw [mOut, ho1, if_neg (by omega), List.append_nil]
    rw [eo] at q0 q1
    refine J_iconst (zI 0) dX0_write_96 rfl ?_
    refine J_istore_n dX0_write_97 rfl (by decide) _ rfl ?_
    refine cl_write98 (N := 0) (ks := 0) (ns := 0) (o := o) hDt hr hd hS hO hu (by omega) q0 q1 _ 0 (o.length + 16) _ _ _ (Nat.zero_le _) ?_ ?_ (fun x hx => by cases hx) (by first | omega | (simp only [jR]; omega)) (Nat.lt_succ_self _)
    · exact hN
    · rw [show mOutL G 0 = [] from rfl, List.append_nil]; exact hB
  · skip
    have eo : (mOut many wide high bl G) = (((o ++ sTx 9) ++ dgs bl) ++ [59]) ++ mOutL G many := by
      rw [mOut, ho1, if_pos (by omega), mNo_dgs bl, show sTx 9 = [98, 108, 101, 101, 100] ++ [32] from rfl]
      simp only [List.append_assoc, List.cons_append, List.nil_append]
    rw [eo] at q0 q1
    refine J_aload_n dX0_write_76 rfl ?_
    refine J_ldcwS rfl (List.mem_of_getElem? (i := 9) rfl) dX0_write_77 ?_
    obtain ⟨va1, fa1, g1, -⟩ := id hB
    refine J_eV (y := yJ10_append_2) (R' := (jR 6 0 0)) [.ref (sA E 9)] 1 203 ((wC_d 3).trans g1) rfl q924 q925 q926 q119 q927 (by decide +kernel) cX_1 ⟨Nat.le_of_ble_eq_true rfl, Nat.le_of_ble_eq_true rfl⟩ ⟨(by first | omega | (simp only [jR]; done) | (simp only [jR]; omega)), (by first | omega | (simp only [jR]; done) | (simp only [jR]; omega))⟩ rfl (Nat.le_of_ble_eq_true rfl) dX0_write_80 (JE_str 3 (JE.of (X' := (cX E, none)) (by decide +kernel) (Nat.le_of_ble_eq_true rfl) (fun _ z => by cases z) (?_)))
    refine b_appS hB (by omega) (StT.out 9 (by decide)) (by omega) (by omega) (fun h => absurd h (by omega)) (fun s1 o1 C1 => ?_)
    refine J_ra ?_
    have B1 := C1.c (b := 3) (σ := σ2)
    have L1 := B1.len
    refine J_aload_n dX0_write_83 rfl ?_
    refine CG_bleed dX0_write_84 ?_
    refine J_top (zI (bl)) (cNo.sh hS (cNo.ds (b := 3) (s := s1) hN)).2.2.2.1 ?_
    obtain ⟨va2, fa2, g2, -⟩ := id B1
    refine J_eV (y := yJ10_append_3) (R' := (jR 6 0 0)) [.int (zI bl)] 1 203 ((wC_d 3).trans g2) rfl q970 q971 q972 q119 q973 (by decide +kernel) cX_1 ⟨Nat.le_of_ble_eq_true rfl, Nat.le_of_ble_eq_true rfl⟩ ⟨(by first | omega | (simp only [jR]; done) | (simp only [jR]; omega)), (by first | omega | (simp only [jR]; done) | (simp only [jR]; omega))⟩ rfl (Nat.le_of_ble_eq_true rfl) dX0_write_87 (JE_str 3 (JE.of (X' := (cX E, none)) (by decide +kernel) (Nat.le_of_ble_eq_true rfl) (fun _ z => by cases z) (?_)))
    refine b_appI (z := bl) B1 (by rw [show bcap (o.length + 16) (o.length + (sTx 9).length) = o.length + 16 from if_pos (by omega)]; omega) (by omega) (by omega) (fun h => absurd h (by rw [show bcap (o.length + 16) (o.length + (sTx 9).length) = o.length + 16 from if_pos (by omega)]; omega)) (fun s2 o2 C2 => ?_)
    refine J_ra ?_
    have B2 := C2.c (b := 3) (σ := cDs 3 σ2 s1)
    have L2 := B2.len
    have hba : bcap (o.length + 16) (o.length + (sTx 9).length) = o.length + 16 := if_pos (by omega)
    have hbb : bcap (bcap (o.length + 16) (o.length + (sTx 9).length)) ((o ++ sTx 9).length + (dgs bl).length) = o.length + 16 := by rw [hba]; exact if_pos (by omega)
    have hbc : bcap (bcap (bcap (o.length + 16) (o.length + (sTx 9).length)) ((o ++ sTx 9).length + (dgs bl).length)) (((o ++ sTx 9) ++ dgs bl).length + 1) = o.length + 16 := by rw [hbb]; exact if_pos (by omega)
    refine J_bipush (zI 59) dX0_write_90 rfl ?_
    obtain ⟨va3, fa3, g3, -⟩ := id B2
    refine J_eV (y := yJ10_append) (R' := (jR 6 0 0)) [.int (zI 59)] 1 203 ((wC_d 3).trans g3) rfl q536 q537 q538 q119 q539 (by decide +kernel) cX_1 ⟨Nat.le_of_ble_eq_true rfl, Nat.le_of_ble_eq_true rfl⟩ ⟨(by first | omega | (simp only [jR]; done) | (simp only [jR]; omega)), (by first | omega | (simp only [jR]; done) | (simp only [jR]; omega))⟩ rfl (Nat.le_of_ble_eq_true rfl) dX0_write_92 (JE_str 3 (JE.of (X' := (cX E, none)) (by decide +kernel) (Nat.le_of_ble_eq_true rfl) (fun _ z => by cases z) (?_)))
    refine b_appC (z := 59) B2 (by rw [hbb]; omega) (by omega) (by decide) (fun h => absurd h (by rw [hbb]; omega)) (fun s3 o3 C3 => ?_)
    refine J_ra ?_
    have B3 := C3.c (b := 3) (σ := cDs 3 (cDs 3 σ2 s1) s2)
    have L3 := B3.len
    refine J_pop dX0_write_95 rfl ?_
    refine J_iconst (zI 0) dX0_write_96 rfl ?_
    refine J_istore_n dX0_write_97 rfl (by decide) _ rfl ?_
    have hBB : SB E (strW 3 (cDs 3 (cDs 3 (cDs 3 σ2 s1) s2) s3)) q (((o ++ sTx 9) ++ dgs bl) ++ [59]) (o.length + 16) := by
      have := B3
      rw [hbc] at this
      exact this
    refine cl_write98 (N := 0) (ks := 0) (ns := 0) (o := ((o ++ sTx 9) ++ dgs bl) ++ [59]) hDt hr hd hS hO (uR_app (uR_app (uR_app hu (uR.t (by decide))) (dgs_R (by omega))) (fun x hx => by simp only [List.mem_cons, List.not_mem_nil, or_false] at hx; omega)) (by omega) q0 q1 _ 0 (o.length + 16) _ _ _ (Nat.zero_le _) ?_ ?_ (fun x hx => by cases hx) (by first | omega | (simp only [jR]; omega)) (Nat.lt_succ_self _)
    · exact hN.ds.ds.ds
    · rw [show mOutL G 0 = [] from rfl, List.append_nil]; exact hBB
theorem sh20_0 {σ : cS} {x : Nat × jE} (h : σ.d 20 = some x) : strW 3 (cD (cD σ 20 none) 3 (σ.d 20)) 0 = some x := h
theorem sh20_2 {σ : cS} {y : Option (Nat × jE)} : strW 3 (cD (cD σ 20 none) 3 y) 2 = strW 3 σ 2 := by
  show (if 5 = 3 then y else if 5 = 20 then none else σ.d 5) = σ.d 5
  rw [if_neg (by omega), if_neg (by omega)]
theorem sh20_3 {σ : cS} {y : Option (Nat × jE)} : strW 3 (cD (cD σ 20 none) 3 y) 3 = strW 3 σ 3 := by
  show (if 6 = 3 then y else if 6 = 20 then none else σ.d 6) = σ.d 6
  rw [if_neg (by omega), if_neg (by omega)]
theorem cl_write62 {E : jEnv} {α : Nat → Nat} {σ : cS} {Q : Option Value → cS → Prop} {rs : Nat → Int} {rd : Nat → Nat → Int32} {ts : Nat → Int} {tb : Nat → Nat → Int} {r q N ks ns : Nat} {o : List Int} {many : Nat} {wide high bl : Int} {G : Nat → Nat → Int} {ad : Nat → Nat} {c : Nat → Nat → Int} {q2 : Nat} {σ5 : cS}  (hDt : cDt rs rd ts tb σ) (hr : r < 4) (hd : ∀ j, σ.d j = none) (hS : cSh many wide high bl G ad c σ) (hO : shOK many wide high bl G) (hm0 : 0 < many) (n5 : cNo σ σ5) (B5 : SB E (strW 3 σ5) q2 o 16) (e5 : σ5.d 20 = some (q, .inr (7, bV .null (zI 0)))) (hu : uR o) (hol : o.length ≤ 11) (ho1 : o = [112, 97, 103, 101] ++ mNo wide ++ mNo high ++ [59]) (hkn : ks ≤ 10 ∧ ns ≤ 80) (q0 : 120 < (mOut many wide high bl G).length → Q (some (.int (zI (-6)))) σ) (q1 : (mOut many wide high bl G).length ≤ 120 → ∀ σ1, cT [] σ σ1 → cDt rs rd (upk ts r (mOut many wide high bl G).length) (upk tb r (fun i => (mOut many wide high bl G).getD i 0)) σ1 → Q (some (.int (zI ((mOut many wide high bl G).length : Nat)))) σ1)  : J E (wC E α) (cX E, none) cX0_write 5 (some .int) RX0 (jR 11 400 20000) (ks) (ns) 62 [some (.ref (α 0)), some (.int (zI (r : Nat))), none, none, none] [.ref q2, .ref q, .ref q] σ5 Q := by
  obtain ⟨va6, fa6, g6, -⟩ := id B5
  refine J_eV (y := yJ10_toString) (R' := (jR 6 2 40)) [] 0 203 ((wC_d 3).trans g6) rfl q629 q630 q631 q119 q632 (by decide +kernel) cX_1 ⟨Nat.le_of_ble_eq_true rfl, Nat.le_of_ble_eq_true rfl⟩ (by show ks + 2 ≤ 400 ∧ ns + 40 ≤ 20000; omega) rfl (Nat.le_of_ble_eq_true rfl) dX0_write_62 (JE_str 3 (JE.of (X' := (cX E, none)) (by decide +kernel) (Nat.le_of_ble_eq_true rfl) (fun _ z => by cases z) (?_)))
  refine b_toString B5 (by omega) (by omega) (fun s6 sx o6 O6 => ?_)
  refine J_ra ?_
  have O7 := O6.c (b := 3) (σ := σ5)
  have n6 : cNo σ (cDs 3 σ5 s6) := n5.ds
  have e6 : (cDs 3 σ5 s6).d 20 = some (q, .inr (7, bV .null (zI 0))) := by rw [cDs_d, if_neg (by omega)]; exact e5
  generalize cDs 3 σ5 s6 = σ6 at O7 n6 e6 ⊢
  refine J_shiftC 20 3 ?_
  refine J_eI (y := yJ10_init_2) (R' := (jR 9 1 (o.length + 16))) [.ref sx] 1 q997 q998 q119 q999 rfl (by decide +kernel) cX_1 ⟨Nat.le_of_ble_eq_true rfl, Nat.le_of_ble_eq_true rfl⟩ (by show ks + 2 + 1 ≤ 400 ∧ ns + 40 + (o.length + 16) ≤ 20000; omega) rfl (Nat.le_of_ble_eq_true rfl) dX0_write_65 (JE_str 3 (JE.of (X' := (cX E, none)) (by decide +kernel) (Nat.le_of_ble_eq_true rfl) (fun _ z => by cases z) (?_)))
  refine b_initS (σ := strW 3 _) (u := o) (sh20_0 e6) (OS.st (O7.up sh20_2 sh20_3)) (by omega) (fun s8 o8 B8 => ?_)
  refine J_rv ?_
  refine J_astore_n dX0_write_68 rfl (by decide) _ rfl ?_
  exact cl_write69 (N := 0) (o := o) hDt hr hd hS hO hm0 (cNo.ds (cNo.dd (cNo.dd n6))) B8.c hu hol ho1 (by show ks + 2 + 1 ≤ 20 ∧ ns + 40 + (o.length + 16) ≤ 200; omega) q0 q1
theorem c_write_bad {E : jEnv} {α : Nat → Nat} {σ : cS} {Q : Option Value → cS → Prop} {v : Int} (rv : zR v) (hv : ¬ (0 ≤ v ∧ v ≤ 3)) (hq : Q (some (.int (zI (-1)))) σ) : jX0_write E α 0 [some (.ref (α 0)), some (.int (zI (v))), none, none, none] [] σ Q := by
  refine J_iload_n dX0_write_0 rfl ?_
  refine CC_X0_isText (by decide) (by decide) (Nat.le_of_ble_eq_true rfl) dX0_write_1 ?_
  refine c_isText (by unfold zR at *; omega) (fun b1 => ?_) (fun b1 => ?_)
  · exfalso; omega
  · refine J_ri ?_
    refine J_if_ne_n (tgt := 9) dX0_write_4 (by decide) (by decide) ?_
    refine J_iconst (zI (-1)) dX0_write_7 rfl ?_
    exact J_iret rfl dX0_write_8 (by exact hq)
theorem c_write_no {E : jEnv} {α : Nat → Nat} {σ : cS} {Q : Option Value → cS → Prop} {many : Nat} {wide high bl : Int} {G : Nat → Nat → Int} {ad : Nat → Nat} {c : Nat → Nat → Int} {r : Nat} (hS : cSh many wide high bl G ad c σ) (hO : shOK many wide high bl G) (hr : r < 4) (hm0 : many = 0) (hq : Q (some (.int (zI (-4)))) σ) : jX0_write E α 0 [some (.ref (α 0)), some (.int (zI (r : Nat))), none, none, none] [] σ Q := by
  refine J_iload_n dX0_write_0 rfl ?_
  refine CC_X0_isText (by decide) (by decide) (Nat.le_of_ble_eq_true rfl) dX0_write_1 ?_
  refine c_isText (by unfold zR at *; omega) (fun b1 => ?_) (fun b1 => ?_)
  · refine J_ri ?_
    refine J_if_ne_y (tgt := 9) dX0_write_4 (by decide) (by decide) ?_
    refine J_aload_n dX0_write_9 rfl ?_
    refine CG_many dX0_write_10 ?_
    refine J_top (zI (many)) hS.1 ?_
    refine J_if_ne_z (tgt := 19) dX0_write_13 (by decide) (by unfold zR; omega) (fun c13 => ?_) (fun c13 => ?_)
    · exfalso; omega
    · skip
      refine J_bipush (zI (-4)) dX0_write_16 rfl ?_
      exact J_iret rfl dX0_write_18 (by exact hq)
  · exfalso; omega
theorem c_write {E : jEnv} {α : Nat → Nat} {σ : cS} {Q : Option Value → cS → Prop} {rs : Nat → Int} {rd : Nat → Nat → Int32} {ts : Nat → Int} {tb : Nat → Nat → Int} {many : Nat} {wide high bl : Int} {G : Nat → Nat → Int} {ad : Nat → Nat} {c : Nat → Nat → Int} {r : Nat}  (hDt : cDt rs rd ts tb σ) (hr : r < 4) (hd : ∀ j, σ.d j = none) (hS : cSh many wide high bl G ad c σ) (hO : shOK many wide high bl G) (hm0 : 0 < many) (q0 : 120 < (mOut many wide high bl G).length → Q (some (.int (zI (-6)))) σ) (q1 : (mOut many wide high bl G).length ≤ 120 → ∀ σ1, cT [] σ σ1 → cDt rs rd (upk ts r (mOut many wide high bl G).length) (upk tb r (fun i => (mOut many wide high bl G).getD i 0)) σ1 → Q (some (.int (zI ((mOut many wide high bl G).length : Nat)))) σ1)  : jX0_write E α 0 [some (.ref (α 0)), some (.int (zI (r : Nat))), none, none, none] [] σ Q := by
  have l1 : (([] : List Int) ++ sTx 6).length = ([] : List Int).length + (sTx 6).length := List.length_append
  have l2 : ((([] : List Int) ++ sTx 6) ++ dgs wide).length = (([] : List Int) ++ sTx 6).length + (dgs wide).length := List.length_append
  have l3 : (((([] : List Int) ++ sTx 6) ++ dgs wide) ++ sTx 7).length = ((([] : List Int) ++ sTx 6) ++ dgs wide).length + (sTx 7).length := List.length_append
  have l4 : ((((([] : List Int) ++ sTx 6) ++ dgs wide) ++ sTx 7) ++ dgs high).length = (((([] : List Int) ++ sTx 6) ++ dgs wide) ++ sTx 7).length + (dgs high).length := List.length_append
  have l5 : (((((([] : List Int) ++ sTx 6) ++ dgs wide) ++ sTx 7) ++ dgs high) ++ sTx 8).length = ((((([] : List Int) ++ sTx 6) ++ dgs wide) ++ sTx 7) ++ dgs high).length + (sTx 8).length := List.length_append
  have k6 : (sTx 6).length = 5 := rfl
  have k7 : (sTx 7).length = 1 := rfl
  have k8 : (sTx 8).length = 1 := rfl
  have l0 : ([] : List Int).length = 0 := rfl
  have dw := dgs_l wide
  have dh := dgs_l high
  have hm8 : many ≤ 8 := hO.1
  have hwh : 0 ≤ wide ∧ wide ≤ 16 ∧ 0 ≤ high ∧ high ≤ 16 := ⟨hO.2.1, hO.2.2.1, hO.2.2.2.1, hO.2.2.2.2.1⟩
  refine J_iload_n dX0_write_0 rfl ?_
  refine CC_X0_isText (by decide) (by decide) (Nat.le_of_ble_eq_true rfl) dX0_write_1 ?_
  refine c_isText (by unfold zR at *; omega) (fun b1 => ?_) (fun b1 => ?_)
  · refine J_ri ?_
    refine J_if_ne_y (tgt := 9) dX0_write_4 (by decide) (by decide) ?_
    refine J_aload_n dX0_write_9 rfl ?_
    refine CG_many dX0_write_10 ?_
    refine J_top (zI (many)) hS.1 ?_
    refine J_if_ne_z (tgt := 19) dX0_write_13 (by decide) (by unfold zR; omega) (fun c13 => ?_) (fun c13 => ?_)
    · skip
      refine J_new (σ' := fun q => cD σ 20 (some (q, .inr (7, bV .null (zI 0))))) (ci := 7) (N := 4) 220 tyJ10 rfl in_J10 tyJ10_ok q500 q501 q119 (by decide) (by first | omega | (simp only [jR]; done) | (simp only [jR]; omega)) (by first | omega | (simp only [jR]; done) | (simp only [jR]; omega)) (fun q => wC_D 20 _) dX0_write_19 (fun q => ?_)
      refine J_dup dX0_write_22 rfl ?_
      refine J_new (σ' := fun q2 => (cD (cD σ 20 (some (q, .inr (7, bV .null (zI 0))))) 3 (some (q2, .inr (7, bV .null (zI 0)))))) (ci := 7) (N := 4) 203 tyJ10 rfl in_J10 tyJ10_ok q500 q501 q119 (by decide) (by first | omega | (simp only [jR]; done) | (simp only [jR]; omega)) (by first | omega | (simp only [jR]; done) | (simp only [jR]; omega)) (fun q2 => wC_D 3 _) dX0_write_23 (fun q2 => ?_)
      refine J_dup dX0_write_26 rfl ?_
      refine J_eI (y := yJ10_init) (R' := (jR 3 1 16)) [] 0 q502 q503 q119 q504 rfl (by decide +kernel) cX_1 ⟨Nat.le_of_ble_eq_true rfl, Nat.le_of_ble_eq_true rfl⟩ ⟨(by first | omega | (simp only [jR]; done) | (simp only [jR]; omega)), (by first | omega | (simp only [jR]; done) | (simp only [jR]; omega))⟩ rfl (Nat.le_of_ble_eq_true rfl) dX0_write_27 (JE_str 3 (JE.of (X' := (cX E, none)) (by decide +kernel) (Nat.le_of_ble_eq_true rfl) (fun _ z => by cases z) (?_)))
      refine b_init (σ := strW 3 _) rfl (fun s0 o0 C0 => ?_)
      refine J_rv ?_
      have B0 := C0.c (b := 3) (σ := (cD (cD σ 20 (some (q, .inr (7, bV .null (zI 0))))) 3 (some (q2, .inr (7, bV .null (zI 0))))))
      have n0 : cNo σ (cDs 3 (cD (cD σ 20 (some (q, .inr (7, bV .null (zI 0))))) 3 (some (q2, .inr (7, bV .null (zI 0))))) s0) := (cNo.refl (σ := σ)).dd.dd.ds
      have e0 : (cDs 3 (cD (cD σ 20 (some (q, .inr (7, bV .null (zI 0))))) 3 (some (q2, .inr (7, bV .null (zI 0))))) s0).d 20 = some (q, .inr (7, bV .null (zI 0))) := by rw [cDs_d, if_neg (by omega)]; rfl
      generalize cDs 3 (cD (cD σ 20 (some (q, .inr (7, bV .null (zI 0))))) 3 (some (q2, .inr (7, bV .null (zI 0))))) s0 = σ0 at B0 n0 e0 ⊢
      refine J_ldcwS rfl (List.mem_of_getElem? (i := 6) rfl) dX0_write_30 ?_
      obtain ⟨va1, fa1, g1, -⟩ := id B0
      refine J_eV (y := yJ10_append_2) (R' := (jR 6 0 0)) [.ref (sA E 6)] 1 203 ((wC_d 3).trans g1) rfl q924 q925 q926 q119 q927 (by decide +kernel) cX_1 ⟨Nat.le_of_ble_eq_true rfl, Nat.le_of_ble_eq_true rfl⟩ ⟨(by first | omega | (simp only [jR]; done) | (simp only [jR]; omega)), (by first | omega | (simp only [jR]; done) | (simp only [jR]; omega))⟩ rfl (Nat.le_of_ble_eq_true rfl) dX0_write_33 (JE_str 3 (JE.of (X' := (cX E, none)) (by decide +kernel) (Nat.le_of_ble_eq_true rfl) (fun _ z => by cases z) (?_)))
      refine b_appS B0 (by omega) (StT.out 6 (by decide)) (by omega) (by omega) (fun h => absurd h (by omega)) (fun s1 o1 C1 => ?_)
      refine J_ra ?_
      have B1 := C1.c (b := 3) (σ := σ0)
      have L1 := B1.len
      rw [show bcap 16 (([] : List Int).length + (sTx 6).length) = 16 from if_pos (by omega)] at B1
      have n1 : cNo σ (cDs 3 σ0 s1) := n0.ds
      have e1 : (cDs 3 σ0 s1).d 20 = some (q, .inr (7, bV .null (zI 0))) := by rw [cDs_d, if_neg (by omega)]; exact e0
      generalize cDs 3 σ0 s1 = σ1 at B1 n1 e1 ⊢
      refine J_aload_n dX0_write_36 rfl ?_
      refine CG_wide dX0_write_37 ?_
      refine J_top (zI (wide)) (cNo.sh hS n1).2.1 ?_
      obtain ⟨va2, fa2, g2, -⟩ := id B1
      refine J_eV (y := yJ10_append_3) (R' := (jR 6 0 0)) [.int (zI wide)] 1 203 ((wC_d 3).trans g2) rfl q970 q971 q972 q119 q973 (by decide +kernel) cX_1 ⟨Nat.le_of_ble_eq_true rfl, Nat.le_of_ble_eq_true rfl⟩ ⟨(by first | omega | (simp only [jR]; done) | (simp only [jR]; omega)), (by first | omega | (simp only [jR]; done) | (simp only [jR]; omega))⟩ rfl (Nat.le_of_ble_eq_true rfl) dX0_write_40 (JE_str 3 (JE.of (X' := (cX E, none)) (by decide +kernel) (Nat.le_of_ble_eq_true rfl) (fun _ z => by cases z) (?_)))
      refine b_appI (z := wide) B1 (by omega) (by omega) (by omega) (fun h => absurd h (by omega)) (fun s2 o2 C2 => ?_)
      refine J_ra ?_
      have B2 := C2.c (b := 3) (σ := σ1)
      have L2 := B2.len
      rw [show bcap 16 ((([] : List Int) ++ sTx 6).length + (dgs wide).length) = 16 from if_pos (by omega)] at B2
      have n2 : cNo σ (cDs 3 σ1 s2) := n1.ds
      have e2 : (cDs 3 σ1 s2).d 20 = some (q, .inr (7, bV .null (zI 0))) := by rw [cDs_d, if_neg (by omega)]; exact e1
      generalize cDs 3 σ1 s2 = σ2 at B2 n2 e2 ⊢
      refine J_ldcwS rfl (List.mem_of_getElem? (i := 7) rfl) dX0_write_43 ?_
      obtain ⟨va3, fa3, g3, -⟩ := id B2
      refine J_eV (y := yJ10_append_2) (R' := (jR 6 0 0)) [.ref (sA E 7)] 1 203 ((wC_d 3).trans g3) rfl q924 q925 q926 q119 q927 (by decide +kernel) cX_1 ⟨Nat.le_of_ble_eq_true rfl, Nat.le_of_ble_eq_true rfl⟩ ⟨(by first | omega | (simp only [jR]; done) | (simp only [jR]; omega)), (by first | omega | (simp only [jR]; done) | (simp only [jR]; omega))⟩ rfl (Nat.le_of_ble_eq_true rfl) dX0_write_46 (JE_str 3 (JE.of (X' := (cX E, none)) (by decide +kernel) (Nat.le_of_ble_eq_true rfl) (fun _ z => by cases z) (?_)))
      refine b_appS B2 (by omega) (StT.out 7 (by decide)) (by omega) (by omega) (fun h => absurd h (by omega)) (fun s3 o3 C3 => ?_)
      refine J_ra ?_
      have B3 := C3.c (b := 3) (σ := σ2)
      have L3 := B3.len
      rw [show bcap 16 (((([] : List Int) ++ sTx 6) ++ dgs wide).length + (sTx 7).length) = 16 from if_pos (by omega)] at B3
      have n3 : cNo σ (cDs 3 σ2 s3) := n2.ds
      have e3 : (cDs 3 σ2 s3).d 20 = some (q, .inr (7, bV .null (zI 0))) := by rw [cDs_d, if_neg (by omega)]; exact e2
      generalize cDs 3 σ2 s3 = σ3 at B3 n3 e3 ⊢
      refine J_aload_n dX0_write_49 rfl ?_
      refine CG_high dX0_write_50 ?_
      refine J_top (zI (high)) (cNo.sh hS n3).2.2.1 ?_
      obtain ⟨va4, fa4, g4, -⟩ := id B3
      refine J_eV (y := yJ10_append_3) (R' := (jR 6 0 0)) [.int (zI high)] 1 203 ((wC_d 3).trans g4) rfl q970 q971 q972 q119 q973 (by decide +kernel) cX_1 ⟨Nat.le_of_ble_eq_true rfl, Nat.le_of_ble_eq_true rfl⟩ ⟨(by first | omega | (simp only [jR]; done) | (simp only [jR]; omega)), (by first | omega | (simp only [jR]; done) | (simp only [jR]; omega))⟩ rfl (Nat.le_of_ble_eq_true rfl) dX0_write_53 (JE_str 3 (JE.of (X' := (cX E, none)) (by decide +kernel) (Nat.le_of_ble_eq_true rfl) (fun _ z => by cases z) (?_)))
      refine b_appI (z := high) B3 (by omega) (by omega) (by omega) (fun h => absurd h (by omega)) (fun s4 o4 C4 => ?_)
      refine J_ra ?_
      have B4 := C4.c (b := 3) (σ := σ3)
      have L4 := B4.len
      rw [show bcap 16 ((((([] : List Int) ++ sTx 6) ++ dgs wide) ++ sTx 7).length + (dgs high).length) = 16 from if_pos (by omega)] at B4
      have n4 : cNo σ (cDs 3 σ3 s4) := n3.ds
      have e4 : (cDs 3 σ3 s4).d 20 = some (q, .inr (7, bV .null (zI 0))) := by rw [cDs_d, if_neg (by omega)]; exact e3
      generalize cDs 3 σ3 s4 = σ4 at B4 n4 e4 ⊢
      refine J_ldcwS rfl (List.mem_of_getElem? (i := 8) rfl) dX0_write_56 ?_
      obtain ⟨va5, fa5, g5, -⟩ := id B4
      refine J_eV (y := yJ10_append_2) (R' := (jR 6 0 0)) [.ref (sA E 8)] 1 203 ((wC_d 3).trans g5) rfl q924 q925 q926 q119 q927 (by decide +kernel) cX_1 ⟨Nat.le_of_ble_eq_true rfl, Nat.le_of_ble_eq_true rfl⟩ ⟨(by first | omega | (simp only [jR]; done) | (simp only [jR]; omega)), (by first | omega | (simp only [jR]; done) | (simp only [jR]; omega))⟩ rfl (Nat.le_of_ble_eq_true rfl) dX0_write_59 (JE_str 3 (JE.of (X' := (cX E, none)) (by decide +kernel) (Nat.le_of_ble_eq_true rfl) (fun _ z => by cases z) (?_)))
      refine b_appS B4 (by omega) (StT.out 8 (by decide)) (by omega) (by omega) (fun h => absurd h (by omega)) (fun s5 o5 C5 => ?_)
      refine J_ra ?_
      have B5 := C5.c (b := 3) (σ := σ4)
      have L5 := B5.len
      rw [show bcap 16 (((((([] : List Int) ++ sTx 6) ++ dgs wide) ++ sTx 7) ++ dgs high).length + (sTx 8).length) = 16 from if_pos (by omega)] at B5
      have n5 : cNo σ (cDs 3 σ4 s5) := n4.ds
      have e5 : (cDs 3 σ4 s5).d 20 = some (q, .inr (7, bV .null (zI 0))) := by rw [cDs_d, if_neg (by omega)]; exact e4
      generalize cDs 3 σ4 s5 = σ5 at B5 n5 e5 ⊢
      refine cl_write62 (N := 0) (o := (((((([] : List Int) ++ sTx 6) ++ dgs wide) ++ sTx 7) ++ dgs high) ++ sTx 8)) hDt hr hd hS hO hm0 n5 B5 e5 ?_ (by omega) ?_ (by simp only [jR]; omega) q0 q1
      · exact uR_app (uR_app (uR_app (uR_app (uR_app (fun x hx => by cases hx) (uR.t (by decide))) (dgs_R (by omega))) (uR.t (by decide))) (dgs_R (by omega))) (uR.t (by decide))
      · skip
        rw [mNo_dgs, mNo_dgs, show sTx 6 = [112, 97, 103, 101] ++ [32] from rfl, show sTx 7 = [32] from rfl, show sTx 8 = [59] from rfl]
        simp only [List.append_assoc, List.cons_append, List.nil_append]
    · exfalso; omega
  · exfalso; omega
