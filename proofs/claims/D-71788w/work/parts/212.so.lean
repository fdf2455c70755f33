set_option maxRecDepth 100000
/-! the component: write, whole -/
def shS (σ : cS) : cS := cD (cD (cD (cD σ 12 none) 5 (σ.d 12)) 13 none) 6 (σ.d 13)
theorem J_shS {E : jEnv} {α : Nat → Nat} {X : jX} {cc : ByteArray} {mL : Nat} {ret : Option FieldType} {own : String} {R : Room} {k n pc : Nat} {L : List (Option Value)} {st : List Value} {σ : cS} {Q : Option Value → cS → Prop} (kk : J E (wC E α) X cc mL ret own R k n pc L st (shS σ) Q) : J E (wC E α) X cc mL ret own R k n pc L st σ Q := J_shiftC 12 5 (J_shiftC 13 6 kk)
theorem shS_2 {σ : cS} : strW 3 (shS σ) 2 = strW 10 σ 2 := rfl
theorem shS_3 {σ : cS} : strW 3 (shS σ) 3 = strW 10 σ 3 := rfl
theorem shS_0 {σ : cS} {s : jW} : strW 3 (shS (cDs 10 σ s)) 0 = strW 3 σ 0 := by
  show (cDs 10 σ s).d 3 = σ.d 3
  rw [cDs_d, if_neg (by omega)]
theorem shS_1 {σ : cS} {s : jW} : strW 3 (shS (cDs 10 σ s)) 1 = strW 3 σ 1 := by
  show (cDs 10 σ s).d 4 = σ.d 4
  rw [cDs_d, if_neg (by omega)]
theorem shS_n {σ σ' : cS} (h : cNo σ σ') : cNo σ (shS σ') := h
theorem bud3_s {N q : Nat} (hN : 1 ≤ N) : ∃ kc m, (N < q → 1 ≤ kc ∧ bcap N q ≤ m) ∧ kc ≤ 1 ∧ m + 2 * N ≤ 2 * bcap N q := by
  by_cases z : q ≤ N
  · refine ⟨0, 0, fun h => absurd h (by omega), by omega, ?_⟩
    rw [show bcap N q = N from if_pos z]
    omega
  · refine ⟨1, bcap N q, fun _ => ⟨Nat.le_refl _, Nat.le_refl _⟩, by omega, ?_⟩
    unfold bcap
    rw [if_neg z]
    split <;> omega
theorem mNos7_l (g : Nat → Int) : (mNos g 7).length ≤ 18 := by
  have e : (mNos g 7).length = (mNo (g 1)).length + (mNo (g 2)).length + (mNo (g 3)).length + (mNo (g 4)).length + (mNo (g 5)).length + (mNo (g 6)).length := by
    simp only [mNos, List.length_append, List.length_nil, Nat.zero_add]
  rw [e]
  have h1 := mNo_l (g 1)
  have h2 := mNo_l (g 2)
  have h3 := mNo_l (g 3)
  have h4 := mNo_l (g 4)
  have h5 := mNo_l (g 5)
  have h6 := mNo_l (g 6)
  omega
theorem bcap_u {N q : Nat} : bcap N q ≤ N ∨ (N < q ∧ (bcap N q ≤ 2 * N + 2 ∨ bcap N q ≤ q)) := by
  unfold bcap
  split
  · omega
  · split <;> omega
theorem mKw6_l (k : Int) : (mKw k).length ≤ 6 := by
  unfold mKw
  split
  · simp
  · split
    · simp
    · split <;> simp
theorem uR_app {u v : List Int} (h : uR u) (g : uR v) : uR (u ++ v) := fun z hz => by
  rcases List.mem_append.mp hz with x | x
  · exact h z x
  · exact g z x
theorem uR_no {z : Int} (h : 0 ≤ z ∧ z ≤ 16) : uR (mNo z) := by
  rw [mNo_dgs]
  exact uR_app (u := [32]) (fun x hx => by simp only [List.mem_cons, List.not_mem_nil, or_false] at hx; omega) (dgs_R (by omega))
theorem uR_fr {G : Nat → Nat → Int} {f : Nat} (hk : 0 ≤ G f 0 ∧ G f 0 ≤ 3) (hg : ∀ k, 1 ≤ k → k ≤ 6 → 0 ≤ G f k ∧ G f k ≤ 16) : uR (mKw (G f 0) ++ mNos (G f) 7 ++ [59]) := by
  refine uR_app (uR_app ?_ ?_) (fun x hx => by simp only [List.mem_cons, List.not_mem_nil, or_false] at hx; omega)
  · rw [kw_T hk]; exact uR.t (by omega)
  · have n := fun k (h1 : 1 ≤ k) (h2 : k ≤ 6) => uR_no (hg k h1 h2)
    simp only [mNos]
    exact uR_app (uR_app (uR_app (uR_app (uR_app (uR_app (fun x hx => by cases hx) (n 1 (by decide) (by decide))) (n 2 (by decide) (by decide))) (n 3 (by decide) (by decide))) (n 4 (by decide) (by decide))) (n 5 (by decide) (by decide))) (n 6 (by decide) (by decide))
theorem cl_write98 {E : jEnv} {α : Nat → Nat} {σ : cS} {Q : Option Value → cS → Prop} {rs : Nat → Int} {rd : Nat → Nat → Int32} {ts : Nat → Int} {tb : Nat → Nat → Int} {r q N ks ns : Nat} {o : List Int} {many : Nat} {wide high bl : Int} {G : Nat → Nat → Int} {ad : Nat → Nat} {c : Nat → Nat → Int}  (hDt : cDt rs rd ts tb σ) (hr : r < 4) (hd : ∀ j, σ.d j = none) (hS : cSh many wide high bl G ad c σ) (hO : shOK many wide high bl G) (hu : uR o) (hol : o.length ≤ 20) (q0 : 120 < (o ++ mOutL G many).length → Q (some (.int (zI (-6)))) σ) (q1 : (o ++ mOutL G many).length ≤ 120 → ∀ σ1, cT [] σ σ1 → cDt rs rd (upk ts r (o ++ mOutL G many).length) (upk tb r (fun i => (o ++ mOutL G many).getD i 0)) σ1 → Q (some (.int (zI ((o ++ mOutL G many).length : Nat)))) σ1)  : ∀ (n : Nat) (f N ks ns : Nat) (σ2 : cS), f ≤ many → cNo σ σ2 → SB E (strW 3 σ2) q (o ++ mOutL G f) N → uR (mOutL G f) → (1 ≤ N ∧ N ≤ 600 ∧ ks ≤ 20 + 10 * f ∧ ns ≤ 300 + 200 * f + 2 * N) → many - f < n → J E (wC E α) (cX E, none) cX0_write 5 (some .int) RX0 (jR 11 400 20000) (ks) (ns) 98 [some (.ref (α 0)), some (.int (zI (r : Nat))), some (.ref q), some (.int (zI (f : Nat))), none] [] σ2 Q := by
  intro n
  induction n with
  | zero => intro f N ks ns σ2 h1 h2 h3 h4 h5 hn; exact absurd hn (Nat.not_lt_zero _)
  | succ n ih =>
    intro f N ks ns σ2 h1 h2 h3 h4 h5 hn
    have hS2 := cNo.sh hS h2
    have hml := mOutL_l G f
    have hm8 : many ≤ 8 := hO.1
    have hob := hO.2.2.2.2.2.2.2.2
    have hkn : ks ≤ 300 ∧ ns ≤ 15000 := by omega
    refine J_iload_n dX0_write_98 rfl ?_
    refine J_aload_n dX0_write_99 rfl ?_
    refine CG_many dX0_write_100 ?_
    refine J_top (zI (many)) hS2.1 ?_
    refine J_icmp_ge_z (tgt := 126) dX0_write_103 (by decide) (by unfold zR; omega) (by unfold zR; omega) (fun c103 => ?_) (fun c103 => ?_)
    · skip
      obtain rfl : f = many := by omega
      refine J_fg (L' := [some (.ref (α 0)), some (.int (zI (r : Nat))), some (.ref q), none, none]) (by repeat' constructor) ?_
      exact cl_write126 hDt hr hd h2 h3 (by omega) (uR_app hu h4) hkn q0 q1
    · skip
      have hf : f < many := by omega
      have hgf := hob f hf
      have hkd : 0 ≤ G f 0 ∧ G f 0 ≤ 3 := by omega
      have hg : ∀ k, 1 ≤ k → k ≤ 6 → 0 ≤ G f k ∧ G f k ≤ 16 := fun k k1 k2 => by
        obtain rfl | rfl | rfl | rfl | rfl | rfl : k = 1 ∨ k = 2 ∨ k = 3 ∨ k = 4 ∨ k = 5 ∨ k = 6 := by omega
        all_goals omega
      refine J_aload_n dX0_write_106 rfl ?_
      refine J_aload_n dX0_write_107 rfl ?_
      refine CG_frames dX0_write_108 ?_
      refine J_iload_n dX0_write_111 rfl ?_
      refine CA_fr (hS2.2.2.2.2 _ hf) (by omega) (by omega) dX0_write_112 ?_
      refine CV_written (G := G) (c := c f) (by omega) (hS2.w hf hm8) hkd hg (by decide) (by show ks + 6 ≤ 400 ∧ ns + 200 ≤ 20000; omega) (Nat.le_of_ble_eq_true rfl) dX0_write_113 (fun s2 s O1 => ?_)
      refine J_shS ?_
      have O2 : OS E (strW 3 (shS (cDs 10 σ2 s2))) s (mKw (G f 0) ++ mNos (G f) 7 ++ [59]) (zI 0) (zI 0) := O1.up shS_2 shS_3
      have B2 : SB E (strW 3 (shS (cDs 10 σ2 s2))) q (o ++ mOutL G f) N := h3.up shS_0 shS_1
      have hl1 : (o ++ mOutL G f).length = o.length + (mOutL G f).length := List.length_append
      have hl2 : (mKw (G f 0) ++ mNos (G f) 7 ++ [59]).length ≤ 25 := by
        have a1 := mKw6_l (G f 0)
        have a2 := mNos7_l (G f)
        simp only [List.length_append, List.length_cons, List.length_nil]
        omega
      obtain ⟨kc, m, hm, hk1, hm1⟩ := bud3_s (N := N) (q := (o ++ mOutL G f).length + (mKw (G f 0) ++ mNos (G f) 7 ++ [59]).length) h5.1
      have hcu := @bcap_u N ((o ++ mOutL G f).length + (mKw (G f 0) ++ mNos (G f) 7 ++ [59]).length)
      have hcb := @bcap_b N ((o ++ mOutL G f).length + (mKw (G f 0) ++ mNos (G f) 7 ++ [59]).length)
      obtain ⟨va, fa, g0, -⟩ := id B2
      refine J_eV (y := yJ10_append_2) (R' := (jR 6 kc m)) [.ref s] 1 203 ((wC_d 3).trans g0) rfl q924 q925 q926 q119 q927 (by decide +kernel) cX_1 ⟨Nat.le_of_ble_eq_true rfl, Nat.le_of_ble_eq_true rfl⟩ (by show ks + 6 + kc ≤ 400 ∧ ns + 200 + m ≤ 20000; omega) rfl (Nat.le_of_ble_eq_true rfl) dX0_write_116 (JE_str 3 (JE.of (X' := (cX E, none)) (by decide +kernel) (Nat.le_of_ble_eq_true rfl) (fun _ z => by cases z) (?_)))
      refine b_appS B2 (by omega) O2.st (by omega) (by omega) hm (fun s3 o3 B3 => ?_)
      refine J_ra ?_
      refine J_pop dX0_write_119 rfl ?_
      refine J_iinc_z ((((f + 1)) : Nat) : Int) (by omega) dX0_write_120 rfl rfl (by decide) _ rfl ?_
      refine J_goto (tgt := 98) dX0_write_123 (by decide) ?_
      have e9 : o ++ mOutL G (f + 1) = (o ++ mOutL G f) ++ (mKw (G f 0) ++ mNos (G f) 7 ++ [59]) := by rw [mOutL]; simp only [List.append_assoc]
      refine ih (f + 1) (bcap N ((o ++ mOutL G f).length + (mKw (G f 0) ++ mNos (G f) 7 ++ [59]).length)) (ks + 6 + kc) (ns + 200 + m) _ (by omega) ?_ ?_ (uR_app h4 (uR_fr hkd hg)) (by omega) (by omega)
      · exact (shS_n h2.ds).ds
      · rw [e9]; exact B3.c
