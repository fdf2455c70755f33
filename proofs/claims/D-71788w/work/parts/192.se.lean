set_option maxRecDepth 100000
/-! strings: the StringBuilder grows -/
def bTx (t : List Int) (N : Nat) (f : Nat → Int32) : Prop := t.length ≤ N ∧ (∀ i, i < t.length → f i = zI (t.getD i 0)) ∧ ∀ i, fits .byte (.int (f i)) = true
/-- but for roles 0, 1, 4 nothing changes; 4 is free -/
def bO (σ σ' : jW) : Prop := (∀ r, r ≠ 0 → r ≠ 1 → r ≠ 4 → σ' r = σ r) ∧ σ' 4 = none
theorem bO.trans {a b c : jW} (h : bO a b) (g : bO b c) : bO a c := ⟨fun r h0 h1 h4 => (g.1 r h0 h1 h4).trans (h.1 r h0 h1 h4), g.2⟩
theorem bO.u0 {a b : jW} {x : Option (Nat × jE)} (h : bO a b) : bO a (j_up b 0 x) := ⟨fun r h0 h1 h4 => (if_neg h0).trans (h.1 r h0 h1 h4), h.2⟩
theorem bO.u1 {a b : jW} {x : Option (Nat × jE)} (h : bO a b) : bO a (j_up b 1 x) := ⟨fun r h0 h1 h4 => (if_neg h1).trans (h.1 r h0 h1 h4), h.2⟩
theorem sbS_b {E : jEnv} {σ : jW} {a va N : Nat} {n : Int32} {f : Nat → Int32} : bO σ (sbS E σ a va N n f) := ⟨fun r h0 h1 h4 => sbS_o ⟨h0, h1, h4⟩, rfl⟩
theorem jSt.bO {E : jEnv} {σ σ' : jW} {a va n : Nat} {g : Nat → Int32} (x : jSt E σ a va n g) (h : bO σ σ') : jSt E σ' a va n g := x.up (h.1 2 (by decide) (by decide) (by decide)) (h.1 3 (by decide) (by decide) (by decide))
/-- a StringBuilder at a with the text t, its array of size N -/
def SB (E : jEnv) (σ : jW) (a : Nat) (t : List Int) (N : Nat) : Prop := ∃ va f, σ 0 = some (a, .inr (7, bV (.ref va) (zI (t.length : Nat)))) ∧ σ 1 = some (va, bA E N f) ∧ bTx t N f
/-- a String at s with the text u -/
def StT (E : jEnv) (σ : jW) (s : Nat) (u : List Int) : Prop := ∃ sv g, jSt E σ s sv u.length g ∧ (∀ i, i < u.length → g i = zI (u.getD i 0)) ∧ ∀ i, i < u.length → fits .byte (.int (g i)) = true
theorem StT.bO {E : jEnv} {σ σ' : jW} {s : Nat} {u : List Int} (x : StT E σ s u) (h : bO σ σ') : StT E σ' s u := by
  obtain ⟨sv, g, h1, h2⟩ := x
  exact ⟨sv, g, h1.bO h, h2⟩
theorem fits_z {z : Int} (h : -128 ≤ z ∧ z ≤ 127) : fits .byte (.int (zI z)) = true := by
  rw [← by8_s h]; exact pk_fb _
theorem bTx_app {t u : List Int} {N N' : Nat} {f f' f2 : Nat → Int32} (h : bTx t N f) (he : ∀ i, i < N → f' i = f i) (hN : t.length + u.length ≤ N') (h2 : ∀ i, f2 i = if t.length ≤ i ∧ i < t.length + u.length then zI (u.getD (i - t.length) 0) else f' i) (hf : ∀ i, fits .byte (.int (f2 i)) = true) : bTx (t ++ u) N' f2 := by
  refine ⟨by rw [List.length_append]; exact hN, fun i hi => ?_, hf⟩
  rw [List.length_append] at hi
  rw [h2]
  by_cases z : t.length ≤ i
  · rw [if_pos ⟨z, hi⟩]
    congr 1
    simp only [List.getD_eq_getElem?_getD]
    rw [List.getElem?_append_right z]
  · rw [if_neg (by omega), he i (by have := h.1; omega), h.2.1 i (by omega)]
    congr 1
    simp only [List.getD_eq_getElem?_getD]
    rw [List.getElem?_append_left (by omega)]
theorem StT.out {E : jEnv} {σ : jW} (i : Nat) (hi : i < 10) : StT E σ (sA E i) (sTx i) := by
  refine ⟨sB E i, _, jSt.out i hi, fun j _ => rfl, fun j hj => ?_⟩
  refine fits_z ?_
  have h : ∀ i : Fin 10, ∀ z ∈ sTx i.val, -128 ≤ z ∧ z ≤ 127 := by decide +kernel
  rw [List.getD_eq_getElem?_getD, List.getElem?_eq_getElem hj]
  exact h ⟨i, hi⟩ _ (List.getElem_mem hj)
theorem b_ensure {E : jEnv} {o : Option MethodName} {σ : jW} {Q : Option Value → jW → Prop} {a va N q m kc : Nat} {c : Int32} {f : Nat → Int32}  (h0 : σ 0 = some (a, .inr (7, bV (.ref va) c))) (h1 : σ 1 = some (va, bA E N f)) (hfit : ∀ i, fits .byte (.int (f i)) = true) (hN : N ≤ 10000) (hq0 : q ≤ 10000) (hm : N < q → 1 ≤ kc ∧ bcap N q ≤ m) (hq : ∀ σ' va' f', bO σ σ' → σ' 0 = some (a, .inr (7, bV (.ref va') c)) → σ' 1 = some (va', bA E (bcap N q) f') → (∀ i, i < N → f' i = f i) → (∀ i, fits .byte (.int (f' i)) = true) → Q none σ')  : J E wI (cX E, o) cJ9_ensureCapacityInternal 3 none RJ9 (jR 4 kc m) (0) (0) 0 [some (.ref a), some (.int (zI (q : Nat))), none] [] σ Q := by
  have hb := @bcap_b N q
  refine J_aload_n dJ9_ensureCapacityInternal_0 rfl ?_
  refine BG_value h0 dJ9_ensureCapacityInternal_1 ?_
  refine JG_alen (Or.inl ⟨1, h1⟩) dJ9_ensureCapacityInternal_4 ?_
  refine J_aload_n dJ9_ensureCapacityInternal_5 rfl ?_
  refine BG_coder h0 dJ9_ensureCapacityInternal_6 ?_
  refine J_ishr dJ9_ensureCapacityInternal_9 ?_
  refine J_top (zI ((N : Nat) : Int)) (sh_r _) ?_
  refine J_istore_n dJ9_ensureCapacityInternal_10 rfl (by decide) _ rfl ?_
  refine J_iload_n dJ9_ensureCapacityInternal_11 rfl ?_
  refine J_iload_n dJ9_ensureCapacityInternal_12 rfl ?_
  refine J_isub_z dJ9_ensureCapacityInternal_13 ?_
  refine J_if_le_z (tgt := 38) dJ9_ensureCapacityInternal_14 (by decide) (by unfold zR; omega) (fun c14 => ?_) (fun c14 => ?_)
  · skip
    refine J_sbS h0 h1 ?_
    exact J_vret rfl dJ9_ensureCapacityInternal_38 (by exact hq _ va f sbS_b rfl (by rw [show bcap N q = N from if_pos (by omega)]; rfl) (fun _ _ => rfl) hfit)
  · skip
    have hm2 := hm (by omega)
    refine J_aload_n dJ9_ensureCapacityInternal_17 rfl ?_
    refine J_aload_n dJ9_ensureCapacityInternal_18 rfl ?_
    refine BG_value h0 dJ9_ensureCapacityInternal_19 ?_
    refine J_aload_n dJ9_ensureCapacityInternal_22 rfl ?_
    refine J_iload_n dJ9_ensureCapacityInternal_23 rfl ?_
    refine J_eP (y := yJ9_newCapacity) (R' := (jR 3 0 0)) [.int (zI ((q : Nat) : Int))] 1 0 h0 rfl q547 q2109 (fun A s h => h.1 _ q548 rfl) q549 q118 q550 (by decide +kernel) cX_1 ⟨Nat.le_of_ble_eq_true rfl, Nat.le_of_ble_eq_true rfl⟩ ⟨(by first | omega | (simp only [jR]; done) | (simp only [jR]; omega)), (by first | omega | (simp only [jR]; done) | (simp only [jR]; omega))⟩ rfl (Nat.le_of_ble_eq_true rfl) dJ9_ensureCapacityInternal_24 (JE.of (X' := (cX E, none)) (by decide +kernel) (Nat.le_of_ble_eq_true rfl) (fun _ z => by cases z) ?_)
    refine b_newCap h0 h1 hN (by omega) ?_
    refine J_ri ?_
    refine J_aload_n dJ9_ensureCapacityInternal_27 rfl ?_
    refine BG_coder h0 dJ9_ensureCapacityInternal_28 ?_
    refine J_ishl dJ9_ensureCapacityInternal_31 ?_
    refine J_top (zI ((bcap N q : Nat) : Int)) (sh_l _) ?_
    refine J_eS (y := yJ14_copyOf) (R' := (jR 2 1 (bcap N q))) [.ref va, .int (zI ((bcap N q : Nat) : Int))] 2 q562 q563 q123 q564 (by decide +kernel) cX_1 ⟨Nat.le_of_ble_eq_true rfl, Nat.le_of_ble_eq_true rfl⟩ ⟨(by first | omega | (simp only [jR]; done) | (simp only [jR]; omega)), (by first | omega | (simp only [jR]; done) | (simp only [jR]; omega))⟩ rfl (Nat.le_of_ble_eq_true rfl) dJ9_ensureCapacityInternal_32 (JE.of (X' := (cX E, none)) (by decide +kernel) (Nat.le_of_ble_eq_true rfl) (fun _ z => by cases z) ?_)
    refine b_copyOf h1 hfit (by omega) (fun v' => ?_)
    refine J_ra ?_
    refine BP_value h0 dJ9_ensureCapacityInternal_35 ?_
    refine J_shift 4 1 ?_
    exact J_vret rfl dJ9_ensureCapacityInternal_38 (by exact hq _ v' _ ⟨fun r r0 r1 r4 => by simp [j_up, r0, r1, r4], rfl⟩ rfl rfl (fun i hi => va_cpy_0 hi) (fun i => by unfold va_cpy; split; exact hfit _; rfl))
theorem bTx_push {t : List Int} {N N' : Nat} {f f' : Nat → Int32} {z : Int} (h : bTx t N f) (he : ∀ i, i < N → f' i = f i) (hf : ∀ i, fits .byte (.int (f' i)) = true) (hN : t.length + 1 ≤ N') (hz : -128 ≤ z ∧ z ≤ 127) : bTx (t ++ [z]) N' (upd f' t.length (zI z).toInt8.toInt32.toInt8.toInt32) := by
  refine bTx_app h he hN (fun i => ?_) (fun i => ?_)
  · by_cases hi : i = t.length
    · subst hi
      rw [upd_s, by8_s hz, by8_s hz, if_pos (by simp)]
      simp
    · rw [upd_n hi, if_neg (by simp only [List.length_cons, List.length_nil]; omega)]
  · by_cases hi : i = t.length
    · subst hi; rw [upd_s]; exact pk_fb _
    · rw [upd_n hi]; exact hf i
theorem b_appC9 {E : jEnv} {o : Option MethodName} {σ : jW} {Q : Option Value → jW → Prop} {a N m kc : Nat} {t : List Int} {z : Int}  (hB : SB E σ a t N) (hN : N ≤ 4000) (ht : t.length ≤ 4000) (hz : 0 ≤ z ∧ z ≤ 127) (hm : N < t.length + 1 → 1 ≤ kc ∧ bcap N (t.length + 1) ≤ m) (hq : ∀ σ', bO σ σ' → SB E σ' a (t ++ [z]) (bcap N (t.length + 1)) → Q (some (.ref a)) σ')  : J E wI (cX E, o) cJ9_append 2 (some (.object "java/lang/AbstractStringBuilder")) RJ9 (jR 5 kc m) (0) (0) 0 [some (.ref a), some (.int (zI (z)))] [] σ Q := by
  obtain ⟨va, f, h0, h1, hT⟩ := hB
  have hb := @bcap_b N (t.length + 1)
  refine J_aload_n dJ9_append_0 rfl ?_
  refine J_aload_n dJ9_append_1 rfl ?_
  refine BG_count h0 dJ9_append_2 ?_
  refine J_iconst (zI 1) dJ9_append_5 rfl ?_
  refine J_iadd_z dJ9_append_6 ?_
  refine J_top (zI ((t.length + 1 : Nat) : Int)) (congrArg zI (by omega)) ?_
  refine J_eP (y := yJ9_ensureCapacityInternal) (R' := (jR 4 kc m)) [.int (zI ((t.length + 1 : Nat) : Int))] 1 0 h0 rfl q543 q2108 (fun A s h => h.1 _ q544 rfl) q545 q118 q546 (by decide +kernel) cX_1 ⟨Nat.le_of_ble_eq_true rfl, Nat.le_of_ble_eq_true rfl⟩ ⟨(by first | omega | (simp only [jR]; done) | (simp only [jR]; omega)), (by first | omega | (simp only [jR]; done) | (simp only [jR]; omega))⟩ rfl (Nat.le_of_ble_eq_true rfl) dJ9_append_7 (JE.of (X' := (cX E, none)) (by decide +kernel) (Nat.le_of_ble_eq_true rfl) (fun _ z => by cases z) ?_)
  refine b_ensure (q := t.length + 1) h0 h1 hT.2.2 (by omega) (by omega) hm (fun σ1 va1 f1 o1 g0 g1 e1 ft1 => ?_)
  refine J_rv ?_
  refine J_aload_n dJ9_append_10 rfl ?_
  refine J_eU (y := yJ9_isLatin1) (R' := (jR 1 0 0)) (owner := RJ9) (x := yJ9_isLatin1) [] 0 0 g0 rfl q576 q578 q579 q577 q118 q580 rfl (by decide +kernel) cX_1 ⟨Nat.le_of_ble_eq_true rfl, Nat.le_of_ble_eq_true rfl⟩ ⟨(by first | omega | (simp only [jR]; done) | (simp only [jR]; omega)), (by first | omega | (simp only [jR]; done) | (simp only [jR]; omega))⟩ rfl (Nat.le_of_ble_eq_true rfl) dJ9_append_11 (JE.of (X' := (cX E, none)) (by decide +kernel) (Nat.le_of_ble_eq_true rfl) (fun _ z => by cases z) ?_)
  refine b_isL g0 ?_
  refine J_ri ?_
  refine J_if_eq_n (tgt := 45) dJ9_append_14 (by decide) (by decide) ?_
  refine J_iload_n dJ9_append_17 rfl ?_
  refine J_eS (y := yJ15_canEncode) (R' := (jR 1 0 0)) [.int (zI (z))] 1 q581 q582 q124 q583 (by decide +kernel) cX_1 ⟨Nat.le_of_ble_eq_true rfl, Nat.le_of_ble_eq_true rfl⟩ ⟨(by first | omega | (simp only [jR]; done) | (simp only [jR]; omega)), (by first | omega | (simp only [jR]; done) | (simp only [jR]; omega))⟩ rfl (Nat.le_of_ble_eq_true rfl) dJ9_append_18 (JE.of (X' := (cX E, none)) (by decide +kernel) (Nat.le_of_ble_eq_true rfl) (fun _ z => by cases z) ?_)
  refine b_canEnc (by omega) ?_
  refine J_ri ?_
  refine J_if_eq_n (tgt := 45) dJ9_append_21 (by decide) (by decide) ?_
  refine J_aload_n dJ9_append_24 rfl ?_
  refine BG_value g0 dJ9_append_25 ?_
  refine J_aload_n dJ9_append_28 rfl ?_
  refine J_dup dJ9_append_29 rfl ?_
  refine BG_count g0 dJ9_append_30 ?_
  refine J_dup_x1 dJ9_append_33 rfl rfl ?_
  refine J_iconst (zI 1) dJ9_append_34 rfl ?_
  refine J_iadd_z dJ9_append_35 ?_
  refine BP_count g0 dJ9_append_36 ?_
  refine J_iload_n dJ9_append_39 rfl ?_
  refine J_i2b dJ9_append_40 ?_
  refine JB_bast t.length g1 rfl (by omega) (by omega) dJ9_append_41 ?_
  refine J_goto (tgt := 75) dJ9_append_42 (by decide) ?_
  refine J_aload_n dJ9_append_75 rfl ?_
  exact J_aret rfl dJ9_append_76 (by exact hq _ o1.u0.u1 ⟨va1, _, (by rw [show (t ++ [z]).length = t.length + 1 by simp]; rfl), rfl, bTx_push hT e1 ft1 hb.1 (by omega)⟩)
theorem b_coder {E : jEnv} {o : Option MethodName} {σ : jW} {Q : Option Value → jW → Prop} {s sv sn : Nat} {g : Nat → Int32}  (hs : jSt E σ s sv sn g) (hq : Q (some (.int (zI 0))) σ)  : J E wI (cX E, o) cJ4_coder 1 (some .byte) RJ4 (jR 1 0 0) (0) (0) 0 [some (.ref s)] [] σ Q := by
  obtain ⟨hh, hhz, hs0⟩ := hs.g0
  have hs1 := hs.g1
  refine J_gets rfl (List.mem_of_getElem? (i := 0) rfl) q664 dJ4_coder_0 ?_
  refine J_if_eq_n (tgt := 13) dJ4_coder_3 (by decide) (by decide) ?_
  refine J_aload_n dJ4_coder_6 rfl ?_
  refine SG_coder hs0 dJ4_coder_7 ?_
  refine J_goto (tgt := 14) dJ4_coder_10 (by decide) ?_
  exact J_nret rfl dJ4_coder_14 rfl (by exact hq)
theorem b_isL4 {E : jEnv} {o : Option MethodName} {σ : jW} {Q : Option Value → jW → Prop} {s sv sn : Nat} {g : Nat → Int32}  (hs : jSt E σ s sv sn g) (hq : Q (some (.int (zI 1))) σ)  : J E wI (cX E, o) cJ4_isLatin1 1 (some .boolean) RJ4 (jR 1 0 0) (0) (0) 0 [some (.ref s)] [] σ Q := by
  obtain ⟨hh, hhz, hs0⟩ := hs.g0
  have hs1 := hs.g1
  refine J_gets rfl (List.mem_of_getElem? (i := 0) rfl) q664 dJ4_isLatin1_0 ?_
  refine J_if_eq_n (tgt := 17) dJ4_isLatin1_3 (by decide) (by decide) ?_
  refine J_aload_n dJ4_isLatin1_6 rfl ?_
  refine SG_coder hs0 dJ4_isLatin1_7 ?_
  refine J_if_ne_n (tgt := 17) dJ4_isLatin1_10 (by decide) (by decide) ?_
  refine J_iconst (zI 1) dJ4_isLatin1_13 rfl ?_
  refine J_goto (tgt := 18) dJ4_isLatin1_14 (by decide) ?_
  exact J_zret rfl dJ4_isLatin1_18 rfl (by exact hq)
theorem b_strlen {E : jEnv} {o : Option MethodName} {σ : jW} {Q : Option Value → jW → Prop} {s sv sn : Nat} {g : Nat → Int32}  (hs : jSt E σ s sv sn g) (hq : Q (some (.int (zI (sn : Nat)))) σ)  : J E wI (cX E, o) cJ4_length 1 (some .int) RJ4 (jR 2 0 0) (0) (0) 0 [some (.ref s)] [] σ Q := by
  obtain ⟨hh, hhz, hs0⟩ := hs.g0
  have hs1 := hs.g1
  refine J_aload_n dJ4_length_0 rfl ?_
  refine SG_value hs0 dJ4_length_1 ?_
  refine JG_alen hs1 dJ4_length_4 ?_
  refine J_aload_n dJ4_length_5 rfl ?_
  refine JG_eV (y := yJ4_coder) (R' := (jR 1 0 0)) [] 0 rfl hs0 rfl q951 q952 q953 q112 q954 (by decide +kernel) cX_1 ⟨Nat.le_of_ble_eq_true rfl, Nat.le_of_ble_eq_true rfl⟩ ⟨(by first | omega | (simp only [jR]; done) | (simp only [jR]; omega)), (by first | omega | (simp only [jR]; done) | (simp only [jR]; omega))⟩ rfl (Nat.le_of_ble_eq_true rfl) dJ4_length_6 (JE.of (X' := (cX E, none)) (by decide +kernel) (Nat.le_of_ble_eq_true rfl) (fun _ z => by cases z) ?_)
  refine b_coder hs ?_
  refine J_ri ?_
  refine J_ishr dJ4_length_9 ?_
  refine J_top (zI ((sn : Nat) : Int)) (sh_r _) ?_
  exact J_iret rfl dJ4_length_10 (by exact hq)
theorem b_getBytes {E : jEnv} {o : Option MethodName} {σ : jW} {Q : Option Value → jW → Prop} {s sv sn : Nat} {g : Nat → Int32} {va N p : Nat} {f : Nat → Int32}  (hs : jSt E σ s sv sn g) (h1 : σ 1 = some (va, bA E N f)) (hfit : ∀ i, i < sn → fits .byte (.int (g i)) = true) (hp : p + sn ≤ N) (hN : N ≤ 10000) (hq : Q none (j_up σ 1 (some (va, bA E N (va_cpy g f 0 p sn)))))  : J E wI (cX E, o) cJ4_getBytes 4 none RJ4 (jR 2 0 0) (0) (0) 0 [some (.ref s), some (.ref va), some (.int (zI (p : Nat))), some (.int (zI 0))] [] σ Q := by
  obtain ⟨hh, hhz, hs0⟩ := hs.g0
  have hs1 := hs.g1
  refine J_aload_n dJ4_getBytes_0 rfl ?_
  refine JG_eV (y := yJ4_coder) (R' := (jR 1 0 0)) [] 0 rfl hs0 rfl q951 q952 q953 q112 q954 (by decide +kernel) cX_1 ⟨Nat.le_of_ble_eq_true rfl, Nat.le_of_ble_eq_true rfl⟩ ⟨(by first | omega | (simp only [jR]; done) | (simp only [jR]; omega)), (by first | omega | (simp only [jR]; done) | (simp only [jR]; omega))⟩ rfl (Nat.le_of_ble_eq_true rfl) dJ4_getBytes_1 (JE.of (X' := (cX E, none)) (by decide +kernel) (Nat.le_of_ble_eq_true rfl) (fun _ z => by cases z) ?_)
  refine b_coder hs ?_
  refine J_ri ?_
  refine J_iload_n dJ4_getBytes_4 rfl ?_
  refine J_icmp_ne_n (tgt := 28) dJ4_getBytes_5 (by decide) (by decide) ?_
  refine J_aload_n dJ4_getBytes_8 rfl ?_
  refine SG_value hs0 dJ4_getBytes_9 ?_
  refine J_iconst (zI 0) dJ4_getBytes_12 rfl ?_
  refine J_aload_n dJ4_getBytes_13 rfl ?_
  refine J_iload_n dJ4_getBytes_14 rfl ?_
  refine J_iload_n dJ4_getBytes_15 rfl ?_
  refine J_ishl dJ4_getBytes_16 ?_
  refine J_top (zI ((p : Nat) : Int)) (sh_l _) ?_
  refine J_aload_n dJ4_getBytes_17 rfl ?_
  refine SG_value hs0 dJ4_getBytes_18 ?_
  refine JG_alen hs1 dJ4_getBytes_21 ?_
  refine JG_acopy (σ' := j_up σ 1 (some (va, bA E N (va_cpy g f 0 p sn)))) (sp := 0) (dp := p) (cn := sn) (ty := .byte) 1 1 hs1 h1 rfl rfl (fun i hi => by rw [Nat.zero_add]; exact hfit i hi) (by omega) (by omega) ⟨by omega, by omega⟩ q968 q446 q445 q116 ⟨Nat.le_of_ble_eq_true rfl, Nat.le_of_ble_eq_true rfl⟩ (Nat.le_of_ble_eq_true rfl) rfl dJ4_getBytes_22 ?_
  refine J_goto (tgt := 43) dJ4_getBytes_25 (by decide) ?_
  exact J_vret rfl dJ4_getBytes_43 (by exact hq)
theorem b_infl {E : jEnv} {o : Option MethodName} {σ : jW} {Q : Option Value → jW → Prop} {s sv sn : Nat} {g : Nat → Int32} {a : Nat} {v : Value} {c : Int32}  (h0 : σ 0 = some (a, .inr (7, bV v c))) (hs : jSt E σ s sv sn g) (hq : Q none σ)  : J E wI (cX E, o) cJ9_inflateIfNeededFor 2 none RJ9 (jR 2 0 0) (0) (0) 0 [some (.ref a), some (.ref s)] [] σ Q := by
  obtain ⟨hh, hhz, hs0⟩ := hs.g0
  have hs1 := hs.g1
  refine J_gets rfl (List.mem_of_getElem? (i := 0) rfl) q509 dJ9_inflateIfNeededFor_0 ?_
  refine J_if_eq_n (tgt := 21) dJ9_inflateIfNeededFor_3 (by decide) (by decide) ?_
  refine J_aload_n dJ9_inflateIfNeededFor_6 rfl ?_
  refine BG_coder h0 dJ9_inflateIfNeededFor_7 ?_
  refine J_aload_n dJ9_inflateIfNeededFor_10 rfl ?_
  refine JG_eV (y := yJ4_coder) (R' := (jR 1 0 0)) [] 0 rfl hs0 rfl q963 q952 q953 q112 q954 (by decide +kernel) cX_1 ⟨Nat.le_of_ble_eq_true rfl, Nat.le_of_ble_eq_true rfl⟩ ⟨(by first | omega | (simp only [jR]; done) | (simp only [jR]; omega)), (by first | omega | (simp only [jR]; done) | (simp only [jR]; omega))⟩ rfl (Nat.le_of_ble_eq_true rfl) dJ9_inflateIfNeededFor_11 (JE.of (X' := (cX E, none)) (by decide +kernel) (Nat.le_of_ble_eq_true rfl) (fun _ z => by cases z) ?_)
  refine b_coder hs ?_
  refine J_ri ?_
  refine J_icmp_eq_y (tgt := 21) dJ9_inflateIfNeededFor_14 (by decide) (by decide) ?_
  exact J_vret rfl dJ9_inflateIfNeededFor_21 (by exact hq)
theorem b_putStr {E : jEnv} {o : Option MethodName} {σ : jW} {Q : Option Value → jW → Prop} {s sv sn : Nat} {g : Nat → Int32} {a va N p : Nat} {c : Int32} {f : Nat → Int32}  (h0 : σ 0 = some (a, .inr (7, bV (.ref va) c))) (hs : jSt E σ s sv sn g) (h1 : σ 1 = some (va, bA E N f)) (hfit : ∀ i, i < sn → fits .byte (.int (g i)) = true) (hp : p + sn ≤ N) (hN : N ≤ 10000) (hq : Q none (j_up σ 1 (some (va, bA E N (va_cpy g f 0 p sn)))))  : J E wI (cX E, o) cJ9_putStringAt 3 none RJ9 (jR 3 0 0) (0) (0) 0 [some (.ref a), some (.int (zI (p : Nat))), some (.ref s)] [] σ Q := by
  obtain ⟨hh, hhz, hs0⟩ := hs.g0
  have hs1 := hs.g1
  refine J_aload_n dJ9_putStringAt_0 rfl ?_
  refine J_aload_n dJ9_putStringAt_1 rfl ?_
  refine J_eP (y := yJ9_inflateIfNeededFor) (R' := (jR 2 0 0)) [.ref s] 1 0 h0 rfl q959 q2114 (fun A s h => h.1 _ q960 rfl) q961 q118 q962 (by decide +kernel) cX_1 ⟨Nat.le_of_ble_eq_true rfl, Nat.le_of_ble_eq_true rfl⟩ ⟨(by first | omega | (simp only [jR]; done) | (simp only [jR]; omega)), (by first | omega | (simp only [jR]; done) | (simp only [jR]; omega))⟩ rfl (Nat.le_of_ble_eq_true rfl) dJ9_putStringAt_2 (JE.of (X' := (cX E, none)) (by decide +kernel) (Nat.le_of_ble_eq_true rfl) (fun _ z => by cases z) ?_)
  refine b_infl h0 hs ?_
  refine J_rv ?_
  refine J_aload_n dJ9_putStringAt_5 rfl ?_
  refine J_aload_n dJ9_putStringAt_6 rfl ?_
  refine BG_value h0 dJ9_putStringAt_7 ?_
  refine J_iload_n dJ9_putStringAt_10 rfl ?_
  refine J_aload_n dJ9_putStringAt_11 rfl ?_
  refine BG_coder h0 dJ9_putStringAt_12 ?_
  refine JG_eV (y := yJ4_getBytes) (R' := (jR 2 0 0)) [.ref va, .int (zI ((p : Nat) : Int)), .int (zI 0)] 3 rfl hs0 rfl q964 q965 q966 q112 q967 (by decide +kernel) cX_1 ⟨Nat.le_of_ble_eq_true rfl, Nat.le_of_ble_eq_true rfl⟩ ⟨(by first | omega | (simp only [jR]; done) | (simp only [jR]; omega)), (by first | omega | (simp only [jR]; done) | (simp only [jR]; omega))⟩ rfl (Nat.le_of_ble_eq_true rfl) dJ9_putStringAt_15 (JE.of (X' := (cX E, none)) (by decide +kernel) (Nat.le_of_ble_eq_true rfl) (fun _ z => by cases z) ?_)
  refine b_getBytes hs h1 hfit hp hN ?_
  refine J_rv ?_
  exact J_vret rfl dJ9_putStringAt_18 (by exact hq)
theorem b_appS9 {E : jEnv} {o : Option MethodName} {σ : jW} {Q : Option Value → jW → Prop} {a N m kc s : Nat} {t u : List Int}  (hB : SB E σ a t N) (hN : N ≤ 4000) (hu : StT E σ s u) (ht : t.length ≤ 2000) (hul : u.length ≤ 2000) (hm : N < t.length + u.length → 1 ≤ kc ∧ bcap N (t.length + u.length) ≤ m) (hq : ∀ σ', bO σ σ' → SB E σ' a (t ++ u) (bcap N (t.length + u.length)) → Q (some (.ref a)) σ')  : J E wI (cX E, o) cJ9_append_2 3 (some (.object "java/lang/AbstractStringBuilder")) RJ9 (jR 5 kc m) (0) (0) 0 [some (.ref a), some (.ref s), none] [] σ Q := by
  obtain ⟨va, f, h0, h1, hT⟩ := hB
  obtain ⟨sv, g, hs, hg, hfg⟩ := hu
  obtain ⟨hh, hhz, hs0⟩ := hs.g0
  have hs1 := hs.g1
  have hb := @bcap_b N (t.length + u.length)
  refine J_aload_n dJ9_append_2_0 rfl ?_
  refine J_ifnonnull (tgt := 9) dJ9_append_2_1 (by decide) ?_
  refine J_aload_n dJ9_append_2_9 rfl ?_
  refine JG_eV (y := yJ4_length) (R' := (jR 2 0 0)) [] 0 rfl hs0 rfl q947 q948 q949 q112 q950 (by decide +kernel) cX_1 ⟨Nat.le_of_ble_eq_true rfl, Nat.le_of_ble_eq_true rfl⟩ ⟨(by first | omega | (simp only [jR]; done) | (simp only [jR]; omega)), (by first | omega | (simp only [jR]; done) | (simp only [jR]; omega))⟩ rfl (Nat.le_of_ble_eq_true rfl) dJ9_append_2_10 (JE.of (X' := (cX E, none)) (by decide +kernel) (Nat.le_of_ble_eq_true rfl) (fun _ z => by cases z) ?_)
  refine b_strlen hs ?_
  refine J_ri ?_
  refine J_istore_n dJ9_append_2_13 rfl (by decide) _ rfl ?_
  refine J_aload_n dJ9_append_2_14 rfl ?_
  refine J_aload_n dJ9_append_2_15 rfl ?_
  refine BG_count h0 dJ9_append_2_16 ?_
  refine J_iload_n dJ9_append_2_19 rfl ?_
  refine J_iadd_z dJ9_append_2_20 ?_
  refine J_top (zI ((t.length + u.length : Nat) : Int)) (congrArg zI (by omega)) ?_
  refine J_eP (y := yJ9_ensureCapacityInternal) (R' := (jR 4 kc m)) [.int (zI ((t.length + u.length : Nat) : Int))] 1 0 h0 rfl q543 q2108 (fun A s h => h.1 _ q544 rfl) q545 q118 q546 (by decide +kernel) cX_1 ⟨Nat.le_of_ble_eq_true rfl, Nat.le_of_ble_eq_true rfl⟩ ⟨(by first | omega | (simp only [jR]; done) | (simp only [jR]; omega)), (by first | omega | (simp only [jR]; done) | (simp only [jR]; omega))⟩ rfl (Nat.le_of_ble_eq_true rfl) dJ9_append_2_21 (JE.of (X' := (cX E, none)) (by decide +kernel) (Nat.le_of_ble_eq_true rfl) (fun _ z => by cases z) ?_)
  refine b_ensure (q := t.length + u.length) h0 h1 hT.2.2 (by omega) (by omega) hm (fun σ1 va1 f1 o1 g0 g1 e1 ft1 => ?_)
  have hs2 := hs.bO o1
  refine J_rv ?_
  refine J_aload_n dJ9_append_2_24 rfl ?_
  refine J_aload_n dJ9_append_2_25 rfl ?_
  refine BG_count g0 dJ9_append_2_26 ?_
  refine J_aload_n dJ9_append_2_29 rfl ?_
  refine J_eP (y := yJ9_putStringAt) (R' := (jR 3 0 0)) [.int (zI ((t.length : Nat) : Int)), .ref s] 2 0 g0 rfl q955 q2113 (fun A s h => h.1 _ q956 rfl) q957 q118 q958 (by decide +kernel) cX_1 ⟨Nat.le_of_ble_eq_true rfl, Nat.le_of_ble_eq_true rfl⟩ ⟨(by first | omega | (simp only [jR]; done) | (simp only [jR]; omega)), (by first | omega | (simp only [jR]; done) | (simp only [jR]; omega))⟩ rfl (Nat.le_of_ble_eq_true rfl) dJ9_append_2_30 (JE.of (X' := (cX E, none)) (by decide +kernel) (Nat.le_of_ble_eq_true rfl) (fun _ z => by cases z) ?_)
  refine b_putStr g0 hs2 g1 hfg (by omega) (by omega) ?_
  refine J_rv ?_
  refine J_aload_n dJ9_append_2_33 rfl ?_
  refine J_dup dJ9_append_2_34 rfl ?_
  refine BG_count g0 dJ9_append_2_35 ?_
  refine J_iload_n dJ9_append_2_38 rfl ?_
  refine J_iadd_z dJ9_append_2_39 ?_
  refine BP_count g0 dJ9_append_2_40 ?_
  refine J_aload_n dJ9_append_2_43 rfl ?_
  refine J_aret rfl dJ9_append_2_44 ?_
  refine hq _ o1.u1.u0 ⟨va1, _, (by rw [show (t ++ u).length = t.length + u.length by simp]; rfl), rfl, bTx_app hT e1 hb.1 (fun i => ?_) (fun i => ?_)⟩
  · unfold va_cpy
    by_cases z : t.length ≤ i ∧ i < t.length + u.length
    · rw [if_pos z, if_pos z, Nat.zero_add, hg _ (by omega)]
    · rw [if_neg z, if_neg z]
  · unfold va_cpy
    split
    · exact hfg _ (by omega)
    · exact ft1 i
/-- a number's figures (0 .. 99) -/
def dgs (z : Int) : List Int := if 9 < z then [48 + z / 10, 48 + z % 10] else [48 + z % 10]
theorem dgs_1 {z : Int} (h : z < 10) : dgs z = [48 + z % 10] := if_neg (by omega)
theorem dgs_2 {z : Int} (h : 10 ≤ z) : dgs z = [48 + z / 10, 48 + z % 10] := if_pos (by omega)
theorem mNo_dgs (z : Int) : mNo z = 32 :: dgs z := by
  unfold mNo dgs
  split <;> rfl
theorem bTx_a {t : List Int} {f1 f2 : Nat → Int32} {x : Int} (h : ∀ i, f2 i = if i = t.length + 1 - 1 then zI x else f1 i) : ∀ i, f2 i = if t.length ≤ i ∧ i < t.length + [x].length then zI ([x].getD (i - t.length) 0) else f1 i := by
  intro i
  rw [h]
  by_cases z : i = t.length
  · subst z
    rw [if_pos (by omega), if_pos (by simp)]
    simp
  · rw [if_neg (by omega), if_neg (by simp only [List.length_cons, List.length_nil]; omega)]
theorem bTx_b {t : List Int} {f1 f2 : Nat → Int32} {x y : Int} (h : ∀ i, f2 i = if i = t.length + 2 - 1 then zI y else if i = t.length + 2 - 2 then zI x else f1 i) : ∀ i, f2 i = if t.length ≤ i ∧ i < t.length + [x, y].length then zI ([x, y].getD (i - t.length) 0) else f1 i := by
  intro i
  rw [h]
  by_cases z : i = t.length
  · subst z
    rw [if_neg (by omega), if_pos (by omega), if_pos (by simp)]
    simp
  · by_cases z2 : i = t.length + 1
    · subst z2
      rw [if_pos (by omega), if_pos (by simp)]
      simp
    · rw [if_neg (by omega), if_neg (by omega), if_neg (by simp only [List.length_cons, List.length_nil]; omega)]
theorem b_appI9 {E : jEnv} {o : Option MethodName} {σ : jW} {Q : Option Value → jW → Prop} {a N m kc : Nat} {t : List Int} {z : Int}  (hB : SB E σ a t N) (hN : N ≤ 4000) (ht : t.length ≤ 4000) (hz : 0 ≤ z ∧ z < 100) (hm : N < t.length + (dgs z).length → 1 ≤ kc ∧ bcap N (t.length + (dgs z).length) ≤ m) (hq : ∀ σ', bO σ σ' → SB E σ' a (t ++ dgs z) (bcap N (t.length + (dgs z).length)) → Q (some (.ref a)) σ')  : J E wI (cX E, o) cJ9_append_3 4 (some (.object "java/lang/AbstractStringBuilder")) RJ9 (jR 5 kc m) (0) (0) 0 [some (.ref a), some (.int (zI (z))), none, none] [] σ Q := by
  obtain ⟨va, f, h0, h1, hT⟩ := hB
  refine J_aload_n dJ9_append_3_0 rfl ?_
  refine BG_count h0 dJ9_append_3_1 ?_
  refine J_istore_n dJ9_append_3_4 rfl (by decide) _ rfl ?_
  refine J_iload_n dJ9_append_3_5 rfl ?_
  refine J_iload_n dJ9_append_3_6 rfl ?_
  refine J_eS (y := yJ17_stringSize) (R' := (jR 1 0 0)) [.int (zI (z))] 1 q977 q978 q134 q979 (by decide +kernel) cX_1 ⟨Nat.le_of_ble_eq_true rfl, Nat.le_of_ble_eq_true rfl⟩ ⟨(by first | omega | (simp only [jR]; done) | (simp only [jR]; omega)), (by first | omega | (simp only [jR]; done) | (simp only [jR]; omega))⟩ rfl (Nat.le_of_ble_eq_true rfl) dJ9_append_3_7 (JE.of (X' := (cX E, none)) (by decide +kernel) (Nat.le_of_ble_eq_true rfl) (fun _ z => by cases z) ?_)
  refine b_size hz (fun hz1 => ?_) (fun hz1 => ?_)
  · refine J_ri ?_
    have hd := dgs_1 hz1
    have hl : (dgs z).length = 1 := by rw [hd]; rfl
    rw [hl] at hm hq
    have hb := @bcap_b N (t.length + 1)
    refine J_iadd_z dJ9_append_3_10 ?_
    refine J_top (zI ((t.length + 1 : Nat) : Int)) (congrArg zI (by omega)) ?_
    refine J_istore_n dJ9_append_3_11 rfl (by decide) _ rfl ?_
    refine J_aload_n dJ9_append_3_12 rfl ?_
    refine J_iload_n dJ9_append_3_13 rfl ?_
    refine J_eP (y := yJ9_ensureCapacityInternal) (R' := (jR 4 kc m)) [.int (zI ((t.length + 1 : Nat) : Int))] 1 0 h0 rfl q543 q2108 (fun A s h => h.1 _ q544 rfl) q545 q118 q546 (by decide +kernel) cX_1 ⟨Nat.le_of_ble_eq_true rfl, Nat.le_of_ble_eq_true rfl⟩ ⟨(by first | omega | (simp only [jR]; done) | (simp only [jR]; omega)), (by first | omega | (simp only [jR]; done) | (simp only [jR]; omega))⟩ rfl (Nat.le_of_ble_eq_true rfl) dJ9_append_3_14 (JE.of (X' := (cX E, none)) (by decide +kernel) (Nat.le_of_ble_eq_true rfl) (fun _ z => by cases z) ?_)
    refine b_ensure (q := t.length + 1) h0 h1 hT.2.2 (by omega) (by omega) hm (fun σ1 va1 f1 o1 g0 g1 e1 ft1 => ?_)
    refine J_rv ?_
    refine J_aload_n dJ9_append_3_17 rfl ?_
    refine J_eU (y := yJ9_isLatin1) (R' := (jR 1 0 0)) (owner := RJ9) (x := yJ9_isLatin1) [] 0 0 g0 rfl q576 q578 q579 q577 q118 q580 rfl (by decide +kernel) cX_1 ⟨Nat.le_of_ble_eq_true rfl, Nat.le_of_ble_eq_true rfl⟩ ⟨(by first | omega | (simp only [jR]; done) | (simp only [jR]; omega)), (by first | omega | (simp only [jR]; done) | (simp only [jR]; omega))⟩ rfl (Nat.le_of_ble_eq_true rfl) dJ9_append_3_18 (JE.of (X' := (cX E, none)) (by decide +kernel) (Nat.le_of_ble_eq_true rfl) (fun _ z => by cases z) ?_)
    refine b_isL g0 ?_
    refine J_ri ?_
    refine J_if_eq_n (tgt := 37) dJ9_append_3_21 (by decide) (by decide) ?_
    refine J_iload_n dJ9_append_3_24 rfl ?_
    refine J_iload_n dJ9_append_3_25 rfl ?_
    refine J_aload_n dJ9_append_3_26 rfl ?_
    refine BG_value g0 dJ9_append_3_27 ?_
    refine J_eS (y := yJ17_getChars) (R' := (jR 1 0 0)) [.int (zI (z)), .int (zI ((t.length + 1 : Nat) : Int)), .ref va1] 3 q980 q981 q134 q982 (by decide +kernel) cX_1 ⟨Nat.le_of_ble_eq_true rfl, Nat.le_of_ble_eq_true rfl⟩ ⟨(by first | omega | (simp only [jR]; done) | (simp only [jR]; omega)), (by first | omega | (simp only [jR]; done) | (simp only [jR]; omega))⟩ rfl (Nat.le_of_ble_eq_true rfl) dJ9_append_3_30 (JE.of (X' := (cX E, none)) (by decide +kernel) (Nat.le_of_ble_eq_true rfl) (fun _ z => by cases z) ?_)
    refine b_chars (p := t.length + 1) hz g1 (by omega) (by omega) (fun hz2 f2 hf2 => ?_) (fun hz2 f2 hf2 => ?_)
    · refine J_ri ?_
      skip
      refine J_pop dJ9_append_3_33 rfl ?_
      refine J_goto (tgt := 48) dJ9_append_3_34 (by decide) ?_
      refine J_aload_n dJ9_append_3_48 rfl ?_
      refine J_iload_n dJ9_append_3_49 rfl ?_
      refine BP_count g0 dJ9_append_3_50 ?_
      refine J_aload_n dJ9_append_3_53 rfl ?_
      refine J_aret rfl dJ9_append_3_54 ?_
      refine hq _ o1.u1.u0 ⟨va1, _, ?_, rfl, ?_⟩
      · rw [List.length_append, hl]; rfl
      · rw [hd]
        refine bTx_app hT e1 (by simp only [List.length_cons, List.length_nil]; omega) (bTx_a hf2) (fun i => ?_)
        rw [hf2]
        split
        · exact fits_z (by omega)
        · exact ft1 i
    · exact absurd hz2 (by omega)
  · refine J_ri ?_
    have hd := dgs_2 hz1
    have hl : (dgs z).length = 2 := by rw [hd]; rfl
    rw [hl] at hm hq
    have hb := @bcap_b N (t.length + 2)
    refine J_iadd_z dJ9_append_3_10 ?_
    refine J_top (zI ((t.length + 2 : Nat) : Int)) (congrArg zI (by omega)) ?_
    refine J_istore_n dJ9_append_3_11 rfl (by decide) _ rfl ?_
    refine J_aload_n dJ9_append_3_12 rfl ?_
    refine J_iload_n dJ9_append_3_13 rfl ?_
    refine J_eP (y := yJ9_ensureCapacityInternal) (R' := (jR 4 kc m)) [.int (zI ((t.length + 2 : Nat) : Int))] 1 0 h0 rfl q543 q2108 (fun A s h => h.1 _ q544 rfl) q545 q118 q546 (by decide +kernel) cX_1 ⟨Nat.le_of_ble_eq_true rfl, Nat.le_of_ble_eq_true rfl⟩ ⟨(by first | omega | (simp only [jR]; done) | (simp only [jR]; omega)), (by first | omega | (simp only [jR]; done) | (simp only [jR]; omega))⟩ rfl (Nat.le_of_ble_eq_true rfl) dJ9_append_3_14 (JE.of (X' := (cX E, none)) (by decide +kernel) (Nat.le_of_ble_eq_true rfl) (fun _ z => by cases z) ?_)
    refine b_ensure (q := t.length + 2) h0 h1 hT.2.2 (by omega) (by omega) hm (fun σ1 va1 f1 o1 g0 g1 e1 ft1 => ?_)
    refine J_rv ?_
    refine J_aload_n dJ9_append_3_17 rfl ?_
    refine J_eU (y := yJ9_isLatin1) (R' := (jR 1 0 0)) (owner := RJ9) (x := yJ9_isLatin1) [] 0 0 g0 rfl q576 q578 q579 q577 q118 q580 rfl (by decide +kernel) cX_1 ⟨Nat.le_of_ble_eq_true rfl, Nat.le_of_ble_eq_true rfl⟩ ⟨(by first | omega | (simp only [jR]; done) | (simp only [jR]; omega)), (by first | omega | (simp only [jR]; done) | (simp only [jR]; omega))⟩ rfl (Nat.le_of_ble_eq_true rfl) dJ9_append_3_18 (JE.of (X' := (cX E, none)) (by decide +kernel) (Nat.le_of_ble_eq_true rfl) (fun _ z => by cases z) ?_)
    refine b_isL g0 ?_
    refine J_ri ?_
    refine J_if_eq_n (tgt := 37) dJ9_append_3_21 (by decide) (by decide) ?_
    refine J_iload_n dJ9_append_3_24 rfl ?_
    refine J_iload_n dJ9_append_3_25 rfl ?_
    refine J_aload_n dJ9_append_3_26 rfl ?_
    refine BG_value g0 dJ9_append_3_27 ?_
    refine J_eS (y := yJ17_getChars) (R' := (jR 1 0 0)) [.int (zI (z)), .int (zI ((t.length + 2 : Nat) : Int)), .ref va1] 3 q980 q981 q134 q982 (by decide +kernel) cX_1 ⟨Nat.le_of_ble_eq_true rfl, Nat.le_of_ble_eq_true rfl⟩ ⟨(by first | omega | (simp only [jR]; done) | (simp only [jR]; omega)), (by first | omega | (simp only [jR]; done) | (simp only [jR]; omega))⟩ rfl (Nat.le_of_ble_eq_true rfl) dJ9_append_3_30 (JE.of (X' := (cX E, none)) (by decide +kernel) (Nat.le_of_ble_eq_true rfl) (fun _ z => by cases z) ?_)
    refine b_chars (p := t.length + 2) hz g1 (by omega) (by omega) (fun hz2 f2 hf2 => ?_) (fun hz2 f2 hf2 => ?_)
    · exact absurd hz2 (by omega)
    · refine J_ri ?_
      skip
      refine J_pop dJ9_append_3_33 rfl ?_
      refine J_goto (tgt := 48) dJ9_append_3_34 (by decide) ?_
      refine J_aload_n dJ9_append_3_48 rfl ?_
      refine J_iload_n dJ9_append_3_49 rfl ?_
      refine BP_count g0 dJ9_append_3_50 ?_
      refine J_aload_n dJ9_append_3_53 rfl ?_
      refine J_aret rfl dJ9_append_3_54 ?_
      refine hq _ o1.u1.u0 ⟨va1, _, ?_, rfl, ?_⟩
      · rw [List.length_append, hl]; rfl
      · rw [hd]
        refine bTx_app hT e1 (by simp only [List.length_cons, List.length_nil]; omega) (bTx_b hf2) (fun i => ?_)
        rw [hf2]
        split
        · exact fits_z (by omega)
        · split
          · exact fits_z (by omega)
          · exact ft1 i
theorem b_appC {E : jEnv} {o : Option MethodName} {σ : jW} {Q : Option Value → jW → Prop} {a N m kc : Nat} {t : List Int} {z : Int}  (hB : SB E σ a t N) (hN : N ≤ 4000) (ht : t.length ≤ 4000) (hz : 0 ≤ z ∧ z ≤ 127) (hm : N < t.length + 1 → 1 ≤ kc ∧ bcap N (t.length + 1) ≤ m) (hq : ∀ σ', bO σ σ' → SB E σ' a (t ++ [z]) (bcap N (t.length + 1)) → Q (some (.ref a)) σ')  : J E wI (cX E, o) cJ10_append 2 (some (.object "java/lang/StringBuilder")) RJ10 (jR 6 kc m) (0) (0) 0 [some (.ref a), some (.int (zI (z)))] [] σ Q := by
  obtain ⟨va, f, h0, h1, hT⟩ := id hB
  refine J_aload_n dJ10_append_0 rfl ?_
  refine J_iload_n dJ10_append_1 rfl ?_
  refine J_eSU (y := yJ9_append) (R' := (jR 5 kc m)) (owner := RJ9) (x := yJ9_append) [.int (zI (z))] 1 0 h0 rfl q540 q2107 q535 q541 q118 q542 rfl (Or.inl rfl) (by decide +kernel) (by decide +kernel) cX_1 ⟨Nat.le_of_ble_eq_true rfl, Nat.le_of_ble_eq_true rfl⟩ ⟨(by first | omega | (simp only [jR]; done) | (simp only [jR]; omega)), (by first | omega | (simp only [jR]; done) | (simp only [jR]; omega))⟩ rfl (Nat.le_of_ble_eq_true rfl) dJ10_append_2 (JE.of (X' := (cX E, none)) (by decide +kernel) (Nat.le_of_ble_eq_true rfl) (fun _ z => by cases z) ?_)
  refine b_appC9 hB hN ht hz hm (fun σ1 o1 B1 => ?_)
  refine J_ra ?_
  refine J_pop dJ10_append_5 rfl ?_
  refine J_aload_n dJ10_append_6 rfl ?_
  exact J_aret rfl dJ10_append_7 (by exact hq _ o1 B1)
theorem b_appI {E : jEnv} {o : Option MethodName} {σ : jW} {Q : Option Value → jW → Prop} {a N m kc : Nat} {t : List Int} {z : Int}  (hB : SB E σ a t N) (hN : N ≤ 4000) (ht : t.length ≤ 4000) (hz : 0 ≤ z ∧ z < 100) (hm : N < t.length + (dgs z).length → 1 ≤ kc ∧ bcap N (t.length + (dgs z).length) ≤ m) (hq : ∀ σ', bO σ σ' → SB E σ' a (t ++ dgs z) (bcap N (t.length + (dgs z).length)) → Q (some (.ref a)) σ')  : J E wI (cX E, o) cJ10_append_3 2 (some (.object "java/lang/StringBuilder")) RJ10 (jR 6 kc m) (0) (0) 0 [some (.ref a), some (.int (zI (z)))] [] σ Q := by
  obtain ⟨va, f, h0, h1, hT⟩ := id hB
  refine J_aload_n dJ10_append_3_0 rfl ?_
  refine J_iload_n dJ10_append_3_1 rfl ?_
  refine J_eSU (y := yJ9_append_3) (R' := (jR 5 kc m)) (owner := RJ9) (x := yJ9_append_3) [.int (zI (z))] 1 0 h0 rfl q974 q2115 q535 q975 q118 q976 rfl (Or.inl rfl) (by decide +kernel) (by decide +kernel) cX_1 ⟨Nat.le_of_ble_eq_true rfl, Nat.le_of_ble_eq_true rfl⟩ ⟨(by first | omega | (simp only [jR]; done) | (simp only [jR]; omega)), (by first | omega | (simp only [jR]; done) | (simp only [jR]; omega))⟩ rfl (Nat.le_of_ble_eq_true rfl) dJ10_append_3_2 (JE.of (X' := (cX E, none)) (by decide +kernel) (Nat.le_of_ble_eq_true rfl) (fun _ z => by cases z) ?_)
  refine b_appI9 hB hN ht hz hm (fun σ1 o1 B1 => ?_)
  refine J_ra ?_
  refine J_pop dJ10_append_3_5 rfl ?_
  refine J_aload_n dJ10_append_3_6 rfl ?_
  exact J_aret rfl dJ10_append_3_7 (by exact hq _ o1 B1)
theorem b_appS {E : jEnv} {o : Option MethodName} {σ : jW} {Q : Option Value → jW → Prop} {a N m kc s : Nat} {t u : List Int}  (hB : SB E σ a t N) (hN : N ≤ 4000) (hu : StT E σ s u) (ht : t.length ≤ 2000) (hul : u.length ≤ 2000) (hm : N < t.length + u.length → 1 ≤ kc ∧ bcap N (t.length + u.length) ≤ m) (hq : ∀ σ', bO σ σ' → SB E σ' a (t ++ u) (bcap N (t.length + u.length)) → Q (some (.ref a)) σ')  : J E wI (cX E, o) cJ10_append_2 2 (some (.object "java/lang/StringBuilder")) RJ10 (jR 6 kc m) (0) (0) 0 [some (.ref a), some (.ref s)] [] σ Q := by
  obtain ⟨va, f, h0, h1, hT⟩ := id hB
  refine J_aload_n dJ10_append_2_0 rfl ?_
  refine J_aload_n dJ10_append_2_1 rfl ?_
  refine J_eSU (y := yJ9_append_2) (R' := (jR 5 kc m)) (owner := RJ9) (x := yJ9_append_2) [.ref s] 1 0 h0 rfl q928 q2111 q535 q929 q118 q930 rfl (Or.inl rfl) (by decide +kernel) (by decide +kernel) cX_1 ⟨Nat.le_of_ble_eq_true rfl, Nat.le_of_ble_eq_true rfl⟩ ⟨(by first | omega | (simp only [jR]; done) | (simp only [jR]; omega)), (by first | omega | (simp only [jR]; done) | (simp only [jR]; omega))⟩ rfl (Nat.le_of_ble_eq_true rfl) dJ10_append_2_2 (JE.of (X' := (cX E, none)) (by decide +kernel) (Nat.le_of_ble_eq_true rfl) (fun _ z => by cases z) ?_)
  refine b_appS9 hB hN hu ht hul hm (fun σ1 o1 B1 => ?_)
  refine J_ra ?_
  refine J_pop dJ10_append_2_5 rfl ?_
  refine J_aload_n dJ10_append_2_6 rfl ?_
  exact J_aret rfl dJ10_append_2_7 (by exact hq _ o1 B1)
theorem b_appS4 {E : jEnv} {o : Option MethodName} {σ : jW} {Q : Option Value → jW → Prop} {a N m kc s : Nat} {t u : List Int}  (hB : SB E σ a t N) (hN : N ≤ 4000) (hu : StT E σ s u) (ht : t.length ≤ 2000) (hul : u.length ≤ 2000) (hm : N < t.length + u.length → 1 ≤ kc ∧ bcap N (t.length + u.length) ≤ m) (hq : ∀ σ', bO σ σ' → SB E σ' a (t ++ u) (bcap N (t.length + u.length)) → Q (some (.ref a)) σ')  : J E wI (cX E, o) cJ10_append_4 2 (some (.object "java/lang/AbstractStringBuilder")) RJ10 (jR 7 kc m) (0) (0) 0 [some (.ref a), some (.ref s)] [] σ Q := by
  obtain ⟨va, f, h0, h1, hT⟩ := id hB
  refine J_aload_n dJ10_append_4_0 rfl ?_
  refine J_aload_n dJ10_append_4_1 rfl ?_
  refine J_eV (y := yJ10_append_2) (R' := (jR 6 kc m)) [.ref s] 1 0 h0 rfl q1007 q925 q926 q119 q927 (by decide +kernel) cX_1 ⟨Nat.le_of_ble_eq_true rfl, Nat.le_of_ble_eq_true rfl⟩ ⟨(by first | omega | (simp only [jR]; done) | (simp only [jR]; omega)), (by first | omega | (simp only [jR]; done) | (simp only [jR]; omega))⟩ rfl (Nat.le_of_ble_eq_true rfl) dJ10_append_4_2 (JE.of (X' := (cX E, none)) (by decide +kernel) (Nat.le_of_ble_eq_true rfl) (fun _ z => by cases z) ?_)
  refine b_appS hB hN hu ht hul hm (fun σ1 o1 B1 => ?_)
  refine J_ra ?_
  exact J_aret rfl dJ10_append_4_5 (by exact hq _ o1 B1)
theorem b_init9 {E : jEnv} {o : Option MethodName} {σ : jW} {Q : Option Value → jW → Prop} {a q : Nat}  (h0 : σ 0 = some (a, .inr (7, bV .null (zI 0)))) (hq0 : q ≤ 1000) (hq : ∀ σ', bO σ σ' → SB E σ' a [] q → Q none σ')  : J E wI (cX E, o) cJ9_init 2 none RJ9 (jR 2 1 q) (0) (0) 0 [some (.ref a), some (.int (zI (q : Nat)))] [] σ Q := by
  refine J_aload_n dJ9_init_0 rfl ?_
  refine J_objInit q508 q144 q145 (Nat.le_of_ble_eq_true rfl) ⟨Nat.le_of_ble_eq_true rfl, Nat.le_of_ble_eq_true rfl⟩ dJ9_init_1 ?_
  refine J_gets rfl (List.mem_of_getElem? (i := 0) rfl) q509 dJ9_init_4 ?_
  refine J_if_eq_n (tgt := 25) dJ9_init_7 (by decide) (by decide) ?_
  refine J_aload_n dJ9_init_10 rfl ?_
  refine J_iload_n dJ9_init_11 rfl ?_
  refine J_newa_byte (σ' := fun b => j_up σ 4 (some (b, bA E (q) (fun _ => zI 0)))) 4 (q) q363 rfl (by omega) (by first | omega | (simp only [jR]; done) | (simp only [jR]; omega)) (by first | omega | (simp only [jR]; done) | (simp only [jR]; omega)) (fun b => rfl) dJ9_init_12 (fun b => ?_)
  refine BP_value h0 dJ9_init_14 ?_
  refine J_shift 4 1 ?_
  refine J_aload_n dJ9_init_17 rfl ?_
  refine J_iconst (zI 0) dJ9_init_18 rfl ?_
  refine BP_coder rfl dJ9_init_19 ?_
  refine J_goto (tgt := 38) dJ9_init_22 (by decide) ?_
  exact J_vret rfl dJ9_init_38 (by exact hq _ ⟨fun r r0 r1 r4 => by simp [j_up, r0, r1, r4], rfl⟩ ⟨b, fun _ => zI 0, rfl, rfl, ⟨Nat.zero_le _, fun i hi => absurd hi (Nat.not_lt_zero _), fun _ => rfl⟩⟩)
theorem b_init {E : jEnv} {o : Option MethodName} {σ : jW} {Q : Option Value → jW → Prop} {a : Nat}  (h0 : σ 0 = some (a, .inr (7, bV .null (zI 0)))) (hq : ∀ σ', bO σ σ' → SB E σ' a [] 16 → Q none σ')  : J E wI (cX E, o) cJ10_init 1 none RJ10 (jR 3 1 16) (0) (0) 0 [some (.ref a)] [] σ Q := by
  refine J_aload_n dJ10_init_0 rfl ?_
  refine J_bipush (zI 16) dJ10_init_1 rfl ?_
  refine J_eI (y := yJ9_init) (R' := (jR 2 1 16)) [.int (zI ((16 : Nat) : Int))] 1 q505 q506 q118 q507 rfl (by decide +kernel) cX_1 ⟨Nat.le_of_ble_eq_true rfl, Nat.le_of_ble_eq_true rfl⟩ ⟨(by first | omega | (simp only [jR]; done) | (simp only [jR]; omega)), (by first | omega | (simp only [jR]; done) | (simp only [jR]; omega))⟩ rfl (Nat.le_of_ble_eq_true rfl) dJ10_init_3 (JE.of (X' := (cX E, none)) (by decide +kernel) (Nat.le_of_ble_eq_true rfl) (fun _ z => by cases z) ?_)
  refine b_init9 (q := 16) h0 (by omega) (fun σ1 o1 B1 => ?_)
  refine J_rv ?_
  exact J_vret rfl dJ10_init_6 (by exact hq _ o1 B1)
theorem b_initS9 {E : jEnv} {o : Option MethodName} {σ : jW} {Q : Option Value → jW → Prop} {a s : Nat} {u : List Int}  (h0 : σ 0 = some (a, .inr (7, bV .null (zI 0)))) (hu : StT E σ s u) (hul : u.length ≤ 2000) (hq : ∀ σ', bO σ σ' → SB E σ' a u (u.length + 16) → Q none σ')  : J E wI (cX E, o) cJ9_init_2 5 none RJ9 (jR 8 1 (u.length + 16)) (0) (0) 0 [some (.ref a), some (.ref s), none, none, none] [] σ Q := by
  obtain ⟨sv, g, hs, hg, hfg⟩ := hu
  obtain ⟨hh, hhz, hs0⟩ := hs.g0
  have hs1 := hs.g1
  refine J_aload_n dJ9_init_2_0 rfl ?_
  refine J_objInit q508 q144 q145 (Nat.le_of_ble_eq_true rfl) ⟨Nat.le_of_ble_eq_true rfl, Nat.le_of_ble_eq_true rfl⟩ dJ9_init_2_1 ?_
  refine J_aload_n dJ9_init_2_4 rfl ?_
  refine JG_eV (y := yJ4_length) (R' := (jR 2 0 0)) [] 0 rfl hs0 rfl q947 q948 q949 q112 q950 (by decide +kernel) cX_1 ⟨Nat.le_of_ble_eq_true rfl, Nat.le_of_ble_eq_true rfl⟩ ⟨(by first | omega | (simp only [jR]; done) | (simp only [jR]; omega)), (by first | omega | (simp only [jR]; done) | (simp only [jR]; omega))⟩ rfl (Nat.le_of_ble_eq_true rfl) dJ9_init_2_5 (JE.of (X' := (cX E, none)) (by decide +kernel) (Nat.le_of_ble_eq_true rfl) (fun _ z => by cases z) ?_)
  refine b_strlen hs ?_
  refine J_ri ?_
  refine J_istore_n dJ9_init_2_8 rfl (by decide) _ rfl ?_
  refine J_iload_n dJ9_init_2_9 rfl ?_
  refine J_ldc (zI 2147483631) q1003 dJ9_init_2_10 ?_
  refine J_icmp_ge_z (tgt := 22) dJ9_init_2_12 (by decide) (by unfold zR; omega) (by unfold zR; omega) (fun c12 => ?_) (fun c12 => ?_)
  · exfalso; omega
  · skip
    refine J_iload_n dJ9_init_2_15 rfl ?_
    refine J_bipush (zI 16) dJ9_init_2_16 rfl ?_
    refine J_iadd_z dJ9_init_2_18 ?_
    refine J_top (zI ((u.length + 16 : Nat) : Int)) (congrArg zI (by omega)) ?_
    refine J_goto (tgt := 24) dJ9_init_2_19 (by decide) ?_
    refine J_istore_n dJ9_init_2_24 rfl (by decide) _ rfl ?_
    refine J_aload_n dJ9_init_2_25 rfl ?_
    refine JG_eV (y := yJ4_coder) (R' := (jR 1 0 0)) [] 0 rfl hs0 rfl q963 q952 q953 q112 q954 (by decide +kernel) cX_1 ⟨Nat.le_of_ble_eq_true rfl, Nat.le_of_ble_eq_true rfl⟩ ⟨(by first | omega | (simp only [jR]; done) | (simp only [jR]; omega)), (by first | omega | (simp only [jR]; done) | (simp only [jR]; omega))⟩ rfl (Nat.le_of_ble_eq_true rfl) dJ9_init_2_26 (JE.of (X' := (cX E, none)) (by decide +kernel) (Nat.le_of_ble_eq_true rfl) (fun _ z => by cases z) ?_)
    refine b_coder hs ?_
    refine J_ri ?_
    refine J_istore dJ9_init_2_29 rfl (by decide) _ rfl ?_
    refine J_aload_n dJ9_init_2_31 rfl ?_
    refine J_iload dJ9_init_2_32 rfl ?_
    refine BP_coder h0 dJ9_init_2_34 ?_
    refine J_aload_n dJ9_init_2_37 rfl ?_
    refine J_iload dJ9_init_2_38 rfl ?_
    refine J_if_ne_n (tgt := 49) dJ9_init_2_40 (by decide) (by decide) ?_
    refine J_iload_n dJ9_init_2_43 rfl ?_
    refine J_newa_byte (σ' := fun b => j_up (j_up σ 0 (some (a, .inr (7, bV .null (zI 0))))) 4 (some (b, bA E (u.length + 16) (fun _ => zI 0)))) 4 (u.length + 16) q363 rfl (by omega) (by first | omega | (simp only [jR]; done) | (simp only [jR]; omega)) (by first | omega | (simp only [jR]; done) | (simp only [jR]; omega)) (fun b => rfl) dJ9_init_2_44 (fun b => ?_)
    refine J_goto (tgt := 53) dJ9_init_2_46 (by decide) ?_
    refine BP_value rfl dJ9_init_2_53 ?_
    refine J_shift 4 1 ?_
    refine J_aload_n dJ9_init_2_56 rfl ?_
    refine J_aload_n dJ9_init_2_57 rfl ?_
    refine J_eO (y := yJ10_append_4) (R' := (jR 7 0 0)) (owner := RJ9) (x := yJ9_append_2) [.ref s] 1 0 rfl rfl q1004 q2111 q929 q930 q2116 q1005 q119 q1006 (by decide +kernel) cX_1 ⟨Nat.le_of_ble_eq_true rfl, Nat.le_of_ble_eq_true rfl⟩ ⟨(by first | omega | (simp only [jR]; done) | (simp only [jR]; omega)), (by first | omega | (simp only [jR]; done) | (simp only [jR]; omega))⟩ rfl (Nat.le_of_ble_eq_true rfl) dJ9_init_2_58 (JE.of (X' := (cX E, none)) (by decide +kernel) (Nat.le_of_ble_eq_true rfl) (fun _ z => by cases z) ?_)
    refine b_appS4 (N := u.length + 16) (m := 0) (kc := 0) (t := []) ⟨b, fun _ => zI 0, rfl, rfl, ⟨Nat.zero_le _, fun i hi => absurd hi (Nat.not_lt_zero _), fun _ => rfl⟩⟩ (by omega) ⟨sv, g, hs.up rfl rfl, hg, hfg⟩ (Nat.zero_le _) hul (fun h => absurd h (by simp only [List.length_nil]; omega)) (fun σ1 o1 B1 => ?_)
    refine J_ra ?_
    refine J_pop dJ9_init_2_61 rfl ?_
    refine J_vret rfl dJ9_init_2_62 ?_
    refine hq _ (bO.trans ⟨fun r r0 r1 r4 => ?_, rfl⟩ o1) ?_
    · simp [j_up, r0, r1, r4]
    · have e : bcap (u.length + 16) (([] : List Int).length + u.length) = u.length + 16 := if_pos (by simp only [List.length_nil]; omega)
      rw [e] at B1
      exact B1
theorem b_initS {E : jEnv} {o : Option MethodName} {σ : jW} {Q : Option Value → jW → Prop} {a s : Nat} {u : List Int}  (h0 : σ 0 = some (a, .inr (7, bV .null (zI 0)))) (hu : StT E σ s u) (hul : u.length ≤ 2000) (hq : ∀ σ', bO σ σ' → SB E σ' a u (u.length + 16) → Q none σ')  : J E wI (cX E, o) cJ10_init_2 2 none RJ10 (jR 9 1 (u.length + 16)) (0) (0) 0 [some (.ref a), some (.ref s)] [] σ Q := by
  refine J_aload_n dJ10_init_2_0 rfl ?_
  refine J_aload_n dJ10_init_2_1 rfl ?_
  refine J_eI (y := yJ9_init_2) (R' := (jR 8 1 (u.length + 16))) [.ref s] 1 q1000 q1001 q118 q1002 rfl (by decide +kernel) cX_1 ⟨Nat.le_of_ble_eq_true rfl, Nat.le_of_ble_eq_true rfl⟩ ⟨(by first | omega | (simp only [jR]; done) | (simp only [jR]; omega)), (by first | omega | (simp only [jR]; done) | (simp only [jR]; omega))⟩ rfl (Nat.le_of_ble_eq_true rfl) dJ10_init_2_2 (JE.of (X' := (cX E, none)) (by decide +kernel) (Nat.le_of_ble_eq_true rfl) (fun _ z => by cases z) ?_)
  refine b_initS9 h0 hu hul (fun σ1 o1 B1 => ?_)
  refine J_rv ?_
  exact J_vret rfl dJ10_init_2_5 (by exact hq _ o1 B1)
