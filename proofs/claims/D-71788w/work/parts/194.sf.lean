set_option maxRecDepth 100000
/-! strings: toString, hashCode, equals, charAt -/
/-- an own String (roles 2, 3) with the text u -/
def OS (E : jEnv) (σ : jW) (s : Nat) (u : List Int) (h hz : Int32) : Prop := ∃ sv g, σ 2 = some (s, .inr (8, stV (.ref sv) h hz)) ∧ σ 3 = some (sv, bA E u.length g) ∧ (∀ i, i < u.length → g i = zI (u.getD i 0)) ∧ ∀ i, i < u.length → fits .byte (.int (g i)) = true
theorem OS.st {E : jEnv} {σ : jW} {s : Nat} {u : List Int} {h hz : Int32} (x : OS E σ s u h hz) : StT E σ s u := by
  obtain ⟨sv, g, h2, h3, hg, hf⟩ := x
  exact ⟨sv, g, jSt.own h2 h3, hg, hf⟩
theorem OS.up {E : jEnv} {σ σ' : jW} {s : Nat} {u : List Int} {h hz : Int32} (x : OS E σ s u h hz) (h2 : σ' 2 = σ 2) (h3 : σ' 3 = σ 3) : OS E σ' s u h hz := by
  obtain ⟨sv, g, q2, q3, hg, hf⟩ := x
  exact ⟨sv, g, h2.trans q2, h3.trans q3, hg, hf⟩
/-- but for roles 2, 3, 4 nothing changes; 4 is free -/
def sO (σ σ' : jW) : Prop := (∀ r, r ≠ 2 → r ≠ 3 → r ≠ 4 → σ' r = σ r) ∧ σ' 4 = none
theorem SB.up {E : jEnv} {σ σ' : jW} {a N : Nat} {t : List Int} (x : SB E σ a t N) (h0 : σ' 0 = σ 0) (h1 : σ' 1 = σ 1) : SB E σ' a t N := by
  obtain ⟨va, f, q0, q1, hT⟩ := x
  exact ⟨va, f, h0.trans q0, h1.trans q1, hT⟩
theorem look_def {ps : List (Int × Int)} {d k : Int} (h : ∀ p ∈ ps, p.1 ≠ k) : Op.lookupswitch.offset ps d k = d := by
  induction ps with
  | nil => rfl
  | cons p ps ih =>
    obtain ⟨a, o⟩ := p
    rw [Op.lookupswitch.offset_cons, if_neg (h _ List.mem_cons_self)]
    exact ih (fun q hq => h q (List.mem_cons_of_mem _ hq))
theorem look_ne {x : Int32} {k : Int} (h : x ≠ zI k) : k ≠ x.toInt := fun e => h (by rw [e]; exact (Int32.ofInt_toInt x).symm)
def hsU (u : List Int) : Int32 := u.foldl (fun r c => zI 31 * r + zI c) (zI 0)
theorem hsU_s {u : List Int} {i : Nat} (h : i < u.length) : zI 31 * hsU (u.take i) + zI (u.getD i 0) = hsU (u.take (i + 1)) := by
  have e : u.take (i + 1) = u.take i ++ [u.getD i 0] := by
    rw [List.take_succ, List.getD_eq_getElem?_getD, List.getElem?_eq_getElem h]
    rfl
  rw [e]
  simp only [hsU, List.foldl_append, List.foldl_cons, List.foldl_nil]
theorem and255 {z : Int} (h : 0 ≤ z ∧ z ≤ 127) : zI z &&& zI 255 = zI z := by
  have : ∀ k : Fin 128, zI (k.val : Int) &&& zI 255 = zI (k.val : Int) := by decide +kernel
  have h2 := this ⟨z.toNat, by omega⟩
  have e : ((z.toNat : Nat) : Int) = z := by omega
  simp only [e] at h2
  exact h2
theorem chr_z {z : Int} (h : 0 ≤ z ∧ z ≤ 127) : ((zI z).toUInt32 % 65536).toInt32 = zI z ∧ narrow .char (.int (zI z)) = .int (zI z) := by
  have : ∀ k : Fin 128, ((zI (k.val : Int)).toUInt32 % 65536).toInt32 = zI (k.val : Int) ∧ narrow .char (.int (zI (k.val : Int))) = .int (zI (k.val : Int)) := by decide +kernel
  have h2 := this ⟨z.toNat, by omega⟩
  have e : ((z.toNat : Nat) : Int) = z := by omega
  simp only [e] at h2
  exact h2
/-- letters -/
def uR (u : List Int) : Prop := ∀ z ∈ u, 0 ≤ z ∧ z ≤ 127
theorem uR.at {u : List Int} (h : uR u) {i : Nat} (hi : i < u.length) : 0 ≤ u.getD i 0 ∧ u.getD i 0 ≤ 127 := by
  rw [List.getD_eq_getElem?_getD, List.getElem?_eq_getElem hi]
  exact h _ (List.getElem_mem hi)
theorem uR.t {i : Nat} (hi : i < 10) : uR (sTx i) := by
  have h : ∀ i : Fin 10, ∀ z ∈ sTx i.val, 0 ≤ z ∧ z ≤ 127 := by decide +kernel
  exact h ⟨i, hi⟩
theorem list_z {u v : List Int} (hu : uR u) (hv : uR v) {g : Nat → Int32} (hg : ∀ i, i < u.length → g i = zI (u.getD i 0)) : (u.length = v.length ∧ ∀ j, j < u.length → g j = zI (v.getD j 0)) ↔ u = v := by
  constructor
  · rintro ⟨h1, h2⟩
    refine List.ext_getElem h1 (fun j a b => ?_)
    have e := (hg j a).symm.trans (h2 j a)
    have x := hu.at a
    have y := hv.at b
    have e2 := zI_inj (by unfold zR; omega) (by unfold zR; omega) e
    simpa [List.getD_eq_getElem?_getD, a, b] using e2
  · rintro rfl
    exact ⟨rfl, hg⟩
theorem oC_s {E : jEnv} {i : Nat} (hi : i < 10) : oC E i = (sA E i, .inr (8, stV (.ref (sB E i)) (zI (sHs i)) (zI 0))) := by
  simp only [oC, if_pos hi, sV_st]
theorem oC_b {E : jEnv} {i : Nat} (hi : i < 10) : oC E (10 + i) = (sB E i, bA E (sTx i).length (fun j => zI ((sTx i).getD j 0))) := by
  have h1 : ¬ 10 + i < 10 := by omega
  have h2 : 10 + i < 20 := by omega
  simp only [oC, if_neg h1, if_pos h2, Nat.add_sub_cancel_left]
theorem b_chkLen {E : jEnv} {St : Type} {w : St → jW} {X : jX} {σ : St} {Q : Option Value → St → Prop} {n : Nat}  (hn : n ≤ 100000) (hq : Q none σ)  : J E w X cJ14_checkLength 2 none RJ14 (jR 1 0 0) (0) (0) 0 [some (.int (zI 0)), some (.int (zI (n : Nat)))] [] σ Q := by
  refine J_iload_n dJ14_checkLength_0 rfl ?_
  refine J_iload_n dJ14_checkLength_1 rfl ?_
  refine J_icmp_ge_z (tgt := 37) dJ14_checkLength_2 (by decide) (by unfold zR; omega) (by unfold zR; omega) (fun c2 => ?_) (fun c2 => ?_)
  · skip
    exact J_vret rfl dJ14_checkLength_37 (by exact hq)
  · exfalso; omega
theorem b_corB {E : jEnv} {o : Option MethodName} {σ : jW} {Q : Option Value → jW → Prop} {va N n : Nat} {f : Nat → Int32}  (h1 : σ 1 = some (va, bA E N f)) (hfit : ∀ i, fits .byte (.int (f i)) = true) (hn : n ≤ N) (hN : N ≤ 50000) (hq : ∀ b g, (∀ i, i < n → g i = f i) → (∀ i, i < n → fits .byte (.int (g i)) = true) → Q (some (.ref b)) (j_up σ 4 (some (b, bA E n g))))  : J E wI (cX E, o) cJ14_copyOfRangeByte 5 (some (.array .byte)) RJ14 (jR 2 1 n) (0) (0) 0 [some (.ref va), some (.int (zI 0)), some (.int (zI (n : Nat))), none, none] [] σ Q := by
  refine J_iload_n dJ14_copyOfRangeByte_0 rfl ?_
  refine J_iload_n dJ14_copyOfRangeByte_1 rfl ?_
  refine J_eS (y := yJ14_checkLength) (R' := (jR 1 0 0)) [.int (zI 0), .int (zI ((n : Nat) : Int))] 2 q661 q662 q123 q663 (by decide +kernel) cX_1 ⟨Nat.le_of_ble_eq_true rfl, Nat.le_of_ble_eq_true rfl⟩ ⟨(by first | omega | (simp only [jR]; done) | (simp only [jR]; omega)), (by first | omega | (simp only [jR]; done) | (simp only [jR]; omega))⟩ rfl (Nat.le_of_ble_eq_true rfl) dJ14_copyOfRangeByte_2 (JE.of (X' := (cX E, none)) (by decide +kernel) (Nat.le_of_ble_eq_true rfl) (fun _ z => by cases z) ?_)
  refine b_chkLen (by omega) ?_
  refine J_rv ?_
  refine J_iload_n dJ14_copyOfRangeByte_5 rfl ?_
  refine J_iload_n dJ14_copyOfRangeByte_6 rfl ?_
  refine J_isub_z dJ14_copyOfRangeByte_7 ?_
  refine J_top (zI ((n : Nat) : Int)) (congrArg zI (by omega)) ?_
  refine J_istore_n dJ14_copyOfRangeByte_8 rfl (by decide) _ rfl ?_
  refine J_iload_n dJ14_copyOfRangeByte_9 rfl ?_
  refine J_newa_byte (σ' := fun b => j_up σ 4 (some (b, bA E n (fun _ => zI 0)))) 4 n q363 rfl (by omega) (by first | omega | (simp only [jR]; done) | (simp only [jR]; omega)) (by first | omega | (simp only [jR]; done) | (simp only [jR]; omega)) (fun b => rfl) dJ14_copyOfRangeByte_10 (fun b => ?_)
  refine J_astore dJ14_copyOfRangeByte_12 rfl (by decide) _ rfl ?_
  refine J_aload_n dJ14_copyOfRangeByte_14 rfl ?_
  refine J_iload_n dJ14_copyOfRangeByte_15 rfl ?_
  refine J_aload dJ14_copyOfRangeByte_16 rfl ?_
  refine J_iconst (zI 0) dJ14_copyOfRangeByte_18 rfl ?_
  refine J_aload_n dJ14_copyOfRangeByte_19 rfl ?_
  refine JG_alen (Or.inl ⟨1, h1⟩) dJ14_copyOfRangeByte_20 ?_
  refine J_iload_n dJ14_copyOfRangeByte_21 rfl ?_
  refine J_isub_z dJ14_copyOfRangeByte_22 ?_
  refine J_iload_n dJ14_copyOfRangeByte_23 rfl ?_
  refine PJ14_min (by unfold zR; omega) (by unfold zR; omega) ⟨Nat.le_of_ble_eq_true rfl, Nat.le_of_ble_eq_true rfl⟩ ⟨(by first | omega | (simp only [jR]; done) | (simp only [jR]; omega)), (by first | omega | (simp only [jR]; done) | (simp only [jR]; omega))⟩ (Nat.le_of_ble_eq_true rfl) dJ14_copyOfRangeByte_24 ?_
  refine J_top (zI ((n : Nat) : Int)) (congrArg zI (by split <;> omega)) ?_
  refine JG_acopy (σ' := j_up (j_up σ 4 (some (b, bA E n (fun _ => zI 0)))) 4 (some (b, bA E n (va_cpy f (fun _ => zI 0) 0 0 n)))) (sp := 0) (dp := 0) (cn := n) (ty := .byte) 1 4 (Or.inl ⟨1, h1⟩) rfl rfl rfl (fun i _ => hfit _) (by omega) (by omega) ⟨by omega, by omega⟩ q575 q446 q445 q116 ⟨Nat.le_of_ble_eq_true rfl, Nat.le_of_ble_eq_true rfl⟩ (Nat.le_of_ble_eq_true rfl) rfl dJ14_copyOfRangeByte_27 ?_
  rw [j_upup]
  refine J_aload dJ14_copyOfRangeByte_30 rfl ?_
  exact J_aretA rfl dJ14_copyOfRangeByte_32 (by exact hq b _ (fun i hi => va_cpy_0 hi) (fun i hi => by rw [va_cpy_0 hi]; exact hfit i))
theorem b_cor {E : jEnv} {o : Option MethodName} {σ : jW} {Q : Option Value → jW → Prop} {va N n : Nat} {f : Nat → Int32}  (h1 : σ 1 = some (va, bA E N f)) (hfit : ∀ i, fits .byte (.int (f i)) = true) (hn : n ≤ N) (hN : N ≤ 50000) (hq : ∀ b g, (∀ i, i < n → g i = f i) → (∀ i, i < n → fits .byte (.int (g i)) = true) → Q (some (.ref b)) (j_up σ 4 (some (b, bA E n g))))  : J E wI (cX E, o) cJ14_copyOfRange 3 (some (.array .byte)) RJ14 (jR 3 1 n) (0) (0) 0 [some (.ref va), some (.int (zI 0)), some (.int (zI (n : Nat)))] [] σ Q := by
  refine J_iload_n dJ14_copyOfRange_0 rfl ?_
  refine J_if_ne_n (tgt := 10) dJ14_copyOfRange_1 (by decide) (by decide) ?_
  refine J_iload_n dJ14_copyOfRange_4 rfl ?_
  refine J_aload_n dJ14_copyOfRange_5 rfl ?_
  refine JG_alen (Or.inl ⟨1, h1⟩) dJ14_copyOfRange_6 ?_
  refine J_icmp_eq_z (tgt := 17) dJ14_copyOfRange_7 (by decide) (by unfold zR; omega) (by unfold zR; omega) (fun c7 => ?_) (fun c7 => ?_)
  · skip
    have hnN : n = N := by omega
    subst hnN
    refine J_aload_n dJ14_copyOfRange_17 rfl ?_
    refine J_clone (σ' := fun b => j_up σ 4 (some (b, bA E n f))) 1 4 h1 (fun i _ => hfit i) q565 (fun A s h => h.1 _ q570 rfl) ⟨Nat.le_of_ble_eq_true rfl, Nat.le_of_ble_eq_true rfl⟩ (Nat.le_of_ble_eq_true rfl) (by first | omega | (simp only [jR]; done) | (simp only [jR]; omega)) (by first | omega | (simp only [jR]; done) | (simp only [jR]; omega)) (fun b => rfl) dJ14_copyOfRange_18 (fun b => ?_)
    refine JG_castB (N := n) (f := f) (Or.inl ⟨4, rfl⟩) q571 dJ14_copyOfRange_21 ?_
    exact J_aretA rfl dJ14_copyOfRange_24 (by exact hq b f (fun _ _ => rfl) (fun i _ => hfit i))
  · skip
    refine J_aload_n dJ14_copyOfRange_10 rfl ?_
    refine J_iload_n dJ14_copyOfRange_11 rfl ?_
    refine J_iload_n dJ14_copyOfRange_12 rfl ?_
    refine J_eS (y := yJ14_copyOfRangeByte) (R' := (jR 2 1 n)) [.ref va, .int (zI 0), .int (zI ((n : Nat) : Int))] 3 q658 q659 q123 q660 (by decide +kernel) cX_1 ⟨Nat.le_of_ble_eq_true rfl, Nat.le_of_ble_eq_true rfl⟩ ⟨(by first | omega | (simp only [jR]; done) | (simp only [jR]; omega)), (by first | omega | (simp only [jR]; done) | (simp only [jR]; omega))⟩ rfl (Nat.le_of_ble_eq_true rfl) dJ14_copyOfRange_13 (JE.of (X' := (cX E, none)) (by decide +kernel) (Nat.le_of_ble_eq_true rfl) (fun _ z => by cases z) ?_)
    refine b_corB h1 hfit hn hN (fun b g hg hfg => ?_)
    refine J_ra ?_
    exact J_aretA rfl dJ14_copyOfRange_16 (by exact hq b g hg hfg)
theorem b_sInit2 {E : jEnv} {σ : jW} {Q : Option Value → jW → Prop} {s a N : Nat} {t : List Int}  (h2 : σ 2 = some (s, .inr (8, stV .null (zI 0) (zI 0)))) (hB : SB E σ a t N) (hN : N ≤ 4000) (hq : ∀ σ', sO σ σ' → OS E σ' s t (zI 0) (zI 0) → Q none σ')  : J E wI (cX E, some yJ4_init_2) cJ4_init_2 5 none RJ4 (jR 4 1 (t.length)) (0) (0) 0 [some (.ref s), some (.ref a), some .null, none, none] [] σ Q := by
  obtain ⟨va, f, h0, h1, hT⟩ := hB
  refine J_aload_n dJ4_init_2_0 rfl ?_
  refine J_objInit q640 q144 q145 (Nat.le_of_ble_eq_true rfl) ⟨Nat.le_of_ble_eq_true rfl, Nat.le_of_ble_eq_true rfl⟩ dJ4_init_2_1 ?_
  refine J_aload_n dJ4_init_2_4 rfl ?_
  refine J_eU (y := yJ9_getValue) (R' := (jR 1 0 0)) (owner := RJ9) (x := yJ9_getValue) [] 0 0 h0 rfl q641 q643 q644 q642 q118 q645 rfl (by decide +kernel) cX_1 ⟨Nat.le_of_ble_eq_true rfl, Nat.le_of_ble_eq_true rfl⟩ ⟨(by first | omega | (simp only [jR]; done) | (simp only [jR]; omega)), (by first | omega | (simp only [jR]; done) | (simp only [jR]; omega))⟩ rfl (Nat.le_of_ble_eq_true rfl) dJ4_init_2_5 (JE.of (X' := (cX E, none)) (by decide +kernel) (Nat.le_of_ble_eq_true rfl) (fun _ z => by cases z) ?_)
  refine b_getValue h0 ?_
  refine J_ra ?_
  refine J_astore_n dJ4_init_2_8 rfl (by decide) _ rfl ?_
  refine J_aload_n dJ4_init_2_9 rfl ?_
  refine J_eO (y := yJ10_length) (R' := (jR 2 0 0)) (owner := RJ9) (x := yJ9_length) [] 0 0 h0 rfl q646 q648 q647 q653 q649 q650 q119 q651 (by decide +kernel) cX_1 ⟨Nat.le_of_ble_eq_true rfl, Nat.le_of_ble_eq_true rfl⟩ ⟨(by first | omega | (simp only [jR]; done) | (simp only [jR]; omega)), (by first | omega | (simp only [jR]; done) | (simp only [jR]; omega))⟩ rfl (Nat.le_of_ble_eq_true rfl) dJ4_init_2_10 (JE.of (X' := (cX E, none)) (by decide +kernel) (Nat.le_of_ble_eq_true rfl) (fun _ z => by cases z) ?_)
  refine b_len h0 ?_
  refine J_ri ?_
  refine J_istore dJ4_init_2_13 rfl (by decide) _ rfl ?_
  refine J_aload_n dJ4_init_2_15 rfl ?_
  refine J_eU (y := yJ9_isLatin1) (R' := (jR 1 0 0)) (owner := RJ9) (x := yJ9_isLatin1) [] 0 0 h0 rfl q654 q578 q579 q577 q118 q580 rfl (by decide +kernel) cX_1 ⟨Nat.le_of_ble_eq_true rfl, Nat.le_of_ble_eq_true rfl⟩ ⟨(by first | omega | (simp only [jR]; done) | (simp only [jR]; omega)), (by first | omega | (simp only [jR]; done) | (simp only [jR]; omega))⟩ rfl (Nat.le_of_ble_eq_true rfl) dJ4_init_2_16 (JE.of (X' := (cX E, none)) (by decide +kernel) (Nat.le_of_ble_eq_true rfl) (fun _ z => by cases z) ?_)
  refine b_isL h0 ?_
  refine J_ri ?_
  refine J_if_eq_n (tgt := 41) dJ4_init_2_19 (by decide) (by decide) ?_
  refine J_aload_n dJ4_init_2_22 rfl ?_
  refine J_iconst (zI 0) dJ4_init_2_23 rfl ?_
  refine SP_coder rfl rfl h2 dJ4_init_2_24 ?_
  refine J_aload_n dJ4_init_2_27 rfl ?_
  refine J_aload_n dJ4_init_2_28 rfl ?_
  refine J_iconst (zI 0) dJ4_init_2_29 rfl ?_
  refine J_iload dJ4_init_2_30 rfl ?_
  refine J_eS (y := yJ14_copyOfRange) (R' := (jR 3 1 t.length)) [.ref va, .int (zI 0), .int (zI ((t.length : Nat) : Int))] 3 q655 q656 q123 q657 (by decide +kernel) cX_1 ⟨Nat.le_of_ble_eq_true rfl, Nat.le_of_ble_eq_true rfl⟩ ⟨(by first | omega | (simp only [jR]; done) | (simp only [jR]; omega)), (by first | omega | (simp only [jR]; done) | (simp only [jR]; omega))⟩ rfl (Nat.le_of_ble_eq_true rfl) dJ4_init_2_32 (JE.of (X' := (cX E, none)) (by decide +kernel) (Nat.le_of_ble_eq_true rfl) (fun _ z => by cases z) ?_)
  refine b_cor (σ := j_up σ 2 _) h1 hT.2.2 hT.1 (by omega) (fun b g hg hfg => ?_)
  refine J_ra ?_
  refine SP_value rfl rfl rfl dJ4_init_2_35 ?_
  refine J_shift 4 3 ?_
  refine J_goto (tgt := 97) dJ4_init_2_38 (by decide) ?_
  exact J_vret rfl dJ4_init_2_97 (by exact hq _ ⟨fun r r2 r3 r4 => by simp [j_up, r2, r3, r4], rfl⟩ ⟨b, g, rfl, rfl, fun i hi => (hg i hi).trans (hT.2.1 i hi), hfg⟩)
theorem b_sInit {E : jEnv} {o : Option MethodName} {σ : jW} {Q : Option Value → jW → Prop} {s a N : Nat} {t : List Int}  (h2 : σ 2 = some (s, .inr (8, stV .null (zI 0) (zI 0)))) (hB : SB E σ a t N) (hN : N ≤ 4000) (hq : ∀ σ', sO σ σ' → OS E σ' s t (zI 0) (zI 0) → Q none σ')  : J E wI (cX E, o) cJ4_init 2 none RJ4 (jR 5 1 (t.length)) (0) (0) 0 [some (.ref s), some (.ref a)] [] σ Q := by
  refine J_aload_n dJ4_init_0 rfl ?_
  refine J_aload_n dJ4_init_1 rfl ?_
  refine J_null dJ4_init_2 ?_
  refine J_eI (y := yJ4_init_2) (R' := (jR 4 1 t.length)) [.ref a, .null] 2 q637 q638 q112 q639 rfl (by decide +kernel) cX_1 ⟨Nat.le_of_ble_eq_true rfl, Nat.le_of_ble_eq_true rfl⟩ ⟨(by first | omega | (simp only [jR]; done) | (simp only [jR]; omega)), (by first | omega | (simp only [jR]; done) | (simp only [jR]; omega))⟩ rfl (Nat.le_of_ble_eq_true rfl) dJ4_init_3 (JE.of (X' := (cX E, some yJ4_init_2)) (by decide +kernel) (Nat.le_of_ble_eq_true rfl) (fun _ z => (Option.some.inj z).symm) ?_)
  refine b_sInit2 h2 hB hN (fun σ1 o1 B1 => ?_)
  refine J_rv ?_
  exact J_vret rfl dJ4_init_6 (by exact hq _ o1 B1)
theorem b_toString {E : jEnv} {o : Option MethodName} {σ : jW} {Q : Option Value → jW → Prop} {a N m : Nat} {t : List Int}  (hB : SB E σ a t N) (hN : N ≤ 4000) (hm : t.length + 4 ≤ m) (hq : ∀ σ' s, sO σ σ' → OS E σ' s t (zI 0) (zI 0) → Q (some (.ref s)) σ')  : J E wI (cX E, o) cJ10_toString 1 (some (.object "java/lang/String")) RJ10 (jR 6 2 m) (0) (0) 0 [some (.ref a)] [] σ Q := by
  refine J_new (σ' := fun s => j_up σ 2 (some (s, .inr (8, stV .null (zI 0) (zI 0))))) (ci := 8) (N := 4) 2 tyJ4 rfl in_J4 tyJ4_ok q633 q362 q112 (by decide) (by first | omega | (simp only [jR]; done) | (simp only [jR]; omega)) (by first | omega | (simp only [jR]; done) | (simp only [jR]; omega)) (fun s => rfl) dJ10_toString_0 (fun s => ?_)
  refine J_dup dJ10_toString_3 rfl ?_
  refine J_aload_n dJ10_toString_4 rfl ?_
  refine J_eI (y := yJ4_init) (R' := (jR 5 1 t.length)) [.ref a] 1 q634 q635 q112 q636 rfl (by decide +kernel) cX_1 ⟨Nat.le_of_ble_eq_true rfl, Nat.le_of_ble_eq_true rfl⟩ ⟨(by first | omega | (simp only [jR]; done) | (simp only [jR]; omega)), (by first | omega | (simp only [jR]; done) | (simp only [jR]; omega))⟩ rfl (Nat.le_of_ble_eq_true rfl) dJ10_toString_5 (JE.of (X' := (cX E, none)) (by decide +kernel) (Nat.le_of_ble_eq_true rfl) (fun _ z => by cases z) ?_)
  refine b_sInit (s := s) rfl (hB.up rfl rfl) hN (fun σ1 o1 B1 => ?_)
  refine J_rv ?_
  exact J_aret rfl dJ10_toString_8 (by exact hq _ s ⟨fun r r2 r3 r4 => (o1.1 r r2 r3 r4).trans (if_neg r2), o1.2⟩ B1)
theorem bl_sh8 {E : jEnv} {o : Option MethodName} {σ : jW} {Q : Option Value → jW → Prop} {sv : Nat} {g : Nat → Int32} {u : List Int}  (hs1 : jHas E σ sv (bA E u.length g)) (hg : ∀ i, i < u.length → g i = zI (u.getD i 0)) (hu : uR u) (hul : u.length ≤ 100000) (hq : Q (some (.int (hsU u))) σ)  : ∀ (n : Nat) (i : Nat), i ≤ u.length → u.length - i < n → J E wI (cX E, o) cJ12_signedHashCode 6 (some .int) RJ12 (jR 1 0 0) (0) (0) 8 [some (.int ((hsU (u.take i)))), some (.ref sv), some (.int (zI 0)), some (.int (zI (u.length : Nat))), some (.int (zI (u.length : Nat))), some (.int (zI (i : Nat)))] [] σ Q := by
  intro n
  induction n with
  | zero => intro i h1 hn; exact absurd hn (Nat.not_lt_zero _)
  | succ n ih =>
    intro i h1 hn
    refine J_iload dJ12_signedHashCode_8 rfl ?_
    refine J_iload dJ12_signedHashCode_10 rfl ?_
    refine J_icmp_ge_z (tgt := 35) dJ12_signedHashCode_12 (by decide) (by unfold zR; omega) (by unfold zR; omega) (fun c12 => ?_) (fun c12 => ?_)
    · skip
      refine J_iload_n dJ12_signedHashCode_35 rfl ?_
      exact J_iret rfl dJ12_signedHashCode_36 (by rw [List.take_of_length_le (by omega)]; exact hq)
    · skip
      refine J_bipush (zI 31) dJ12_signedHashCode_15 rfl ?_
      refine J_iload_n dJ12_signedHashCode_17 rfl ?_
      refine J_imul dJ12_signedHashCode_18 ?_
      refine J_aload_n dJ12_signedHashCode_19 rfl ?_
      refine J_iload dJ12_signedHashCode_20 rfl ?_
      refine JG_bald i hs1 rfl (by omega) (by omega) dJ12_signedHashCode_22 ?_
      refine J_top (zI (u.getD i 0)) (hg i (by omega)) ?_
      refine J_sipush (zI 255) dJ12_signedHashCode_23 rfl ?_
      refine J_iand dJ12_signedHashCode_26 ?_
      refine J_top (zI (u.getD i 0)) (and255 (hu.at (by omega))) ?_
      refine J_iadd dJ12_signedHashCode_27 ?_
      refine J_top (hsU (u.take (i + 1))) (hsU_s (by omega)) ?_
      refine J_istore_n dJ12_signedHashCode_28 rfl (by decide) _ rfl ?_
      refine J_iinc_z ((((i + 1)) : Nat) : Int) (by omega) dJ12_signedHashCode_29 rfl rfl (by decide) _ rfl ?_
      refine J_goto (tgt := 8) dJ12_signedHashCode_32 (by decide) ?_
      exact ih (i + 1) (by omega) (by omega)
theorem b_sh {E : jEnv} {o : Option MethodName} {σ : jW} {Q : Option Value → jW → Prop} {sv : Nat} {g : Nat → Int32} {u : List Int}  (hs1 : jHas E σ sv (bA E u.length g)) (hg : ∀ i, i < u.length → g i = zI (u.getD i 0)) (hu : uR u) (hul : u.length ≤ 100000) (hq : Q (some (.int (hsU u))) σ)  : J E wI (cX E, o) cJ12_signedHashCode 6 (some .int) RJ12 (jR 1 0 0) (0) (0) 0 [some (.int (zI 0)), some (.ref sv), some (.int (zI 0)), some (.int (zI (u.length : Nat))), none, none] [] σ Q := by
  refine J_iload_n dJ12_signedHashCode_0 rfl ?_
  refine J_iload_n dJ12_signedHashCode_1 rfl ?_
  refine J_iadd_z dJ12_signedHashCode_2 ?_
  refine J_top (zI ((u.length : Nat) : Int)) (congrArg zI (by omega)) ?_
  refine J_istore dJ12_signedHashCode_3 rfl (by decide) _ rfl ?_
  refine J_iload_n dJ12_signedHashCode_5 rfl ?_
  refine J_istore dJ12_signedHashCode_6 rfl (by decide) _ rfl ?_
  exact bl_sh8 hs1 hg hu hul hq _ 0 (Nat.zero_le _) (Nat.lt_succ_self _)
theorem b_vh {E : jEnv} {o : Option MethodName} {σ : jW} {Q : Option Value → jW → Prop} {sv : Nat} {g : Nat → Int32} {u : List Int}  (hs1 : jHas E σ sv (bA E u.length g)) (hg : ∀ i, i < u.length → g i = zI (u.getD i 0)) (hu : uR u) (hul : u.length ≤ 100000) (hq : Q (some (.int (hsU u))) σ)  : J E wI (cX E, o) cJ12_vectorizedHashCode 5 (some .int) RJ12 (jR 2 0 0) (0) (0) 0 [some (.ref sv), some (.int (zI 0)), some (.int (zI (u.length : Nat))), some (.int (zI 0)), some (.int (zI 4))] [] σ Q := by
  refine J_iload dJ12_vectorizedHashCode_0 rfl ?_
  refine J_tableIn (tgt := 44) (42) dJ12_vectorizedHashCode_2 (by decide) (by decide) rfl (by decide) ?_
  refine J_iload_n dJ12_vectorizedHashCode_44 rfl ?_
  refine J_aload_n dJ12_vectorizedHashCode_45 rfl ?_
  refine JG_castB hs1 q701 dJ12_vectorizedHashCode_46 ?_
  refine J_iload_n dJ12_vectorizedHashCode_49 rfl ?_
  refine J_iload_n dJ12_vectorizedHashCode_50 rfl ?_
  refine J_eS (y := yJ12_signedHashCode) (R' := (jR 1 0 0)) [.int (zI 0), .ref sv, .int (zI 0), .int (zI ((u.length : Nat) : Int))] 4 q702 q703 q121 q704 (by decide +kernel) cX_1 ⟨Nat.le_of_ble_eq_true rfl, Nat.le_of_ble_eq_true rfl⟩ ⟨(by first | omega | (simp only [jR]; done) | (simp only [jR]; omega)), (by first | omega | (simp only [jR]; done) | (simp only [jR]; omega))⟩ rfl (Nat.le_of_ble_eq_true rfl) dJ12_vectorizedHashCode_51 (JE.of (X' := (cX E, none)) (by decide +kernel) (Nat.le_of_ble_eq_true rfl) (fun _ z => by cases z) ?_)
  refine b_sh hs1 hg hu hul ?_
  refine J_ri ?_
  refine J_goto (tgt := 157) dJ12_vectorizedHashCode_54 (by decide) ?_
  exact J_iret rfl dJ12_vectorizedHashCode_157 (by exact hq)
theorem b_lh {E : jEnv} {o : Option MethodName} {σ : jW} {Q : Option Value → jW → Prop} {sv : Nat} {g : Nat → Int32} {u : List Int}  (hs1 : jHas E σ sv (bA E u.length g)) (hg : ∀ i, i < u.length → g i = zI (u.getD i 0)) (hu : uR u) (hul : u.length ≤ 100000) (hq : Q (some (.int (hsU u))) σ)  : J E wI (cX E, o) cJ15_hashCode 1 (some .int) RJ15 (jR 3 0 0) (0) (0) 0 [some (.ref sv)] [] σ Q := by
  refine J_aload_n dJ15_hashCode_0 rfl ?_
  refine JG_alen hs1 dJ15_hashCode_1 ?_
  obtain hl | hl | hl : u.length = 0 ∨ u.length = 1 ∨ 2 ≤ u.length := by omega
  · skip
    refine J_top (zI 0) (congrArg zI (by omega)) ?_
    refine J_lookup (tgt := 28) (26) dJ15_hashCode_2 (by decide) (by decide) (by decide) ?_
    refine J_iconst (zI 0) dJ15_hashCode_28 rfl ?_
    refine J_goto (tgt := 51) dJ15_hashCode_29 (by decide) ?_
    exact J_iret rfl dJ15_hashCode_51 (by rw [List.eq_nil_of_length_eq_zero hl] at hq; exact hq)
  · skip
    refine J_top (zI 1) (congrArg zI (by omega)) ?_
    refine J_lookup (tgt := 32) (30) dJ15_hashCode_2 (by decide) (by decide) (by decide) ?_
    refine J_aload_n dJ15_hashCode_32 rfl ?_
    refine J_iconst (zI 0) dJ15_hashCode_33 rfl ?_
    refine JG_bald 0 hs1 rfl (by omega) (by omega) dJ15_hashCode_34 ?_
    refine J_top (zI (u.getD 0 0)) (hg 0 (by omega)) ?_
    refine J_sipush (zI 255) dJ15_hashCode_35 rfl ?_
    refine J_iand dJ15_hashCode_38 ?_
    refine J_top (zI (u.getD 0 0)) (and255 (hu.at (by omega))) ?_
    refine J_goto (tgt := 51) dJ15_hashCode_39 (by decide) ?_
    exact J_iret rfl dJ15_hashCode_51 (by obtain ⟨c, rfl⟩ := List.length_eq_one_iff.mp hl; rw [show hsU [c] = zI ([c].getD 0 0) by simp only [hsU, List.foldl_cons, List.foldl_nil, zI_mul, zI_add]; congr 1; simp] at hq; exact hq)
  · skip
    skip
    refine J_lookup (tgt := 42) 40 dJ15_hashCode_2 (by decide) (look_def (fun p hp => ?_)) (by decide) ?_
    · skip
      rw [zI_toInt (by unfold zR; omega)]
      simp only [List.mem_cons, List.not_mem_nil, or_false] at hp
      rcases hp with rfl | rfl
      · show (0 : Int) ≠ _; omega
      · show (1 : Int) ≠ _; omega
    refine J_aload_n dJ15_hashCode_42 rfl ?_
    refine J_iconst (zI 0) dJ15_hashCode_43 rfl ?_
    refine J_aload_n dJ15_hashCode_44 rfl ?_
    refine JG_alen hs1 dJ15_hashCode_45 ?_
    refine J_iconst (zI 0) dJ15_hashCode_46 rfl ?_
    refine J_iconst (zI 4) dJ15_hashCode_47 rfl ?_
    refine J_eS (y := yJ12_vectorizedHashCode) (R' := (jR 2 0 0)) [.ref sv, .int (zI 0), .int (zI ((u.length : Nat) : Int)), .int (zI 0), .int (zI 4)] 5 q698 q699 q121 q700 (by decide +kernel) cX_1 ⟨Nat.le_of_ble_eq_true rfl, Nat.le_of_ble_eq_true rfl⟩ ⟨(by first | omega | (simp only [jR]; done) | (simp only [jR]; omega)), (by first | omega | (simp only [jR]; done) | (simp only [jR]; omega))⟩ rfl (Nat.le_of_ble_eq_true rfl) dJ15_hashCode_48 (JE.of (X' := (cX E, none)) (by decide +kernel) (Nat.le_of_ble_eq_true rfl) (fun _ z => by cases z) ?_)
    refine b_vh hs1 hg hu hul ?_
    refine J_ri ?_
    exact J_iret rfl dJ15_hashCode_51 (by exact hq)
theorem b_hash {E : jEnv} {o : Option MethodName} {σ : jW} {Q : Option Value → jW → Prop} {s : Nat} {u : List Int}  (hO : OS E σ s u (zI 0) (zI 0)) (hu : uR u) (hul : u.length ≤ 100000) (hq : ∀ σ' h hz, (∀ r, r ≠ 2 → σ' r = σ r) → OS E σ' s u h hz → Q (some (.int (hsU u))) σ')  : J E wI (cX E, o) cJ4_hashCode 2 (some .int) RJ4 (jR 4 0 0) (0) (0) 0 [some (.ref s), none] [] σ Q := by
  obtain ⟨sv, g, x2, x3, hg, hfg⟩ := hO
  have hs0 : jHas E σ s (.inr (8, stV (.ref sv) (zI 0) (zI 0))) := Or.inl ⟨2, x2⟩
  have hs1 : jHas E σ sv (bA E u.length g) := Or.inl ⟨3, x3⟩
  refine J_aload_n dJ4_hashCode_0 rfl ?_
  refine SG_hash hs0 dJ4_hashCode_1 ?_
  refine J_istore_n dJ4_hashCode_4 rfl (by decide) _ rfl ?_
  refine J_iload_n dJ4_hashCode_5 rfl ?_
  refine J_if_ne_n (tgt := 58) dJ4_hashCode_6 (by decide) (by decide) ?_
  refine J_aload_n dJ4_hashCode_9 rfl ?_
  refine SG_hashIsZero hs0 dJ4_hashCode_10 ?_
  refine J_if_ne_n (tgt := 58) dJ4_hashCode_13 (by decide) (by decide) ?_
  refine J_aload_n dJ4_hashCode_16 rfl ?_
  refine JG_eV (y := yJ4_isLatin1) (R' := (jR 1 0 0)) [] 0 rfl hs0 rfl q691 q692 q693 q112 q694 (by decide +kernel) cX_1 ⟨Nat.le_of_ble_eq_true rfl, Nat.le_of_ble_eq_true rfl⟩ ⟨(by first | omega | (simp only [jR]; done) | (simp only [jR]; omega)), (by first | omega | (simp only [jR]; done) | (simp only [jR]; omega))⟩ rfl (Nat.le_of_ble_eq_true rfl) dJ4_hashCode_17 (JE.of (X' := (cX E, none)) (by decide +kernel) (Nat.le_of_ble_eq_true rfl) (fun _ z => by cases z) ?_)
  refine b_isL4 (jSt.own x2 x3) ?_
  refine J_ri ?_
  refine J_if_eq_n (tgt := 33) dJ4_hashCode_20 (by decide) (by decide) ?_
  refine J_aload_n dJ4_hashCode_23 rfl ?_
  refine SG_value hs0 dJ4_hashCode_24 ?_
  refine J_eS (y := yJ15_hashCode) (R' := (jR 3 0 0)) [.ref sv] 1 q695 q696 q124 q697 (by decide +kernel) cX_1 ⟨Nat.le_of_ble_eq_true rfl, Nat.le_of_ble_eq_true rfl⟩ ⟨(by first | omega | (simp only [jR]; done) | (simp only [jR]; omega)), (by first | omega | (simp only [jR]; done) | (simp only [jR]; omega))⟩ rfl (Nat.le_of_ble_eq_true rfl) dJ4_hashCode_27 (JE.of (X' := (cX E, none)) (by decide +kernel) (Nat.le_of_ble_eq_true rfl) (fun _ z => by cases z) ?_)
  refine b_lh hs1 hg hu hul ?_
  refine J_ri ?_
  refine J_goto (tgt := 40) dJ4_hashCode_30 (by decide) ?_
  refine J_istore_n dJ4_hashCode_40 rfl (by decide) _ rfl ?_
  refine J_iload_n dJ4_hashCode_41 rfl ?_
  refine J_if_ne (tgt := 53) dJ4_hashCode_42 (by decide) (fun c42 => ?_) (fun c42 => ?_)
  · skip
    refine J_aload_n dJ4_hashCode_53 rfl ?_
    refine J_iload_n dJ4_hashCode_54 rfl ?_
    refine SP_hash x2 dJ4_hashCode_55 ?_
    refine J_iload_n dJ4_hashCode_58 rfl ?_
    exact J_iret rfl dJ4_hashCode_59 (by exact hq _ _ _ (fun r r2 => if_neg r2) ⟨sv, g, rfl, x3, hg, hfg⟩)
  · skip
    refine J_aload_n dJ4_hashCode_45 rfl ?_
    refine J_iconst (zI 1) dJ4_hashCode_46 rfl ?_
    refine SP_hz x2 dJ4_hashCode_47 ?_
    refine J_goto (tgt := 58) dJ4_hashCode_50 (by decide) ?_
    refine J_iload_n dJ4_hashCode_58 rfl ?_
    exact J_iret rfl dJ4_hashCode_59 (by exact hq _ _ _ (fun r r2 => if_neg r2) ⟨sv, g, rfl, x3, hg, hfg⟩)
theorem bl_le9 {E : jEnv} {o : Option MethodName} {σ : jW} {Q : Option Value → jW → Prop} {sv sn kb m : Nat} {g g2 : Nat → Int32}  (hs1 : jHas E σ sv (bA E sn g)) (hk2 : jHas E σ kb (bA E m g2)) (hm : sn ≤ 100000 ∧ m ≤ 100000) (hy : (sn = m ∧ ∀ j, j < sn → g j = g2 j) → Q (some (.int (zI 1))) σ) (hno : ¬ (sn = m ∧ ∀ j, j < sn → g j = g2 j) → Q (some (.int (zI 0))) σ) (he : sn = m)  : ∀ (n : Nat) (i : Nat), i ≤ sn → (∀ j, j < i → g j = g2 j) → sn - i < n → J E wI (cX E, o) cJ15_equals 3 (some .boolean) RJ15 (jR 1 0 0) (0) (0) 9 [some (.ref sv), some (.ref kb), some (.int (zI (i : Nat)))] [] σ Q := by
  intro n
  induction n with
  | zero => intro i h1 h2 hn; exact absurd hn (Nat.not_lt_zero _)
  | succ n ih =>
    intro i h1 h2 hn
    have h2' := ‹∀ j, j < i → g j = g2 j›
    refine J_iload_n dJ15_equals_9 rfl ?_
    refine J_aload_n dJ15_equals_10 rfl ?_
    refine JG_alen hs1 dJ15_equals_11 ?_
    refine J_icmp_ge_z (tgt := 32) dJ15_equals_12 (by decide) (by unfold zR; omega) (by unfold zR; omega) (fun c12 => ?_) (fun c12 => ?_)
    · skip
      refine J_iconst (zI 1) dJ15_equals_32 rfl ?_
      exact J_zret rfl dJ15_equals_33 rfl (by exact hy ⟨he, fun j hj => h2' j (by omega)⟩)
    · skip
      refine J_aload_n dJ15_equals_15 rfl ?_
      refine J_iload_n dJ15_equals_16 rfl ?_
      refine JG_bald i hs1 rfl (by omega) (by omega) dJ15_equals_17 ?_
      refine J_aload_n dJ15_equals_18 rfl ?_
      refine J_iload_n dJ15_equals_19 rfl ?_
      refine JG_bald i hk2 rfl (by omega) (by omega) dJ15_equals_20 ?_
      refine J_icmp_eq (tgt := 26) dJ15_equals_21 (by decide) (fun c21 => ?_) (fun c21 => ?_)
      · skip
        refine J_iinc_z ((((i + 1)) : Nat) : Int) (by omega) dJ15_equals_26 rfl rfl (by decide) _ rfl ?_
        refine J_goto (tgt := 9) dJ15_equals_29 (by decide) ?_
        exact ih (i + 1) (by omega) (fun j hj => by
          by_cases z : j = i
          · subst z; exact c21
          · exact h2' j (by omega)) (by omega)
      · skip
        refine J_iconst (zI 0) dJ15_equals_24 rfl ?_
        exact J_zret rfl dJ15_equals_25 rfl (by exact hno (fun q => c21 (q.2 i (by omega))))
theorem b_le {E : jEnv} {o : Option MethodName} {σ : jW} {Q : Option Value → jW → Prop} {sv sn kb m : Nat} {g g2 : Nat → Int32}  (hs1 : jHas E σ sv (bA E sn g)) (hk2 : jHas E σ kb (bA E m g2)) (hm : sn ≤ 100000 ∧ m ≤ 100000) (hy : (sn = m ∧ ∀ j, j < sn → g j = g2 j) → Q (some (.int (zI 1))) σ) (hno : ¬ (sn = m ∧ ∀ j, j < sn → g j = g2 j) → Q (some (.int (zI 0))) σ)  : J E wI (cX E, o) cJ15_equals 3 (some .boolean) RJ15 (jR 1 0 0) (0) (0) 0 [some (.ref sv), some (.ref kb), none] [] σ Q := by
  refine J_aload_n dJ15_equals_0 rfl ?_
  refine JG_alen hs1 dJ15_equals_1 ?_
  refine J_aload_n dJ15_equals_2 rfl ?_
  refine JG_alen hk2 dJ15_equals_3 ?_
  refine J_icmp_ne_z (tgt := 34) dJ15_equals_4 (by decide) (by unfold zR; omega) (by unfold zR; omega) (fun c4 => ?_) (fun c4 => ?_)
  · skip
    refine J_iconst (zI 0) dJ15_equals_34 rfl ?_
    exact J_zret rfl dJ15_equals_35 rfl (by exact hno (fun q => by omega))
  · skip
    refine J_iconst (zI 0) dJ15_equals_7 rfl ?_
    refine J_istore_n dJ15_equals_8 rfl (by decide) _ rfl ?_
    exact bl_le9 hs1 hk2 hm hy hno (by omega) _ 0 (Nat.zero_le _) (fun j hj => absurd hj (Nat.not_lt_zero _)) (Nat.lt_succ_self _)
theorem b_equals {E : jEnv} {o : Option MethodName} {σ : jW} {Q : Option Value → jW → Prop} {s i : Nat} {u : List Int} {h hz : Int32}  (hO : OS E σ s u h hz) (hu : uR u) (hul : u.length ≤ 100000) (hi : i < 10) (hy : u = sTx i → Q (some (.int (zI 1))) σ) (hn : u ≠ sTx i → Q (some (.int (zI 0))) σ)  : J E wI (cX E, o) cJ4_equals 3 (some .boolean) RJ4 (jR 2 0 0) (0) (0) 0 [some (.ref s), some (.ref (sA E i)), none] [] σ Q := by
  obtain ⟨sv, g, x2, x3, hg, hfg⟩ := hO
  have hs0 : jHas E σ s (.inr (8, stV (.ref sv) h hz)) := Or.inl ⟨2, x2⟩
  have hs1 : jHas E σ sv (bA E u.length g) := Or.inl ⟨3, x3⟩
  have hsl : (sTx i).length ≤ 10 := by
    have hh : ∀ i : Fin 10, (sTx i.val).length ≤ 10 := by decide +kernel
    exact hh ⟨i, hi⟩
  refine J_aload_n dJ4_equals_0 rfl ?_
  refine J_aload_n dJ4_equals_1 rfl ?_
  refine JO_acmp 2 i rfl x2 (by omega) (by rw [oC_s hi]) dJ4_equals_2 (tgt := 7) (by decide) ?_
  refine J_aload_n dJ4_equals_7 rfl ?_
  refine JO_inst i rfl (by omega) (oC_s hi) rfl q745 dJ4_equals_8 ?_
  refine J_if_eq_n (tgt := 54) dJ4_equals_11 (by decide) (by decide) ?_
  refine J_aload_n dJ4_equals_14 rfl ?_
  refine JO_cast i rfl (by omega) (oC_s hi) rfl q745 dJ4_equals_15 ?_
  refine J_astore_n dJ4_equals_18 rfl (by decide) _ rfl ?_
  refine J_gets rfl (List.mem_of_getElem? (i := 0) rfl) q664 dJ4_equals_19 ?_
  refine J_if_eq_n (tgt := 36) dJ4_equals_22 (by decide) (by decide) ?_
  refine J_aload_n dJ4_equals_25 rfl ?_
  refine SG_coder hs0 dJ4_equals_26 ?_
  refine J_aload_n dJ4_equals_29 rfl ?_
  refine SG_coder (Or.inr ⟨i, by omega, oC_s hi⟩) dJ4_equals_30 ?_
  refine J_icmp_ne_n (tgt := 54) dJ4_equals_33 (by decide) (by decide) ?_
  refine J_aload_n dJ4_equals_36 rfl ?_
  refine SG_value hs0 dJ4_equals_37 ?_
  refine J_aload_n dJ4_equals_40 rfl ?_
  refine SG_value (Or.inr ⟨i, by omega, oC_s hi⟩) dJ4_equals_41 ?_
  refine J_eS (y := yJ15_equals) (R' := (jR 1 0 0)) [.ref sv, .ref (sB E i)] 2 q746 q747 q124 q748 (by decide +kernel) cX_1 ⟨Nat.le_of_ble_eq_true rfl, Nat.le_of_ble_eq_true rfl⟩ ⟨(by first | omega | (simp only [jR]; done) | (simp only [jR]; omega)), (by first | omega | (simp only [jR]; done) | (simp only [jR]; omega))⟩ rfl (Nat.le_of_ble_eq_true rfl) dJ4_equals_44 (JE.of (X' := (cX E, none)) (by decide +kernel) (Nat.le_of_ble_eq_true rfl) (fun _ z => by cases z) ?_)
  refine b_le hs1 (Or.inr ⟨10 + i, by omega, oC_b hi⟩) ⟨hul, by omega⟩ (fun q => ?_) (fun q => ?_)
  · refine J_ri ?_
    skip
    refine J_if_eq_n (tgt := 54) dJ4_equals_47 (by decide) (by decide) ?_
    refine J_iconst (zI 1) dJ4_equals_50 rfl ?_
    refine J_goto (tgt := 55) dJ4_equals_51 (by decide) ?_
    exact J_zret rfl dJ4_equals_55 rfl (by exact hy ((list_z hu (uR.t hi) hg).mp q))
  · refine J_ri ?_
    skip
    refine J_if_eq_y (tgt := 54) dJ4_equals_47 (by decide) (by decide) ?_
    refine J_iconst (zI 0) dJ4_equals_54 rfl ?_
    exact J_zret rfl dJ4_equals_55 rfl (by exact hn (fun e => q ((list_z hu (uR.t hi) hg).mpr e)))
theorem J_fmt {E : jEnv} {St : Type} {w : St → jW} {o : Option MethodName} {cc : ByteArray} {mL : Nat} {ret : Option FieldType} {own : String} {R : Room} {k n pc : Nat} {L : List (Option Value)} {st : List Value} {σ : St} {Q : Option Value → St → Prop} {index : Nat} (q : Cond.fieldLink own index "jdk/internal/util/Preconditions" "SIOOBE_FORMATTER" "Ljava/util/function/BiFunction;" ∈ lw_all) (d : decode cc pc = .ok (.getstatic index, 3)) (kn : J E w (cX E, o) cc mL ret own R k n (pc + 3) L (.null :: st) σ Q) (kk : ∀ t, J E w (cX E, o) cc mL ret own R k n (pc + 3) L (.ref t :: st) σ Q) : J E w (cX E, o) cc mL ret own R k n pc L st σ Q := by
  intro p e s m args below meth c A H locs ls C0 hX hA hk hn hP hD hS hL
  have hXc : cX E A s := hX.1
  rcases hXc.2.2.2.2.2.1 with h | ⟨t, h⟩
  · exact va_gets C0.1 C0.2.1 h hS C0.2.2.2.2.2.1 (C0.2.2.2.2.2.2.1 _ q) (fun _ h => h) d (kn p e s m args below meth c A H locs ls C0 hX hA hk hn hP hD hS hL)
  · exact va_gets C0.1 C0.2.1 h hS C0.2.2.2.2.2.1 (C0.2.2.2.2.2.2.1 _ q) (fun _ h => h) d (kk t p e s m args below meth c A H locs ls C0 hX hA hk hn hP hD hS hL)
theorem b_pcin {E : jEnv} {St : Type} {w : St → jW} {X : jX} {σ : St} {Q : Option Value → St → Prop} {i m : Nat}  (hi : i < m) (hm : m ≤ 100000) (hq : Q (some (.int (zI (i : Nat)))) σ)  : J E w X cJ16_checkIndex 3 (some .int) RJ16 (jR 1 0 0) (0) (0) 0 [some (.int (zI (i : Nat))), some (.int (zI (m : Nat))), some .null] [] σ Q := by
  refine J_iload_n dJ16_checkIndex_0 rfl ?_
  refine J_if_lt_z (tgt := 9) dJ16_checkIndex_1 (by decide) (by unfold zR; omega) (fun c1 => ?_) (fun c1 => ?_)
  · exfalso; omega
  · skip
    refine J_iload_n dJ16_checkIndex_4 rfl ?_
    refine J_iload_n dJ16_checkIndex_5 rfl ?_
    refine J_icmp_lt_z (tgt := 16) dJ16_checkIndex_6 (by decide) (by unfold zR; omega) (by unfold zR; omega) (fun c6 => ?_) (fun c6 => ?_)
    · skip
      refine J_iload_n dJ16_checkIndex_16 rfl ?_
      exact J_iret rfl dJ16_checkIndex_17 (by exact hq)
    · exfalso; omega
theorem b_pcir {E : jEnv} {St : Type} {w : St → jW} {X : jX} {σ : St} {Q : Option Value → St → Prop} {i m : Nat} {y : Nat}  (hi : i < m) (hm : m ≤ 100000) (hq : Q (some (.int (zI (i : Nat)))) σ)  : J E w X cJ16_checkIndex 3 (some .int) RJ16 (jR 1 0 0) (0) (0) 0 [some (.int (zI (i : Nat))), some (.int (zI (m : Nat))), some (.ref y)] [] σ Q := by
  refine J_iload_n dJ16_checkIndex_0 rfl ?_
  refine J_if_lt_z (tgt := 9) dJ16_checkIndex_1 (by decide) (by unfold zR; omega) (fun c1 => ?_) (fun c1 => ?_)
  · exfalso; omega
  · skip
    refine J_iload_n dJ16_checkIndex_4 rfl ?_
    refine J_iload_n dJ16_checkIndex_5 rfl ?_
    refine J_icmp_lt_z (tgt := 16) dJ16_checkIndex_6 (by decide) (by unfold zR; omega) (by unfold zR; omega) (fun c6 => ?_) (fun c6 => ?_)
    · skip
      refine J_iload_n dJ16_checkIndex_16 rfl ?_
      exact J_iret rfl dJ16_checkIndex_17 (by exact hq)
    · exfalso; omega
theorem b_chkIx {E : jEnv} {o : Option MethodName} {σ : jW} {Q : Option Value → jW → Prop} {i m : Nat}  (hi : i < m) (hm : m ≤ 100000) (hq : Q none σ)  : J E wI (cX E, o) cJ4_checkIndex 2 none RJ4 (jR 2 0 0) (0) (0) 0 [some (.int (zI (i : Nat))), some (.int (zI (m : Nat)))] [] σ Q := by
  refine J_iload_n dJ4_checkIndex_0 rfl ?_
  refine J_iload_n dJ4_checkIndex_1 rfl ?_
  refine J_fmt q603 dJ4_checkIndex_2 ?_ (fun y => ?_)
  · skip
    skip
    skip
    refine J_eS (y := yJ16_checkIndex) (R' := (jR 1 0 0)) [.int (zI ((i : Nat) : Int)), .int (zI ((m : Nat) : Int)), .null] 3 q626 q627 q125 q628 (by decide +kernel) cX_1 ⟨Nat.le_of_ble_eq_true rfl, Nat.le_of_ble_eq_true rfl⟩ ⟨(by first | omega | (simp only [jR]; done) | (simp only [jR]; omega)), (by first | omega | (simp only [jR]; done) | (simp only [jR]; omega))⟩ rfl (Nat.le_of_ble_eq_true rfl) dJ4_checkIndex_5 (JE.of (X' := (cX E, none)) (by decide +kernel) (Nat.le_of_ble_eq_true rfl) (fun _ z => by cases z) ?_)
    refine b_pcin hi hm ?_
    refine J_ri ?_
    refine J_pop dJ4_checkIndex_8 rfl ?_
    exact J_vret rfl dJ4_checkIndex_9 (by exact hq)
  · skip
    skip
    skip
    refine J_eS (y := yJ16_checkIndex) (R' := (jR 1 0 0)) [.int (zI ((i : Nat) : Int)), .int (zI ((m : Nat) : Int)), .ref y] 3 q626 q627 q125 q628 (by decide +kernel) cX_1 ⟨Nat.le_of_ble_eq_true rfl, Nat.le_of_ble_eq_true rfl⟩ ⟨(by first | omega | (simp only [jR]; done) | (simp only [jR]; omega)), (by first | omega | (simp only [jR]; done) | (simp only [jR]; omega))⟩ rfl (Nat.le_of_ble_eq_true rfl) dJ4_checkIndex_5 (JE.of (X' := (cX E, none)) (by decide +kernel) (Nat.le_of_ble_eq_true rfl) (fun _ z => by cases z) ?_)
    refine b_pcir hi hm ?_
    refine J_ri ?_
    refine J_pop dJ4_checkIndex_8 rfl ?_
    exact J_vret rfl dJ4_checkIndex_9 (by exact hq)
theorem b_charAt9 {E : jEnv} {o : Option MethodName} {σ : jW} {Q : Option Value → jW → Prop} {a N i : Nat} {t : List Int}  (hB : SB E σ a t N) (hN : N ≤ 4000) (hi : i < t.length) (hu : uR t) (hq : Q (some (.int (zI (t.getD i 0)))) σ)  : J E wI (cX E, o) cJ9_charAt 5 (some .char) RJ9 (jR 3 0 0) (0) (0) 0 [some (.ref a), some (.int (zI (i : Nat))), none, none, none] [] σ Q := by
  obtain ⟨va, f, h0, h1, hT⟩ := hB
  have hl := hT.1
  refine J_aload_n dJ9_charAt_0 rfl ?_
  refine BG_coder h0 dJ9_charAt_1 ?_
  refine J_istore_n dJ9_charAt_4 rfl (by decide) _ rfl ?_
  refine J_aload_n dJ9_charAt_5 rfl ?_
  refine BG_value h0 dJ9_charAt_6 ?_
  refine J_astore_n dJ9_charAt_9 rfl (by decide) _ rfl ?_
  refine J_aload_n dJ9_charAt_10 rfl ?_
  refine BG_count h0 dJ9_charAt_11 ?_
  refine J_aload_n dJ9_charAt_14 rfl ?_
  refine JG_alen (Or.inl ⟨1, h1⟩) dJ9_charAt_15 ?_
  refine J_iload_n dJ9_charAt_16 rfl ?_
  refine J_ishr dJ9_charAt_17 ?_
  refine J_top (zI ((N : Nat) : Int)) (sh_r _) ?_
  refine PJ9_min (by unfold zR; omega) (by unfold zR; omega) ⟨Nat.le_of_ble_eq_true rfl, Nat.le_of_ble_eq_true rfl⟩ ⟨(by first | omega | (simp only [jR]; done) | (simp only [jR]; omega)), (by first | omega | (simp only [jR]; done) | (simp only [jR]; omega))⟩ (Nat.le_of_ble_eq_true rfl) dJ9_charAt_18 ?_
  refine J_top (zI ((t.length : Nat) : Int)) (congrArg zI (by split <;> omega)) ?_
  refine J_istore dJ9_charAt_21 rfl (by decide) _ rfl ?_
  refine J_iload_n dJ9_charAt_23 rfl ?_
  refine J_iload dJ9_charAt_24 rfl ?_
  refine J_eS (y := yJ4_checkIndex) (R' := (jR 2 0 0)) [.int (zI ((i : Nat) : Int)), .int (zI ((t.length : Nat) : Int))] 2 q1049 q624 q112 q625 (by decide +kernel) cX_1 ⟨Nat.le_of_ble_eq_true rfl, Nat.le_of_ble_eq_true rfl⟩ ⟨(by first | omega | (simp only [jR]; done) | (simp only [jR]; omega)), (by first | omega | (simp only [jR]; done) | (simp only [jR]; omega))⟩ rfl (Nat.le_of_ble_eq_true rfl) dJ9_charAt_26 (JE.of (X' := (cX E, none)) (by decide +kernel) (Nat.le_of_ble_eq_true rfl) (fun _ z => by cases z) ?_)
  refine b_chkIx hi (by omega) ?_
  refine J_rv ?_
  refine J_iload_n dJ9_charAt_29 rfl ?_
  refine J_if_ne_n (tgt := 42) dJ9_charAt_30 (by decide) (by decide) ?_
  refine J_aload_n dJ9_charAt_33 rfl ?_
  refine J_iload_n dJ9_charAt_34 rfl ?_
  refine JG_bald i (Or.inl ⟨1, h1⟩) rfl (by omega) (by omega) dJ9_charAt_35 ?_
  refine J_top (zI (t.getD i 0)) (hT.2.1 i hi) ?_
  refine J_sipush (zI 255) dJ9_charAt_36 rfl ?_
  refine J_iand dJ9_charAt_39 ?_
  refine J_top (zI (t.getD i 0)) (and255 (hu.at hi)) ?_
  refine J_i2c dJ9_charAt_40 ?_
  refine J_top (zI (t.getD i 0)) (chr_z (hu.at hi)).1 ?_
  exact J_nret rfl dJ9_charAt_41 (chr_z (hu.at hi)).2 (by exact hq)
theorem b_charAt {E : jEnv} {o : Option MethodName} {σ : jW} {Q : Option Value → jW → Prop} {a N i : Nat} {t : List Int}  (hB : SB E σ a t N) (hN : N ≤ 4000) (hi : i < t.length) (hu : uR t) (hq : Q (some (.int (zI (t.getD i 0)))) σ)  : J E wI (cX E, o) cJ10_charAt 2 (some .char) RJ10 (jR 4 0 0) (0) (0) 0 [some (.ref a), some (.int (zI (i : Nat)))] [] σ Q := by
  obtain ⟨va, f, h0, h1, hT⟩ := id hB
  refine J_aload_n dJ10_charAt_0 rfl ?_
  refine J_iload_n dJ10_charAt_1 rfl ?_
  refine J_eSU (y := yJ9_charAt) (R' := (jR 3 0 0)) (owner := RJ9) (x := yJ9_charAt) [.int (zI ((i : Nat) : Int))] 1 0 h0 rfl q1045 q2118 q535 q1046 q118 q1047 rfl (Or.inl rfl) (by decide +kernel) (by decide +kernel) cX_1 ⟨Nat.le_of_ble_eq_true rfl, Nat.le_of_ble_eq_true rfl⟩ ⟨(by first | omega | (simp only [jR]; done) | (simp only [jR]; omega)), (by first | omega | (simp only [jR]; done) | (simp only [jR]; omega))⟩ rfl (Nat.le_of_ble_eq_true rfl) dJ10_charAt_2 (JE.of (X' := (cX E, none)) (by decide +kernel) (Nat.le_of_ble_eq_true rfl) (fun _ z => by cases z) ?_)
  refine b_charAt9 hB hN hi hu ?_
  refine J_ri ?_
  exact J_nret rfl dJ10_charAt_5 (chr_z (hu.at hi)).2 (by exact hq)
