set_option maxRecDepth 100000
/-! strings: fields, small methods -/
theorem j_upup {σ : jW} {r : Nat} {x y : Option (Nat × jE)} : j_up (j_up σ r x) r y = j_up σ r y := by
  funext r'
  simp only [j_up]
  split <;> rfl
/-- the array's size after room for q letters was asked -/
def bcap (N q : Nat) : Nat := if q ≤ N then N else if q < 2 * N + 2 then 2 * N + 2 else q
theorem bcap_b {N q : Nat} : q ≤ bcap N q ∧ N ≤ bcap N q ∧ (bcap N q ≤ N ∨ bcap N q ≤ 2 * N + 2 ∨ bcap N q ≤ q) ∧ (N < q → N < bcap N q) := by
  unfold bcap
  split
  · omega
  · split <;> omega
theorem bcap_v {N q : Nat} (h : N < q) : ((N : Int) + (if ((q : Int) - (N : Int)) < (N : Int) + 2 then (N : Int) + 2 else (q : Int) - (N : Int))) = ((bcap N q : Nat) : Int) := by
  have e : bcap N q = if q < 2 * N + 2 then 2 * N + 2 else q := if_neg (by omega)
  rw [e]
  by_cases z : q < 2 * N + 2
  · rw [if_pos z, if_pos (by omega)]; omega
  · rw [if_neg z, if_neg (by omega)]; omega
theorem sh_l (x : Int32) : x <<< (zI 0 &&& 31) = x := by
  have : (zI 0 &&& 31 : Int32) = 0 := by decide
  rw [this]
  simp
theorem sh_r (x : Int32) : x >>> (zI 0 &&& 31) = x := by
  have : (zI 0 &&& 31 : Int32) = 0 := by decide
  rw [this]
  simp
section BR
variable {E : jEnv} {X : jX} {o : Option MethodName} {cc : ByteArray} {mL : Nat} {ret : Option FieldType} {own : String} {R : Room} {k n pc : Nat} {L : List (Option Value)} {st : List Value} {σ : jW} {Q : Option Value → jW → Prop} {a : Nat} {v : Value} {c h hz : Int32}
theorem BG_value (h0 : σ 0 = some (a, .inr (7, bV v c))) (d : decode cc pc = .ok (.getfield 15, 3)) (kk : J E wI X cc mL ret RJ9 R k n (pc + 3) L (v :: st) σ Q) : J E wI X cc mL ret RJ9 R k n pc L (.ref a :: st) σ Q := J_get 0 0 h0 rfl in_J10 (by decide) q523 rfl d kk
theorem BG_coder (h0 : σ 0 = some (a, .inr (7, bV v c))) (d : decode cc pc = .ok (.getfield 22, 3)) (kk : J E wI X cc mL ret RJ9 R k n (pc + 3) L (.int (zI 0) :: st) σ Q) : J E wI X cc mL ret RJ9 R k n pc L (.ref a :: st) σ Q := J_get 0 1 h0 rfl in_J10 (by decide) q524 rfl d kk
theorem BG_count (h0 : σ 0 = some (a, .inr (7, bV v c))) (d : decode cc pc = .ok (.getfield 79, 3)) (kk : J E wI X cc mL ret RJ9 R k n (pc + 3) L (.int c :: st) σ Q) : J E wI X cc mL ret RJ9 R k n pc L (.ref a :: st) σ Q := J_get 0 3 h0 rfl in_J10 (by decide) q526 rfl d kk
theorem BP_value {v' : Nat} (h0 : σ 0 = some (a, .inr (7, bV v c))) (d : decode cc pc = .ok (.putfield 15, 3)) (kk : J E wI X cc mL ret RJ9 R k n (pc + 3) L st (j_up σ 0 (some (a, .inr (7, bV (.ref v') c)))) Q) : J E wI X cc mL ret RJ9 R k n pc L (.ref v' :: .ref a :: st) σ Q := J_put 0 0 h0 rfl in_J10 tyJ10_ok nmJ10 (by decide) q523 rfl rfl rfl rfl (by rw [bV_v]) d kk
theorem BP_coder (h0 : σ 0 = some (a, .inr (7, bV v c))) (d : decode cc pc = .ok (.putfield 22, 3)) (kk : J E wI X cc mL ret RJ9 R k n (pc + 3) L st (j_up σ 0 (some (a, .inr (7, bV v c)))) Q) : J E wI X cc mL ret RJ9 R k n pc L (.int (zI 0) :: .ref a :: st) σ Q := J_put 0 1 h0 rfl in_J10 tyJ10_ok nmJ10 (by decide) q524 rfl rfl rfl rfl (by rw [bV_c]) d kk
theorem BP_count {c' : Int32} (h0 : σ 0 = some (a, .inr (7, bV v c))) (d : decode cc pc = .ok (.putfield 79, 3)) (kk : J E wI X cc mL ret RJ9 R k n (pc + 3) L st (j_up σ 0 (some (a, .inr (7, bV v c')))) Q) : J E wI X cc mL ret RJ9 R k n pc L (.int c' :: .ref a :: st) σ Q := J_put 0 3 h0 rfl in_J10 tyJ10_ok nmJ10 (by decide) q526 rfl rfl rfl rfl (by rw [bV_n]) d kk
theorem SG_value (h0 : jHas E σ a (.inr (8, stV v h hz))) (d : decode cc pc = .ok (.getfield 9, 3)) (kk : J E wI (cX E, o) cc mL ret RJ4 R k n (pc + 3) L (v :: st) σ Q) : J E wI (cX E, o) cc mL ret RJ4 R k n pc L (.ref a :: st) σ Q := JG_get 0 h0 rfl in_J4 (by decide) q678 rfl d kk
theorem SG_coder (h0 : jHas E σ a (.inr (8, stV v h hz))) (d : decode cc pc = .ok (.getfield 15, 3)) (kk : J E wI (cX E, o) cc mL ret RJ4 R k n (pc + 3) L (.int (zI 0) :: st) σ Q) : J E wI (cX E, o) cc mL ret RJ4 R k n pc L (.ref a :: st) σ Q := JG_get 1 h0 rfl in_J4 (by decide) q679 rfl d kk
theorem SG_hash (h0 : jHas E σ a (.inr (8, stV v h hz))) (d : decode cc pc = .ok (.getfield 19, 3)) (kk : J E wI (cX E, o) cc mL ret RJ4 R k n (pc + 3) L (.int h :: st) σ Q) : J E wI (cX E, o) cc mL ret RJ4 R k n pc L (.ref a :: st) σ Q := JG_get 2 h0 rfl in_J4 (by decide) q680 rfl d kk
theorem SG_hashIsZero (h0 : jHas E σ a (.inr (8, stV v h hz))) (d : decode cc pc = .ok (.getfield 23, 3)) (kk : J E wI (cX E, o) cc mL ret RJ4 R k n (pc + 3) L (.int hz :: st) σ Q) : J E wI (cX E, o) cc mL ret RJ4 R k n pc L (.ref a :: st) σ Q := JG_get 3 h0 rfl in_J4 (by decide) q681 rfl d kk
theorem SP_hash {h' : Int32} (h0 : σ 2 = some (a, .inr (8, stV v h hz))) (d : decode cc pc = .ok (.putfield 19, 3)) (kk : J E wI X cc mL ret RJ4 R k n (pc + 3) L st (j_up σ 2 (some (a, .inr (8, stV v h' hz)))) Q) : J E wI X cc mL ret RJ4 R k n pc L (.int h' :: .ref a :: st) σ Q := J_put 2 2 h0 rfl in_J4 tyJ4_ok nmJ4 (by decide) q680 rfl rfl rfl rfl (by rw [stV_h]) d kk
theorem SP_hz (h0 : σ 2 = some (a, .inr (8, stV v h hz))) (d : decode cc pc = .ok (.putfield 23, 3)) (kk : J E wI X cc mL ret RJ4 R k n (pc + 3) L st (j_up σ 2 (some (a, .inr (8, stV v h (zI 1))))) Q) : J E wI X cc mL ret RJ4 R k n pc L (.int (zI 1) :: .ref a :: st) σ Q := J_put 2 3 h0 rfl in_J4 tyJ4_ok nmJ4 (by decide) q681 rfl rfl rfl rfl (by rw [stV_z]) d kk
theorem SP_value {v' : Nat} {y : MethodName} (hy : X.2 = some y) (hn : y.name = "<init>") (h0 : σ 2 = some (a, .inr (8, stV v h hz))) (d : decode cc pc = .ok (.putfield 9, 3)) (kk : J E wI X cc mL ret RJ4 R k n (pc + 3) L st (j_up σ 2 (some (a, .inr (8, stV (.ref v') h hz)))) Q) : J E wI X cc mL ret RJ4 R k n pc L (.ref v' :: .ref a :: st) σ Q := J_putF 2 0 h0 rfl in_J4 tyJ4_ok nmJ4 (by decide) q678 rfl rfl hy hn rfl rfl (by rw [stV_v]) d kk
theorem SP_coder {y : MethodName} (hy : X.2 = some y) (hn : y.name = "<init>") (h0 : σ 2 = some (a, .inr (8, stV v h hz))) (d : decode cc pc = .ok (.putfield 15, 3)) (kk : J E wI X cc mL ret RJ4 R k n (pc + 3) L st (j_up σ 2 (some (a, .inr (8, stV v h hz)))) Q) : J E wI X cc mL ret RJ4 R k n pc L (.int (zI 0) :: .ref a :: st) σ Q := J_putF 2 1 h0 rfl in_J4 tyJ4_ok nmJ4 (by decide) q679 rfl rfl hy hn rfl rfl (by rw [stV_c]) d kk
theorem JB_bast {z : Int} {x : Int32} {va N : Nat} {f : Nat → Int32} (m : Nat) (h1 : σ 1 = some (va, bA E N f)) (hz : z = m) (hm : m < N) (hN : N ≤ 1000000) (d : decode cc pc = .ok (.bastore, 1)) (kk : J E wI X cc mL ret own R k n (pc + 1) L st (j_up σ 1 (some (va, bA E N (upd f m x.toInt8.toInt32)))) Q) : J E wI X cc mL ret own R k n pc L (.int x :: .int (zI z) :: .ref va :: st) σ Q := by
  obtain ⟨g1, g2⟩ := zI_in hz hm hN
  exact J_bast 1 h1 g1 (by rw [g2]) d kk
end BR
section V
variable {E : jEnv} {St : Type} {w : St → jW} {X : jX} {cc : ByteArray} {mL : Nat} {ret : Option FieldType} {R : Room} {k n pc : Nat} {L : List (Option Value)} {st : List Value} {σ : St} {Q : Option Value → St → Prop}
theorem PJ12_max {x y : Int} (rx : zR x) (ry : zR y) (hR : 2 ≤ R.frames ∧ 96 ≤ R.locals) (hcs : k ≤ R.cells ∧ n ≤ R.slots) (hst : (st.map fun v => v.category).sum ≤ 8) (d : decode cc pc = .ok (.invokestatic 194, 3)) (kk : J E w X cc mL ret RJ12 R k n (pc + 3) L (.int (zI (if x < y then y else x)) :: st) σ Q) : J E w X cc mL ret RJ12 R k n (pc) L (.int (zI y) :: .int (zI x) :: st) σ Q := by
  intro p e s m args below meth c A H locs ls C hX hA hk hn hP hD hS hL
  have hts := C.2.2.2.2.2.2.1
  refine va_mmax C.1 C.2.1 (C.2.2.2.2.1.trans hL.1.symm) C.2.2.2.2.2.1 (hts _ q554) (hts _ q555) (hts _ q122) (hts _ q556) (by omega) (by omega) hcs.1 hcs.2 d ?_
  have e1 : (if zI x < zI y then zI y else zI x) = zI (if x < y then y else x) := by
    simp only [zI_lt rx ry]
    split <;> rfl
  rw [e1]
  exact kk p e s m args below meth c A H locs ls C hX hA hk hn hP hD hS hL
end V
section V
variable {E : jEnv} {St : Type} {w : St → jW} {X : jX} {cc : ByteArray} {mL : Nat} {ret : Option FieldType} {R : Room} {k n pc : Nat} {L : List (Option Value)} {st : List Value} {σ : St} {Q : Option Value → St → Prop}
theorem PJ14_min {x y : Int} (rx : zR x) (ry : zR y) (hR : 2 ≤ R.frames ∧ 96 ≤ R.locals) (hcs : k ≤ R.cells ∧ n ≤ R.slots) (hst : (st.map fun v => v.category).sum ≤ 8) (d : decode cc pc = .ok (.invokestatic 304, 3)) (kk : J E w X cc mL ret RJ14 R k n (pc + 3) L (.int (zI (if y < x then y else x)) :: st) σ Q) : J E w X cc mL ret RJ14 R k n (pc) L (.int (zI y) :: .int (zI x) :: st) σ Q := by
  intro p e s m args below meth c A H locs ls C hX hA hk hn hP hD hS hL
  have hts := C.2.2.2.2.2.2.1
  refine va_mmin C.1 C.2.1 (C.2.2.2.2.1.trans hL.1.symm) C.2.2.2.2.2.1 (hts _ q572) (hts _ q573) (hts _ q122) (hts _ q574) (by omega) (by omega) hcs.1 hcs.2 d ?_
  have e1 : (if zI y < zI x then zI y else zI x) = zI (if y < x then y else x) := by
    simp only [zI_lt ry rx]
    split <;> rfl
  rw [e1]
  exact kk p e s m args below meth c A H locs ls C hX hA hk hn hP hD hS hL
end V
section V
variable {E : jEnv} {St : Type} {w : St → jW} {X : jX} {cc : ByteArray} {mL : Nat} {ret : Option FieldType} {R : Room} {k n pc : Nat} {L : List (Option Value)} {st : List Value} {σ : St} {Q : Option Value → St → Prop}
theorem PJ9_min {x y : Int} (rx : zR x) (ry : zR y) (hR : 2 ≤ R.frames ∧ 96 ≤ R.locals) (hcs : k ≤ R.cells ∧ n ≤ R.slots) (hst : (st.map fun v => v.category).sum ≤ 8) (d : decode cc pc = .ok (.invokestatic 138, 3)) (kk : J E w X cc mL ret RJ9 R k n (pc + 3) L (.int (zI (if y < x then y else x)) :: st) σ Q) : J E w X cc mL ret RJ9 R k n (pc) L (.int (zI y) :: .int (zI x) :: st) σ Q := by
  intro p e s m args below meth c A H locs ls C hX hA hk hn hP hD hS hL
  have hts := C.2.2.2.2.2.2.1
  refine va_mmin C.1 C.2.1 (C.2.2.2.2.1.trans hL.1.symm) C.2.2.2.2.2.1 (hts _ q1048) (hts _ q573) (hts _ q122) (hts _ q574) (by omega) (by omega) hcs.1 hcs.2 d ?_
  have e1 : (if zI y < zI x then zI y else zI x) = zI (if y < x then y else x) := by
    simp only [zI_lt ry rx]
    split <;> rfl
  rw [e1]
  exact kk p e s m args below meth c A H locs ls C hX hA hk hn hP hD hS hL
end V
theorem b_size {E : jEnv} {St : Type} {w : St → jW} {X : jX} {σ : St} {Q : Option Value → St → Prop} {z : Int}  (hz : 0 ≤ z ∧ z < 100) (h1 : z < 10 → Q (some (.int (zI 1))) σ) (h2 : 10 ≤ z → Q (some (.int (zI 2))) σ)  : J E w X cJ17_stringSize 4 (some .int) RJ17 (jR 1 0 0) (0) (0) 0 [some (.int (zI (z))), none, none, none] [] σ Q := by
  refine J_iconst (zI 1) dJ17_stringSize_0 rfl ?_
  refine J_istore_n dJ17_stringSize_1 rfl (by decide) _ rfl ?_
  refine J_iload_n dJ17_stringSize_2 rfl ?_
  refine J_if_lt_z (tgt := 11) dJ17_stringSize_3 (by decide) (by unfold zR; omega) (fun c3 => ?_) (fun c3 => ?_)
  · exfalso; omega
  · skip
    refine J_iconst (zI 0) dJ17_stringSize_6 rfl ?_
    refine J_istore_n dJ17_stringSize_7 rfl (by decide) _ rfl ?_
    refine J_iload_n dJ17_stringSize_8 rfl ?_
    refine J_ineg_z dJ17_stringSize_9 ?_
    refine J_istore_n dJ17_stringSize_10 rfl (by decide) _ rfl ?_
    refine J_bipush (zI (-10)) dJ17_stringSize_11 rfl ?_
    refine J_istore_n dJ17_stringSize_13 rfl (by decide) _ rfl ?_
    refine J_iconst (zI 1) dJ17_stringSize_14 rfl ?_
    refine J_istore_n dJ17_stringSize_15 rfl (by decide) _ rfl ?_
    refine J_iload_n dJ17_stringSize_16 rfl ?_
    refine J_bipush (zI 10) dJ17_stringSize_17 rfl ?_
    refine J_icmp_ge_n (tgt := 42) dJ17_stringSize_19 (by decide) (by decide) ?_
    refine J_iload_n dJ17_stringSize_22 rfl ?_
    refine J_iload_n dJ17_stringSize_23 rfl ?_
    refine J_icmp_le_z (tgt := 31) dJ17_stringSize_24 (by decide) (by unfold zR; omega) (by unfold zR; omega) (fun c24 => ?_) (fun c24 => ?_)
    · skip
      refine J_bipush (zI 10) dJ17_stringSize_31 rfl ?_
      refine J_iload_n dJ17_stringSize_33 rfl ?_
      refine J_imul_z dJ17_stringSize_34 ?_
      refine J_top (zI (-100)) rfl ?_
      refine J_istore_n dJ17_stringSize_35 rfl (by decide) _ rfl ?_
      refine J_iinc_z (2) (by omega) dJ17_stringSize_36 rfl rfl (by decide) _ rfl ?_
      refine J_goto (tgt := 16) dJ17_stringSize_39 (by decide) ?_
      refine J_iload_n dJ17_stringSize_16 rfl ?_
      refine J_bipush (zI 10) dJ17_stringSize_17 rfl ?_
      refine J_icmp_ge_n (tgt := 42) dJ17_stringSize_19 (by decide) (by decide) ?_
      refine J_iload_n dJ17_stringSize_22 rfl ?_
      refine J_iload_n dJ17_stringSize_23 rfl ?_
      refine J_icmp_le_z (tgt := 31) dJ17_stringSize_24 (by decide) (by unfold zR; omega) (by unfold zR; omega) (fun c24 => ?_) (fun c24 => ?_)
      · exfalso; omega
      · skip
        refine J_iload_n dJ17_stringSize_27 rfl ?_
        refine J_iload_n dJ17_stringSize_28 rfl ?_
        refine J_iadd_z dJ17_stringSize_29 ?_
        refine J_top (zI (2)) rfl ?_
        exact J_iret rfl dJ17_stringSize_30 (by exact h2 (by omega))
    · skip
      refine J_iload_n dJ17_stringSize_27 rfl ?_
      refine J_iload_n dJ17_stringSize_28 rfl ?_
      refine J_iadd_z dJ17_stringSize_29 ?_
      refine J_top (zI (1)) rfl ?_
      exact J_iret rfl dJ17_stringSize_30 (by exact h1 (by omega))
theorem b_canEnc {E : jEnv} {St : Type} {w : St → jW} {X : jX} {σ : St} {Q : Option Value → St → Prop} {z : Int}  (hz : 0 ≤ z ∧ z ≤ 255) (hq : Q (some (.int (zI 1))) σ)  : J E w X cJ15_canEncode 1 (some .boolean) RJ15 (jR 1 0 0) (0) (0) 0 [some (.int (zI (z)))] [] σ Q := by
  refine J_iload_n dJ15_canEncode_0 rfl ?_
  refine J_sipush (zI 255) dJ15_canEncode_1 rfl ?_
  refine J_icmp_gt_z (tgt := 11) dJ15_canEncode_4 (by decide) (by unfold zR; omega) (by unfold zR; omega) (fun c4 => ?_) (fun c4 => ?_)
  · exfalso; omega
  · skip
    refine J_iconst (zI 1) dJ15_canEncode_7 rfl ?_
    refine J_goto (tgt := 12) dJ15_canEncode_8 (by decide) ?_
    exact J_zret rfl dJ15_canEncode_12 rfl (by exact hq)
theorem b_chars {E : jEnv} {o : Option MethodName} {σ : jW} {Q : Option Value → jW → Prop} {z : Int} {p va N : Nat} {f : Nat → Int32}  (hz : 0 ≤ z ∧ z < 100) (h1 : σ 1 = some (va, bA E N f)) (hN : N ≤ 1000000) (hp : 2 ≤ p ∧ p ≤ N ∨ z < 10 ∧ 1 ≤ p ∧ p ≤ N) (q1 : z < 10 → ∀ f', (∀ i, f' i = if i = p - 1 then zI (48 + z % 10) else f i) → Q (some (.int (zI ((p : Int) - 1)))) (j_up σ 1 (some (va, bA E N f')))) (q2 : 10 ≤ z → ∀ f', (∀ i, f' i = if i = p - 1 then zI (48 + z % 10) else if i = p - 2 then zI (48 + z / 10) else f i) → Q (some (.int (zI ((p : Int) - 1 - 1)))) (j_up σ 1 (some (va, bA E N f'))))  : J E wI (cX E, o) cJ17_getChars 7 (some .int) RJ17 (jR 1 0 0) (0) (0) 0 [some (.int (zI (z))), some (.int (zI (p : Nat))), some (.ref va), none, none, none, none] [] σ Q := by
  refine J_iload_n dJ17_getChars_0 rfl ?_
  refine J_istore dJ17_getChars_1 rfl (by decide) _ rfl ?_
  refine J_iload_n dJ17_getChars_3 rfl ?_
  refine J_if_ge_z (tgt := 11) dJ17_getChars_4 (by decide) (by unfold zR; omega) (fun c4 => ?_) (fun c4 => ?_)
  · skip
    refine J_iconst (zI 0) dJ17_getChars_11 rfl ?_
    refine J_istore dJ17_getChars_12 rfl (by decide) _ rfl ?_
    refine J_iload dJ17_getChars_14 rfl ?_
    refine J_if_ne_n (tgt := 22) dJ17_getChars_16 (by decide) (by decide) ?_
    refine J_iload_n dJ17_getChars_19 rfl ?_
    refine J_ineg_z dJ17_getChars_20 ?_
    refine J_istore_n dJ17_getChars_21 rfl (by decide) _ rfl ?_
    refine J_iload_n dJ17_getChars_22 rfl ?_
    refine J_bipush (zI (-100)) dJ17_getChars_23 rfl ?_
    refine J_icmp_gt_z (tgt := 72) dJ17_getChars_25 (by decide) (by unfold zR; omega) (by unfold zR; omega) (fun c25 => ?_) (fun c25 => ?_)
    · skip
      refine J_aload_n dJ17_getChars_72 rfl ?_
      refine J_iinc_z ((p - 1)) (by omega) dJ17_getChars_73 rfl rfl (by decide) _ rfl ?_
      refine J_iload dJ17_getChars_76 rfl ?_
      refine J_gets rfl (List.mem_of_getElem? (i := 1) rfl) q983 dJ17_getChars_78 ?_
      refine J_iload_n dJ17_getChars_81 rfl ?_
      refine J_ineg_z dJ17_getChars_82 ?_
      refine JG_bald z.toNat (Or.inr ⟨20, by omega, rfl⟩) (by omega) (by omega) (by omega) dJ17_getChars_83 ?_
      refine J_top (zI (48 + ((z.toNat % 10 : Nat) : Int))) (rfl) ?_
      refine JB_bast (p - 1) h1 (by omega) (by omega) hN dJ17_getChars_84 ?_
      refine J_iload_n dJ17_getChars_85 rfl ?_
      refine J_bipush (zI (-9)) dJ17_getChars_86 rfl ?_
      refine J_icmp_ge_z (tgt := 104) dJ17_getChars_88 (by decide) (by unfold zR; omega) (by unfold zR; omega) (fun c88 => ?_) (fun c88 => ?_)
      · skip
        refine J_iload dJ17_getChars_104 rfl ?_
        refine J_if_eq_y (tgt := 118) dJ17_getChars_106 (by decide) (by decide) ?_
        refine J_iload dJ17_getChars_118 rfl ?_
        refine J_iret rfl dJ17_getChars_120 ?_
        refine q1 (by omega) _ (fun i => ?_)
        by_cases hi : i = p - 1
        · subst hi; rw [upd_s, if_pos rfl, by8_s (by omega)]; congr 1; omega
        · rw [upd_n hi, if_neg hi]
      · skip
        refine J_aload_n dJ17_getChars_91 rfl ?_
        refine J_iinc_z (((p - 1) - 1)) (by omega) dJ17_getChars_92 rfl rfl (by decide) _ rfl ?_
        refine J_iload dJ17_getChars_95 rfl ?_
        refine J_gets rfl (List.mem_of_getElem? (i := 2) rfl) q985 dJ17_getChars_97 ?_
        refine J_iload_n dJ17_getChars_100 rfl ?_
        refine J_ineg_z dJ17_getChars_101 ?_
        refine JG_bald z.toNat (Or.inr ⟨21, by omega, rfl⟩) (by omega) (by omega) (by omega) dJ17_getChars_102 ?_
        refine J_top (zI (48 + ((z.toNat / 10 : Nat) : Int))) (rfl) ?_
        refine JB_bast (p - 2) rfl (by omega) (by omega) hN dJ17_getChars_103 ?_
        refine J_iload dJ17_getChars_104 rfl ?_
        refine J_if_eq_y (tgt := 118) dJ17_getChars_106 (by decide) (by decide) ?_
        refine J_iload dJ17_getChars_118 rfl ?_
        refine J_iret rfl dJ17_getChars_120 ?_
        rw [j_upup]
        refine q2 (by omega) _ (fun i => ?_)
        by_cases hj : i = p - 2
        · subst hj; rw [upd_s, if_neg (by omega), if_pos rfl, by8_s (by omega)]; congr 1; omega
        · rw [upd_n hj]
          by_cases hi : i = p - 1
          · subst hi; rw [upd_s, if_pos rfl, by8_s (by omega)]; congr 1; omega
          · rw [upd_n hi, if_neg hi, if_neg hj]
    · exfalso; omega
  · exfalso; omega
theorem b_isL {E : jEnv} {o : Option MethodName} {σ : jW} {Q : Option Value → jW → Prop} {a : Nat} {v : Value} {c : Int32}  (h0 : σ 0 = some (a, .inr (7, bV v c))) (hq : Q (some (.int (zI 1))) σ)  : J E wI (cX E, o) cJ9_isLatin1 1 (some .boolean) RJ9 (jR 1 0 0) (0) (0) 0 [some (.ref a)] [] σ Q := by
  refine J_gets rfl (List.mem_of_getElem? (i := 0) rfl) q509 dJ9_isLatin1_0 ?_
  refine J_if_eq_n (tgt := 17) dJ9_isLatin1_3 (by decide) (by decide) ?_
  refine J_aload_n dJ9_isLatin1_6 rfl ?_
  refine BG_coder h0 dJ9_isLatin1_7 ?_
  refine J_if_ne_n (tgt := 17) dJ9_isLatin1_10 (by decide) (by decide) ?_
  refine J_iconst (zI 1) dJ9_isLatin1_13 rfl ?_
  refine J_goto (tgt := 18) dJ9_isLatin1_14 (by decide) ?_
  exact J_zret rfl dJ9_isLatin1_18 rfl (by exact hq)
theorem b_getValue {E : jEnv} {o : Option MethodName} {σ : jW} {Q : Option Value → jW → Prop} {a va : Nat} {c : Int32}  (h0 : σ 0 = some (a, .inr (7, bV (.ref va) c))) (hq : Q (some (.ref va)) σ)  : J E wI (cX E, o) cJ9_getValue 1 (some (.array .byte)) RJ9 (jR 1 0 0) (0) (0) 0 [some (.ref a)] [] σ Q := by
  refine J_aload_n dJ9_getValue_0 rfl ?_
  refine BG_value h0 dJ9_getValue_1 ?_
  exact J_aretA rfl dJ9_getValue_4 (by exact hq)
theorem b_len9 {E : jEnv} {o : Option MethodName} {σ : jW} {Q : Option Value → jW → Prop} {a : Nat} {v : Value} {c : Int32}  (h0 : σ 0 = some (a, .inr (7, bV v c))) (hq : Q (some (.int c)) σ)  : J E wI (cX E, o) cJ9_length 1 (some .int) RJ9 (jR 1 0 0) (0) (0) 0 [some (.ref a)] [] σ Q := by
  refine J_aload_n dJ9_length_0 rfl ?_
  refine BG_count h0 dJ9_length_1 ?_
  exact J_iret rfl dJ9_length_4 (by exact hq)
theorem b_len {E : jEnv} {o : Option MethodName} {σ : jW} {Q : Option Value → jW → Prop} {a : Nat} {v : Value} {c : Int32}  (h0 : σ 0 = some (a, .inr (7, bV v c))) (hq : Q (some (.int c)) σ)  : J E wI (cX E, o) cJ10_length 1 (some .int) RJ10 (jR 2 0 0) (0) (0) 0 [some (.ref a)] [] σ Q := by
  refine J_aload_n dJ10_length_0 rfl ?_
  refine J_eSU (y := yJ9_length) (R' := (jR 1 0 0)) (owner := RJ9) (x := yJ9_length) [] 0 0 h0 rfl q652 q648 q535 q647 q118 q653 rfl (Or.inl rfl) (by decide +kernel) (by decide +kernel) cX_1 ⟨Nat.le_of_ble_eq_true rfl, Nat.le_of_ble_eq_true rfl⟩ ⟨(by first | omega | (simp only [jR]; done) | (simp only [jR]; omega)), (by first | omega | (simp only [jR]; done) | (simp only [jR]; omega))⟩ rfl (Nat.le_of_ble_eq_true rfl) dJ10_length_1 (JE.of (X' := (cX E, none)) (by decide +kernel) (Nat.le_of_ble_eq_true rfl) (fun _ z => by cases z) ?_)
  refine b_len9 h0 ?_
  refine J_ri ?_
  exact J_iret rfl dJ10_length_4 (by exact hq)
theorem b_newLength {E : jEnv} {St : Type} {w : St → jW} {X : jX} {σ : St} {Q : Option Value → St → Prop} {x y p : Int}  (hx : 0 ≤ x ∧ x ≤ 100000) (hy : 0 < y ∧ y ≤ 100000) (hp : 0 ≤ p ∧ p ≤ 100000) (hq : Q (some (.int (zI (x + (if y < p then p else y))))) σ)  : J E w X cJ12_newLength 4 (some .int) RJ12 (jR 2 0 0) (0) (0) 0 [some (.int (zI (x))), some (.int (zI (y))), some (.int (zI (p))), none] [] σ Q := by
  refine J_iload_n dJ12_newLength_0 rfl ?_
  refine J_iload_n dJ12_newLength_1 rfl ?_
  refine J_iload_n dJ12_newLength_2 rfl ?_
  refine PJ12_max (by unfold zR; omega) (by unfold zR; omega) ⟨Nat.le_of_ble_eq_true rfl, Nat.le_of_ble_eq_true rfl⟩ ⟨(by first | omega | (simp only [jR]; done) | (simp only [jR]; omega)), (by first | omega | (simp only [jR]; done) | (simp only [jR]; omega))⟩ (Nat.le_of_ble_eq_true rfl) dJ12_newLength_3 ?_
  refine J_iadd_z dJ12_newLength_6 ?_
  have hm : 0 < (if y < p then p else y) ∧ (if y < p then p else y) ≤ 100000 := by split <;> omega
  refine J_istore_n dJ12_newLength_7 rfl (by decide) _ rfl ?_
  refine J_iconst (zI 0) dJ12_newLength_8 rfl ?_
  refine J_iload_n dJ12_newLength_9 rfl ?_
  refine J_icmp_ge_z (tgt := 21) dJ12_newLength_10 (by decide) (by unfold zR; omega) (by unfold zR; omega) (fun c10 => ?_) (fun c10 => ?_)
  · exfalso; omega
  · skip
    refine J_iload_n dJ12_newLength_13 rfl ?_
    refine J_ldc (zI 2147483639) q557 dJ12_newLength_14 ?_
    refine J_icmp_gt_z (tgt := 21) dJ12_newLength_16 (by decide) (by unfold zR; omega) (by unfold zR; omega) (fun c16 => ?_) (fun c16 => ?_)
    · exfalso; omega
    · skip
      refine J_iload_n dJ12_newLength_19 rfl ?_
      exact J_iret rfl dJ12_newLength_20 (by exact hq)
theorem b_newCap {E : jEnv} {o : Option MethodName} {σ : jW} {Q : Option Value → jW → Prop} {a va N q : Nat} {c : Int32} {f : Nat → Int32}  (h0 : σ 0 = some (a, .inr (7, bV (.ref va) c))) (h1 : σ 1 = some (va, bA E N f)) (hN : N ≤ 10000) (hq0 : N < q ∧ q ≤ 10000) (hq : Q (some (.int (zI ((bcap N q : Nat) : Int)))) σ)  : J E wI (cX E, o) cJ9_newCapacity 6 (some .int) RJ9 (jR 3 0 0) (0) (0) 0 [some (.ref a), some (.int (zI (q : Nat))), none, none, none, none] [] σ Q := by
  refine J_aload_n dJ9_newCapacity_0 rfl ?_
  refine BG_value h0 dJ9_newCapacity_1 ?_
  refine JG_alen (Or.inl ⟨1, h1⟩) dJ9_newCapacity_4 ?_
  refine J_istore_n dJ9_newCapacity_5 rfl (by decide) _ rfl ?_
  refine J_iload_n dJ9_newCapacity_6 rfl ?_
  refine J_aload_n dJ9_newCapacity_7 rfl ?_
  refine BG_coder h0 dJ9_newCapacity_8 ?_
  refine J_ishl dJ9_newCapacity_11 ?_
  refine J_top (zI ((q : Nat) : Int)) (sh_l _) ?_
  refine J_istore_n dJ9_newCapacity_12 rfl (by decide) _ rfl ?_
  refine J_iload_n dJ9_newCapacity_13 rfl ?_
  refine J_iload_n dJ9_newCapacity_14 rfl ?_
  refine J_isub_z dJ9_newCapacity_15 ?_
  refine J_istore dJ9_newCapacity_16 rfl (by decide) _ rfl ?_
  refine J_iload_n dJ9_newCapacity_18 rfl ?_
  refine J_iload dJ9_newCapacity_19 rfl ?_
  refine J_iload_n dJ9_newCapacity_21 rfl ?_
  refine J_iconst (zI 2) dJ9_newCapacity_22 rfl ?_
  refine J_aload_n dJ9_newCapacity_23 rfl ?_
  refine BG_coder h0 dJ9_newCapacity_24 ?_
  refine J_ishl dJ9_newCapacity_27 ?_
  refine J_top (zI 2) (sh_l _) ?_
  refine J_iadd_z dJ9_newCapacity_28 ?_
  refine J_eS (y := yJ12_newLength) (R' := (jR 2 0 0)) [.int (zI ((N : Nat) : Int)), .int (zI ((q : Int) - (N : Int))), .int (zI ((N : Int) + 2))] 3 q551 q552 q121 q553 (by decide +kernel) cX_1 ⟨Nat.le_of_ble_eq_true rfl, Nat.le_of_ble_eq_true rfl⟩ ⟨(by first | omega | (simp only [jR]; done) | (simp only [jR]; omega)), (by first | omega | (simp only [jR]; done) | (simp only [jR]; omega))⟩ rfl (Nat.le_of_ble_eq_true rfl) dJ9_newCapacity_29 (JE.of (X' := (cX E, none)) (by decide +kernel) (Nat.le_of_ble_eq_true rfl) (fun _ z => by cases z) ?_)
  refine b_newLength (by omega) (by omega) (by omega) ?_
  refine J_ri ?_
  have hb := @bcap_b N q
  refine J_top (zI ((bcap N q : Nat) : Int)) (congrArg zI (bcap_v hq0.1)) ?_
  refine J_istore dJ9_newCapacity_32 rfl (by decide) _ rfl ?_
  refine J_iload dJ9_newCapacity_34 rfl ?_
  refine J_ldc (zI 2147483647) q561 dJ9_newCapacity_36 ?_
  refine J_icmp_ne_z (tgt := 51) dJ9_newCapacity_38 (by decide) (by unfold zR; omega) (by unfold zR; omega) (fun c38 => ?_) (fun c38 => ?_)
  · skip
    refine J_iload dJ9_newCapacity_51 rfl ?_
    refine J_aload_n dJ9_newCapacity_53 rfl ?_
    refine BG_coder h0 dJ9_newCapacity_54 ?_
    refine J_ishr dJ9_newCapacity_57 ?_
    refine J_top (zI ((bcap N q : Nat) : Int)) (sh_r _) ?_
    exact J_iret rfl dJ9_newCapacity_58 (by exact hq)
  · exfalso; omega
theorem b_copyOf {E : jEnv} {o : Option MethodName} {σ : jW} {Q : Option Value → jW → Prop} {va N q : Nat} {f : Nat → Int32}  (h1 : σ 1 = some (va, bA E N f)) (hfit : ∀ i, fits .byte (.int (f i)) = true) (hN : N < q ∧ q ≤ 50000) (hq : ∀ v', Q (some (.ref v')) (j_up σ 4 (some (v', bA E q (va_cpy f (fun _ => zI 0) 0 0 N)))))  : J E wI (cX E, o) cJ14_copyOf 3 (some (.array .byte)) RJ14 (jR 2 1 q) (0) (0) 0 [some (.ref va), some (.int (zI (q : Nat))), none] [] σ Q := by
  refine J_iload_n dJ14_copyOf_0 rfl ?_
  refine J_aload_n dJ14_copyOf_1 rfl ?_
  refine JG_alen (Or.inl ⟨1, h1⟩) dJ14_copyOf_2 ?_
  refine J_icmp_ne_z (tgt := 14) dJ14_copyOf_3 (by decide) (by unfold zR; omega) (by unfold zR; omega) (fun c3 => ?_) (fun c3 => ?_)
  · skip
    refine J_iload_n dJ14_copyOf_14 rfl ?_
    refine J_newa_byte (σ' := fun b => j_up σ 4 (some (b, bA E q (fun _ => zI 0)))) 4 q q363 rfl (by omega) (by first | omega | (simp only [jR]; done) | (simp only [jR]; omega)) (by first | omega | (simp only [jR]; done) | (simp only [jR]; omega)) (fun b => rfl) dJ14_copyOf_15 (fun b => ?_)
    refine J_astore_n dJ14_copyOf_17 rfl (by decide) _ rfl ?_
    refine J_aload_n dJ14_copyOf_18 rfl ?_
    refine J_iconst (zI 0) dJ14_copyOf_19 rfl ?_
    refine J_aload_n dJ14_copyOf_20 rfl ?_
    refine J_iconst (zI 0) dJ14_copyOf_21 rfl ?_
    refine J_aload_n dJ14_copyOf_22 rfl ?_
    refine JG_alen (Or.inl ⟨1, h1⟩) dJ14_copyOf_23 ?_
    refine J_iload_n dJ14_copyOf_24 rfl ?_
    refine PJ14_min (by unfold zR; omega) (by unfold zR; omega) ⟨Nat.le_of_ble_eq_true rfl, Nat.le_of_ble_eq_true rfl⟩ ⟨(by first | omega | (simp only [jR]; done) | (simp only [jR]; omega)), (by first | omega | (simp only [jR]; done) | (simp only [jR]; omega))⟩ (Nat.le_of_ble_eq_true rfl) dJ14_copyOf_25 ?_
    refine J_top (zI ((N : Nat) : Int)) (congrArg zI (if_neg (by omega))) ?_
    refine JG_acopy (σ' := j_up (j_up σ 4 (some (b, bA E q (fun _ => zI 0)))) 4 (some (b, bA E q (va_cpy f (fun _ => zI 0) 0 0 N)))) (sp := 0) (dp := 0) (cn := N) (ty := .byte) 1 4 (Or.inl ⟨1, h1⟩) rfl rfl rfl (fun i _ => hfit _) (by omega) (by omega) ⟨by omega, by omega⟩ q575 q446 q445 q116 ⟨Nat.le_of_ble_eq_true rfl, Nat.le_of_ble_eq_true rfl⟩ (Nat.le_of_ble_eq_true rfl) rfl dJ14_copyOf_28 ?_
    rw [j_upup]
    refine J_aload_n dJ14_copyOf_31 rfl ?_
    exact J_aretA rfl dJ14_copyOf_32 (by exact hq b)
  · exfalso; omega
