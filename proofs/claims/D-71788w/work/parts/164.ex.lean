set_option maxRecDepth 100000
/-! exceptions: what the machine throws, caught in the same method -/
def kSd : Cond → Bool
  | .castable .. => true
  | .declares .. => true
  | _ => false
theorem kSd_t {w : Cond} (h : kSd w = true) : kSt w = true ∧ w.onTables = true := by
  cases w <;> first | (cases h; done) | exact ⟨rfl, rfl⟩
theorem k_hat {E : jEnv} {A : Nat → Prop} {args : Array Value} {s : State} {L : List Cond} {ps : List Nat} (hp : L = ps.filterMap (fun i => lw_tbl[i]?)) (hg : L.all (fun w => goodWord w || kSd w) = true) (hts : ∀ w ∈ lw_all, w.before args s = true) (hX : cX E A s) : ∀ w ∈ L, w.before args s = true := by
  intro w hw
  have h1 := List.all_eq_true.mp hg w hw
  have h2 : w ∈ lw_tbl := by
    rw [hp] at hw
    obtain ⟨i, -, hi⟩ := List.mem_filterMap.mp hw
    exact List.mem_of_getElem? hi
  rw [Bool.or_eq_true] at h1
  rcases h1 with h1 | h1
  · exact hts w (lw_g h2 h1)
  · exact va_Nw.use (kSd_t h1).2 (hX.1 w h2 (kSd_t h1).1)
theorem k_ot {L : List Cond} (hg : L.all (fun w => goodWord w || kSd w) = true) : ∀ w ∈ L, vx_ot w = true := by
  intro w hw
  have h1 := List.all_eq_true.mp hg w hw
  unfold vx_ot
  rw [Bool.or_eq_true] at h1 ⊢
  rcases h1 with h1 | h1
  · exact Or.inr h1
  · exact Or.inl (kSd_t h1).2
theorem ex_neg : vx_atM "java/lang/NegativeArraySizeException" ["java/lang/RuntimeException", "java/lang/Exception"] = [108, 359, 301, 321, 324, 326, 360, 361, 144, 145, 295, 300, 322, 329, 353, 330, 354, 331, 355, 296, 298, 356, 293, 294, 328, 356, 284, 285, 286, 287, 347, 287, 288, 289, 290, 349, 290, 291, 292, 293, 351, 112, 362, 363, 364, 366, 365, 367, 111, 283, 345, 352, 306, 336, 338, 342, 334, 358, 357, 332].filterMap (fun i => lw_tbl[i]?) := by decide +kernel
theorem exg_neg : (vx_atM "java/lang/NegativeArraySizeException" ["java/lang/RuntimeException", "java/lang/Exception"]).all (fun w => goodWord w || kSd w) = true := by decide +kernel
theorem ex_ix : vx_atM "java/lang/ArrayIndexOutOfBoundsException" ["java/lang/IndexOutOfBoundsException", "java/lang/RuntimeException", "java/lang/Exception"] = [108, 359, 301, 321, 324, 326, 360, 361, 144, 145, 295, 300, 322, 329, 353, 330, 354, 331, 355, 296, 298, 356, 293, 294, 328, 356, 413, 414, 415, 416, 428, 416, 417, 418, 287, 347, 287, 288, 289, 290, 349, 290, 291, 292, 293, 351, 112, 362, 363, 364, 366, 365, 367, 115, 412, 426, 429, 304, 421, 422, 424, 420, 358, 357, 419].filterMap (fun i => lw_tbl[i]?) := by decide +kernel
theorem exg_ix : (vx_atM "java/lang/ArrayIndexOutOfBoundsException" ["java/lang/IndexOutOfBoundsException", "java/lang/RuntimeException", "java/lang/Exception"]).all (fun w => goodWord w || kSd w) = true := by decide +kernel
theorem ex_ar : vx_atM "java/lang/ArithmeticException" ["java/lang/RuntimeException", "java/lang/Exception"] = [108, 359, 301, 321, 324, 326, 360, 361, 144, 145, 295, 300, 322, 329, 353, 330, 354, 331, 355, 296, 298, 356, 293, 294, 328, 356, 453, 454, 455, 287, 347, 287, 288, 289, 290, 349, 290, 291, 292, 293, 351, 112, 362, 363, 364, 366, 365, 367, 117, 452, 463, 464, 303, 458, 459, 461, 457, 358, 357, 456].filterMap (fun i => lw_tbl[i]?) := by decide +kernel
theorem exg_ar : (vx_atM "java/lang/ArithmeticException" ["java/lang/RuntimeException", "java/lang/Exception"]).all (fun w => goodWord w || kSd w) = true := by decide +kernel
theorem ex_cc : vx_atM "java/lang/ClassCastException" ["java/lang/RuntimeException", "java/lang/Exception"] = [108, 359, 301, 321, 324, 326, 360, 361, 144, 145, 295, 300, 322, 329, 353, 330, 354, 331, 355, 296, 298, 356, 293, 294, 328, 356, 1166, 1167, 1168, 287, 347, 287, 288, 289, 290, 349, 290, 291, 292, 293, 351, 112, 362, 363, 364, 366, 365, 367, 135, 1165, 1176, 1177, 305, 1171, 1172, 1174, 1170, 358, 357, 1169].filterMap (fun i => lw_tbl[i]?) := by decide +kernel
theorem exg_cc : (vx_atM "java/lang/ClassCastException" ["java/lang/RuntimeException", "java/lang/Exception"]).all (fun w => goodWord w || kSd w) = true := by decide +kernel
theorem ex_npe : vx_atN 8 = [108, 359, 301, 321, 324, 326, 360, 361, 144, 145, 295, 300, 322, 329, 353, 330, 354, 331, 355, 296, 298, 356, 318, 308, 309, 396, 398, 315, 316, 410, 387, 388, 389, 390, 346, 390, 391, 392, 393, 348, 393, 394, 395, 360, 350, 113, 313, 408, 409, 307, 404, 405, 407, 358, 357, 402].filterMap (fun i => lw_tbl[i]?) := by decide +kernel
theorem exg_npe : (vx_atN 8).all (fun w => goodWord w || kSd w) = true := by decide +kernel
def jRx (f k n : Nat) : Room := { frames := f, cells := k, slots := n, locals := 10400 }
section JX
variable {E : jEnv} {St : Type} {w : St → jW} {X : jX} {cc : ByteArray} {mL : Nat} {ret : Option FieldType} {own : String} {R : Room} {k n pc : Nat} {L : List (Option Value)} {st : List Value} {σ : St} {Q : Option Value → St → Prop}
/-- the machine's note that cls is thrown here with a text; NullPointerException, without -/
def JN (E : jEnv) {St : Type} (w : St → jW) (X : jX) (cc : ByteArray) (mL : Nat) (ret : Option FieldType) (own : String) (R : Room) (k n : Nat) (pc : Nat) (L : List (Option Value)) (st : List Value) (σ : St) (Q : Option Value → St → Prop) (cls text : String) : Prop :=
  ∀ (p : Program) (e : Env) (s : State) (m : MethodId) (args : Array Value) (below : List Frame) (meth : Method) (c : Code) (A : Nat → Prop) (H : Heap) (locs : List Loc) (ls : Array Slot),
    j_cx E cc mL ret own p s m args meth c → X.1 A s ∧ j_nm X.2 s m meth → (∀ q, s.heap.size ≤ q → A q) → k ≤ R.cells → n ≤ R.slots → j_P E.2.1 (w σ) H → j_D A (w σ) → va_S A s.heap H locs → j_L ls mL L →
    vx_Note p E.1 e R s m args below meth c H locs k n (MQ below (j_Q E w Q A) args s R.cells R.slots A) (F0 m pc ls st) cls text
def JNn (E : jEnv) {St : Type} (w : St → jW) (X : jX) (cc : ByteArray) (mL : Nat) (ret : Option FieldType) (own : String) (R : Room) (k n : Nat) (pc : Nat) (L : List (Option Value)) (st : List Value) (σ : St) (Q : Option Value → St → Prop) : Prop :=
  ∀ (p : Program) (e : Env) (s : State) (m : MethodId) (args : Array Value) (below : List Frame) (meth : Method) (c : Code) (A : Nat → Prop) (H : Heap) (locs : List Loc) (ls : Array Slot),
    j_cx E cc mL ret own p s m args meth c → X.1 A s ∧ j_nm X.2 s m meth → (∀ q, s.heap.size ≤ q → A q) → k ≤ R.cells → n ≤ R.slots → j_P E.2.1 (w σ) H → j_D A (w σ) → va_S A s.heap H locs → j_L ls mL L →
    vx_NoteN p E.1 e R s m args below meth c H locs k n (MQ below (j_Q E w Q A) args s R.cells R.slots A) (F0 m pc ls st)
theorem k_Pext {D : va_G} {W : jW} {H H1 : Heap} (hP : j_P D W H) (h : ∀ q : Nat, q < H.size → H1[q]? = H[q]?) : j_P D W H1 := fun r a e hr => k_at (hP r a e hr) (h a (hP r a e hr).lt)
/-- the exception table of a method with handlers -/
theorem k_table {p : Program} {l : Launch} {e : Env} {s : State} {m : MethodId} {args : Array Value} {below : List Frame} {meth : Method} {c : Code} {T : State} {locs : List Loc} {cells slots : Nat} {y : MethodName} {bytes : ByteArray} {maxL : Nat} {rt : Option FieldType} {hh : List (Nat × Nat × Nat × Nat)} (Y : Stand p l e R s m args below meth c T locs cells slots) (hn : s.methodNamed? y = some m ∧ s.vm.method? m = some meth) (h : (Cond.codeWith y bytes maxL rt hh).before args s = true) : c.exceptionTable.toList = tableOf hh := by
  obtain ⟨m9, meth9, c9, hn9, h1, h2, -, -, h6, -⟩ := Cond.codeWith_spec h
  cases Option.some.inj (hn9.symm.trans hn.1)
  cases Option.some.inj (h1.symm.trans hn.2)
  cases Option.some.inj (h2.symm.trans Y.code)
  rw [← h6, table_eq]
theorem JN_catch {y : MethodName} {hh : List (Nat × Nat × Nat × Nat)} {cls text name : String} {names : List String} {nb : Nat} {ps : List Nat} (pre : List ExceptionTableEntry) (x : ExceptionTableEntry) (suf : List ExceptionTableEntry) (hX1 : X.1 = cX E) (hX2 : X.2 = some y) (qh : Cond.codeWith y cc mL ret hh ∈ lw_all) (hp : vx_atM cls names = ps.filterMap (fun i => lw_tbl[i]?)) (hg : (vx_atM cls names).all (fun w => goodWord w || kSd w) = true)
    (hfit : Bundle.fit cls = true ∧ (∀ n ∈ names, Bundle.fit n = true) ∧ (cls == "java/lang/StackOverflowError") = false ∧ (cls == "java/lang/OutOfMemoryError") = false) (htext : (text == notModelled) = false) (hnb : (stringBytes (stringToUtf16 text)).size ≤ nb) (hnb1 : nb ≤ 1000) (hR : names.length + 4 < R.frames ∧ 8 + 10240 ≤ R.locals ∧ 13 * names.length + 55 ≤ 10240) (hst : (st.map fun v => v.category).sum ≤ 8) (hk3 : k + 3 ≤ R.cells) (hn3 : n + (nb + 10) ≤ R.slots)
    (hsplit : tableOf hh = pre ++ x :: suf) (hpass : ∀ z ∈ pre, covers z pc = false ∨ (z.catchType ≠ 0 ∧ ∃ nm : String, Cond.classLink own z.catchType nm ∈ lw_all ∧ (cls, nm) ∈ cNc)) (hx : covers x pc = true) (h0 : x.catchType ≠ 0) (qc : Cond.classLink own x.catchType name ∈ lw_all) (qk : Cond.castable cls name ∈ lw_tbl)
    (kk : ∀ q, J E w X cc mL ret own R (k + 3) (n + (nb + 10)) x.handlerPc L [.ref q] σ Q) : JN E w X cc mL ret own R k n pc L st σ Q cls text := by
  intro p e s m args below meth c A H locs ls C hX hA hk hn hP hD hS hL
  have hts := C.2.2.2.2.2.2.1
  have hXc : cX E A s := by rw [← hX1]; exact hX.1
  refine vx_vm (A := A) (names := names) (nb := nb) C.1 hXc.2.2.2.2.2.2.2.2.2.2 hfit.1 hfit.2.1 hfit.2.2.1 hfit.2.2.2 (k_hat hp hg hts hXc) (k_ot hg) hXc.2.2.2.2.1.1 hXc.2.2.2.2.1.2 hS (hL.1.trans C.2.2.2.2.1.symm) htext hnb hnb1 hR.1 (by omega) hR.2.2 hk3 hn3 C.2.2.2.1 ?_
  intro H1 q9 ce hsz hold hS1 hce hv hcl T hT Y
  have htab := k_table Y (hX.2 y hX2) (hts _ qh)
  exact vx_catch C.2.2.2.2.2.1 pre x suf (htab.trans hsplit) (fun z hz => (hpass z hz).imp id (fun ⟨a1, nm, a2, a3⟩ => ⟨a1, nm, hts _ a2, hXc.2.2.2.1 _ a3⟩)) hx h0 (hts _ qc) (va_Nw.use rfl (hXc.1 _ qk rfl)) hce hv hcl (kk q9 p e s m args below meth c A H1 locs ls C hX hA hk3 hn3 (k_Pext hP hold) hD hS1 hL) T hT Y
theorem JNn_catch {y : MethodName} {hh : List (Nat × Nat × Nat × Nat)} {name : String} (pre : List ExceptionTableEntry) (x : ExceptionTableEntry) (suf : List ExceptionTableEntry) (hX1 : X.1 = cX E) (hX2 : X.2 = some y) (qh : Cond.codeWith y cc mL ret hh ∈ lw_all) (hR : 7 < R.frames ∧ 8 + 10240 ≤ R.locals) (hst : (st.map fun v => v.category).sum ≤ 8) (hk3 : k + 1 ≤ R.cells) (hn3 : n + 8 ≤ R.slots)
    (hsplit : tableOf hh = pre ++ x :: suf) (hpass : ∀ z ∈ pre, covers z pc = false) (hx : covers x pc = true) (h0 : x.catchType ≠ 0) (qc : Cond.classLink own x.catchType name ∈ lw_all) (qk : Cond.castable "java/lang/NullPointerException" name ∈ lw_tbl)
    (kk : ∀ q, J E w X cc mL ret own R (k + 1) (n + 8) x.handlerPc L [.ref q] σ Q) : JNn E w X cc mL ret own R k n pc L st σ Q := by
  intro p e s m args below meth c A H locs ls C hX hA hk hn hP hD hS hL
  have hts := C.2.2.2.2.2.2.1
  have hXc : cX E A s := by rw [← hX1]; exact hX.1
  refine vx_npe (A := A) (nb := 8) C.1 hXc.2.2.2.2.2.2.2.2.2.2 (k_hat ex_npe exg_npe hts hXc) (k_ot exg_npe) hXc.2.2.2.2.1.1 hXc.2.2.2.2.1.2 hS (hL.1.trans C.2.2.2.2.1.symm) hR.1 (by omega) hk3 hn3 C.2.2.2.1 ?_
  intro H1 q9 ce hsz hold hS1 hce hv hcl T hT Y
  have htab := k_table Y (hX.2 y hX2) (hts _ qh)
  exact vx_catch C.2.2.2.2.2.1 pre x suf (htab.trans hsplit) (fun z hz => Or.inl (hpass z hz)) hx h0 (hts _ qc) (va_Nw.use rfl (hXc.1 _ qk rfl)) hce hv hcl (kk q9 p e s m args below meth c A H1 locs ls C hX hA hk3 hn3 (k_Pext hP hold) hD hS1 hL) T hT Y
/-- the rows that throw -/
theorem J_ialdZ {a N : Nat} {f : Nat → Int32} {i : Int32} (r : Nat) (hr : w σ r = some (a, .inl (E.2.2 0, N, .inl f))) (hout : ¬ vp_in i N) (d : decode cc pc = .ok (.iaload, 1)) (kk : ∀ tx : String, tx = (toString "Index " ++ toString i ++ toString " out of bounds for length " ++ toString N : String) → JN E w X cc mL ret own R k n pc L st σ Q "java/lang/ArrayIndexOutOfBoundsException" tx) : J E w X cc mL ret own R k n pc L (.int i :: .ref a :: st) σ Q := by
  intro p e s m args below meth c A H locs ls C hX hA hk hn hP hD hS hL
  have hq : va_P E.2.1 CL [(a, .inl (E.2.2 0, N, .inl f))] H := fun i q hi => by
    cases i with
    | zero => cases hi; exact hP r _ _ hr
    | succ i => simp at hi
  exact vx_ialdZ C.1 C.2.1 C.2.2.2.2.2.2.2 hq 0 0 rfl rfl hout d (fun tx h => kk tx h p e s m args below meth c A H locs ls C hX hA hk hn hP hD hS hL)
theorem J_baldZ {a N : Nat} {f : Nat → Int32} {i : Int32} (r : Nat) (hr : w σ r = some (a, .inl (E.2.2 1, N, .inl f))) (hout : ¬ vp_in i N) (d : decode cc pc = .ok (.baload, 1)) (kk : ∀ tx : String, tx = (toString "Index " ++ toString i ++ toString " out of bounds for length " ++ toString N : String) → JN E w X cc mL ret own R k n pc L st σ Q "java/lang/ArrayIndexOutOfBoundsException" tx) : J E w X cc mL ret own R k n pc L (.int i :: .ref a :: st) σ Q := by
  intro p e s m args below meth c A H locs ls C hX hA hk hn hP hD hS hL
  have hq : va_P E.2.1 CL [(a, .inl (E.2.2 1, N, .inl f))] H := fun i q hi => by
    cases i with
    | zero => cases hi; exact hP r _ _ hr
    | succ i => simp at hi
  exact vx_baldZ C.1 C.2.1 C.2.2.2.2.2.2.2 hq 0 1 rfl rfl hout d (fun tx h => kk tx h p e s m args below meth c A H locs ls C hX hA hk hn hP hD hS hL)
theorem J_ialdX {i : Int32} (d : decode cc pc = .ok (.iaload, 1)) (kk : JNn E w X cc mL ret own R k n pc L st σ Q) : J E w X cc mL ret own R k n pc L (.int i :: .null :: st) σ Q := by
  intro p e s m args below meth c A H locs ls C hX hA hk hn hP hD hS hL
  exact vx_ialoadN C.1 C.2.1 d (kk p e s m args below meth c A H locs ls C hX hA hk hn hP hD hS hL)
theorem J_baldX {i : Int32} (d : decode cc pc = .ok (.baload, 1)) (kk : JNn E w X cc mL ret own R k n pc L st σ Q) : J E w X cc mL ret own R k n pc L (.int i :: .null :: st) σ Q := by
  intro p e s m args below meth c A H locs ls C hX hA hk hn hP hD hS hL
  exact vx_baloadN C.1 C.2.1 d (kk p e s m args below meth c A H locs ls C hX hA hk hn hP hD hS hL)
theorem J_alenX (d : decode cc pc = .ok (.arraylength, 1)) (kk : JNn E w X cc mL ret own R k n pc L st σ Q) : J E w X cc mL ret own R k n pc L (.null :: st) σ Q := by
  intro p e s m args below meth c A H locs ls C hX hA hk hn hP hD hS hL
  exact vx_arraylengthN C.1 C.2.1 d (kk p e s m args below meth c A H locs ls C hX hA hk hn hP hD hS hL)
theorem J_newaZ {atype : ArrayType} {i : Int32} (h0 : i < 0) (d : decode cc pc = .ok (.newarray atype, 2)) (kk : ∀ tx : String, tx = toString i → JN E w X cc mL ret own R k n pc L st σ Q "java/lang/NegativeArraySizeException" tx) : J E w X cc mL ret own R k n pc L (.int i :: st) σ Q := by
  intro p e s m args below meth c A H locs ls C hX hA hk hn hP hD hS hL
  exact vx_newarrayZ C.1 C.2.1 h0 d (fun tx h => kk tx h p e s m args below meth c A H locs ls C hX hA hk hn hP hD hS hL)
theorem J_ldivZ {a b : Int64} (h0 : b = 0) (d : decode cc pc = .ok (.ldiv, 1)) (kk : JN E w X cc mL ret own R k n pc L st σ Q "java/lang/ArithmeticException" "/ by zero") : J E w X cc mL ret own R k n pc L (.long b :: .long a :: st) σ Q := by
  intro p e s m args below meth c A H locs ls C hX hA hk hn hP hD hS hL
  exact vx_ldivZ C.1 C.2.1 h0 d (kk p e s m args below meth c A H locs ls C hX hA hk hn hP hD hS hL)
/-- methods with handlers: their contracts, their calls -/
theorem j_metW {y : MethodName} {vs : List Value} {sz : Nat} {hh : List (Nat × Nat × Nat × Nat)} (hy : plainName y.cls = true) (hown : y.cls = own) (hlen : (lg_sl vs).length ≤ mL) (hnm : ∀ z, X.2 = some z → z = y) (hJ : J E w X cc mL ret own R 0 0 0 (j_ent vs mL) [] σ Q) : Met E.1 y (wsW_ y cc mL ret hh) R (j_Pc E w X.1 vs σ sz) (j_Q E w Q (j_A (w σ) sz)) R.cells R.slots (j_A (w σ) sz) := by
  refine va_MetW (cc := cc) (maxL := mL) (ret := ret) (hh := hh) hy rfl ?_
  intro p e s m args below meth c s₁ B hml hv
  obtain ⟨rfl, hsz, hXs, hK, hP, hD⟩ := hv
  have hts := atoms_spec (ws := wsW_ y cc mL ret hh) B.pre
  have hts : ∀ w ∈ lw_all, w.before _ s = true := fun w h => hts w (List.mem_cons_of_mem _ h)
  have ho : s.vm.findClass own = some m.cls := hown ▸ findClass_of_methodNamed B.named
  have he := lv_entry vs hlen
  rw [lg_entry_eq]
  refine hJ p e s m _ below meth c _ s.heap [] _ ⟨B.exec, B.bytes, B.returns, B.notSynchronized, hml, ho, hts, hK⟩ ⟨hXs, fun z hz => by rw [hnm z hz]; exact ⟨B.named, B.method⟩⟩ (fun q h => Or.inr (by rw [← hsz]; exact h)) (Nat.zero_le _) (Nat.zero_le _) hP hD va_S.rf ⟨he.1, he.2.1, ?_, ?_⟩
  · simp [j_ent]; omega
  · intro i v hi
    simp only [j_ent, List.getElem?_map] at hi
    rw [← Array.getElem?_toList]
    show (lg_sl vs ++ List.replicate (mL - (lg_sl vs).length) Slot.unset)[i]? = _
    cases hx : (lg_sl vs ++ List.replicate (mL - (lg_sl vs).length) Slot.unset)[i]? with
    | none => rw [hx] at hi; simp at hi
    | some o =>
      rw [hx] at hi
      cases o with
      | val u => simp [j_sv] at hi; rw [hi]
      | _ => simp [j_sv] at hi
theorem JE.ofW {X' : jX} {y : MethodName} {vs : List Value} {hh : List (Nat × Nat × Nat × Nat)} (hp : plainName y.cls = true) (hlen : (lg_sl vs).length ≤ mL) (hnm : ∀ z, X'.2 = some z → z = y) (hJ : J E w X' cc mL ret y.cls R 0 0 0 (j_ent vs mL) [] σ Q) : JE E w X'.1 y (wsW_ y cc mL ret hh) R vs σ Q := fun _ => j_metW hp rfl hlen hnm hJ
theorem J_eVW {y : MethodName} {cc' : ByteArray} {mL' : Nat} {ret' : Option FieldType} {R' : Room} {C : String} {T : u_T} {N index ci a : Nat} {V : Nat → Value} {hh : List (Nat × Nat × Nat × Nat)} (As : List Value) (na r : Nat) (hr : w σ r = some (a, .inr (ci, V))) (hc : CL[ci]? = some (C, T, N)) (q1 : Cond.methodLink own index y ∈ lw_all) (q2 : Cond.instanceMethod y ∈ lw_all) (q3 : Cond.selects C y y ∈ lw_all) (q4 : Cond.initialized C ∈ lw_all) (q5 : Cond.codeWith y cc' mL' ret' hh ∈ lw_all) (hd : y.cls = C ∧ y.cls ≠ "java/lang/invoke/MethodHandle" ∧ y.cls ≠ "java/lang/invoke/VarHandle" ∧ (parseMethodDescriptor y.desc).map (fun d => d.parameters.length) = some na) (hX : j_X1 X.1) (hR : R'.frames + 1 ≤ R.frames ∧ 8 + (mL' + 11) + R'.locals ≤ R.locals) (hcs : k + R'.cells ≤ R.cells ∧ n + R'.slots ≤ R.slots) (hAs : As.length = na) (hst : (st.map fun v => v.category).sum ≤ 8) (d : decode cc pc = .ok (.invokevirtual index, 3)) (hJ : JE E w X.1 y (wsW_ y cc' mL' ret' hh) R' (.ref a :: As) σ (fun v σ' => J E w X cc mL ret own R (k + R'.cells) (n + R'.slots) (pc + 3) L (v.toList ++ st) σ' Q)) : J E w X cc mL ret own R k n pc L (As.reverse ++ .ref a :: st) σ Q := by
  intro p e s m args below meth c A H locs ls C0 hXs hA hk hn hP hD hS hL
  have hrecv : ∃ cell : Cell, H[a]? = some cell ∧ cell.vm.isStatics = false ∧ s.vm.findClass C = some cell.cls := by
    obtain ⟨r', h1, cell, g1, g2, g3, -⟩ := hP r _ _ hr
    exact ⟨cell, g1, by rw [g3]; rfl, by rw [g2]; exact (C0.2.2.2.2.2.2.2.1 ci _ hc).2.1⟩
  refine j_back (σ2 := σ) (vx_runVW (As := As) (rest := st) ⟨C0.1, C0.2.1, C0.2.2.2.2.1, C0.2.2.2.2.2.1, C0.2.2.2.2.2.2.1⟩ (hJ H.size) (vx_cwVW na C0.2.2.2.2.2.2.1 (lw_VW q1 q2 q3 q4 q5) rfl rfl rfl hd hR) ⟨j_blind hX, hrecv, fun U hU hW => j_start hX hXs.1 hA C0.2.2.2.2.2.2.2 hP hD hS hU hW⟩ rfl hAs hL.1 rfl (lv_room hst) d hcs) hA hD hS ?_
  intro v σ1 H1 locs1 hq hP1 hD1 hz hkp hS1
  exact hq p e s m args below meth c A H1 locs1 ls C0 hXs hA hcs.1 hcs.2 hP1 ⟨hD1.1, fun r a e h => j_freeA hA hD hS _ (hD1.2 r a e h)⟩ hS1 hL
end JX
