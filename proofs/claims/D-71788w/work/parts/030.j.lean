/-! J: the machine at a place of a method, closed over every context (program, caller, heap beyond the world). A world is a map from roles to (address, cell). -/
set_option maxRecDepth 100000
abbrev jE : Type := (ClassId × vp_A) ⊕ (Nat × (Nat → Value))
abbrev jW : Type := Nat → Option (Nat × jE)
def jT0 : u_T := fun _ => ("", "", "", false)
abbrev CL : List vw_C := [(RX2, TX2, 45), (RX0, TX0, 38), (RX3, TX3, 10), (RX4, TX4, 10), (RX5, TX5, 10), (RX6, TX6, 10), (RX11, TX11, 3), (RJ10, TJ10, 4), (RJ4, TJ4, 4), (RX1, jT0, 0), (RX7, jT0, 0), (RX8, jT0, 0), (RX9, jT0, 0)]
abbrev jEnv : Type := Launch × va_G × (Nat → ClassId)
abbrev j_tys (d : Nat → ClassId) : List (ClassId × FieldType) := [(d 0, .int), (d 1, .byte), (d 2, .boolean), (d 3, .array .int), (d 4, .array .byte), (d 5, .object "FrameSheets$Frame"), (d 6, .object "FrameSheets$Kept")]
def j_at (D : va_G) (a : Nat) (e : jE) (H : Heap) : Prop := match e with
  | .inl x => H[a]? = some (vp_cell x.1 x.2)
  | .inr o => ∃ r : vw_C, CL[o.1]? = some r ∧ t_OB a (D.1 o.1) r.2.2 (D.2 o.1) H o.2
def j_P (D : va_G) (w : jW) (H : Heap) : Prop := ∀ (r a : Nat) (e : jE), w r = some (a, e) → j_at D a e H
def j_D (A : Nat → Prop) (w : jW) : Prop := (∀ (r r' a : Nat) (e e' : jE), w r = some (a, e) → w r' = some (a, e') → r = r') ∧ ∀ (r a : Nat) (e : jE), w r = some (a, e) → A a
def j_up (w : jW) (r : Nat) (x : Option (Nat × jE)) : jW := fun r' => if r' = r then x else w r'
def j_L (ls : Array Slot) (n : Nat) (L : List (Option Value)) : Prop := ls.size = n ∧ lv_wf ls ∧ L.length = n ∧ ∀ (i : Nat) (v : Value), L[i]? = some (some v) → ls[i]? = some (.val v)
def jR (f k n : Nat) : Room := { frames := f, cells := k, slots := n, locals := 48 * f }
def j_cx (E : jEnv) (cc : ByteArray) (mL : Nat) (ret : Option FieldType) (own : String) (p : Program) (s : State) (m : MethodId) (args : Array Value) (meth : Method) (c : Code) : Prop :=
  p.tables.exec = Jvm.exec ∧ c.code = cc ∧ meth.sig.returnType = ret ∧ meth.locks = false ∧ c.maxLocals = mL ∧ s.vm.findClass own = some m.cls ∧ (∀ w ∈ lw_all, w.before args s = true) ∧ va_K E.2.1 CL (j_tys E.2.2) s
def j_Q (E : jEnv) {St : Type} (w : St → jW) (Q : Option Value → St → Prop) (A : Nat → Prop) : Array Value → State → Outcome → State → Prop := fun _ st oc t => (∃ (v : Option Value) (σ : St), oc = .returned v ∧ Q v σ ∧ j_P E.2.1 (w σ) t.heap ∧ j_D A (w σ)) ∧ va_F A st t
/-- what is carried: a fact of the start, and (where it is wanted) the method's own name -/
abbrev jX : Type := ((Nat → Prop) → State → Prop) × Option MethodName
def j_nm (o : Option MethodName) (s : State) (m : MethodId) (meth : Method) : Prop := ∀ y, o = some y → s.methodNamed? y = some m ∧ s.vm.method? m = some meth
def J (E : jEnv) {St : Type} (w : St → jW) (X : jX) (cc : ByteArray) (mL : Nat) (ret : Option FieldType) (own : String) (R : Room) (k n : Nat) (pc : Nat) (L : List (Option Value)) (st : List Value) (σ : St) (Q : Option Value → St → Prop) : Prop :=
  ∀ (p : Program) (e : Env) (s : State) (m : MethodId) (args : Array Value) (below : List Frame) (meth : Method) (c : Code) (A : Nat → Prop) (H : Heap) (locs : List Loc) (ls : Array Slot),
    j_cx E cc mL ret own p s m args meth c → X.1 A s ∧ j_nm X.2 s m meth → (∀ q, s.heap.size ≤ q → A q) → k ≤ R.cells → n ≤ R.slots → j_P E.2.1 (w σ) H → j_D A (w σ) → va_S A s.heap H locs → j_L ls mL L →
    W p E.1 e R s m args below meth c H locs k n (MQ below (j_Q E w Q A) args s R.cells R.slots A) (F0 m pc ls st)
theorem j_Lget {ls : Array Slot} {n : Nat} {L : List (Option Value)} (h : j_L ls n L) {i : Nat} {v : Value} (hi : L[i]? = some (some v)) : ls[i]? = some (.val v) := h.2.2.2 i v hi
theorem j_Lhas {ls : Array Slot} {n : Nat} {L : List (Option Value)} (h : j_L ls n L) : lv_has ls n ((List.range n).filterMap (fun i => (L.getD i none).map (fun v => (i, v)))) := by
  refine ⟨h.1, h.2.1, fun q hq => ?_⟩
  obtain ⟨i, hi, e⟩ := List.mem_filterMap.mp hq
  cases hv : L[i]? with
  | none => simp [List.getD, hv] at e
  | some o =>
    cases o with
    | none => simp [List.getD, hv] at e
    | some v =>
      simp [List.getD, hv] at e
      subst e
      exact h.2.2.2 i v hv
theorem j_Lin {n : Nat} {L : List (Option Value)} (hL : L.length = n) {i : Nat} {v : Value} (hi : L[i]? = some (some v)) : (i, v) ∈ (List.range n).filterMap (fun i => (L.getD i none).map (fun v => (i, v))) := by
  refine List.mem_filterMap.mpr ⟨i, List.mem_range.mpr (by rw [← hL]; exact (List.getElem?_eq_some_iff.mp hi).1), ?_⟩
  simp [List.getD, hi]
/-- a one-word value stored -/
theorem j_Lset1 {ls' : Array Slot} {n : Nat} {L : List (Option Value)} {i : Nat} {v : Value} (hL : L.length = n) (hi : i < n) (h2 : ∀ v', L[i - 1]? = some (some v') → i = 0 ∨ v'.category = 1)
    (h : lv_has ls' n ((i, v) :: ((List.range n).filterMap (fun i => (L.getD i none).map (fun v => (i, v)))).filter (fun q => !(q.1 == i) && !(q.1 + 1 == i && q.2.category == 2)))) : j_L ls' n (L.set i (some v)) := by
  refine ⟨h.1, h.2.1, by simp [hL], fun j u hj => ?_⟩
  by_cases e : j = i
  · subst e
    rw [List.getElem?_set_self (by omega)] at hj
    cases hj
    exact h.2.2 (j, v) List.mem_cons_self
  · rw [List.getElem?_set_ne (Ne.symm e)] at hj
    refine h.2.2 (j, u) (List.mem_cons_of_mem _ (List.mem_filter.mpr ⟨j_Lin hL hj, ?_⟩))
    simp only [Bool.and_eq_true, Bool.not_eq_true', beq_eq_false_iff_ne, ne_eq, Bool.and_eq_false_iff]
    refine ⟨e, ?_⟩
    by_cases q : j + 1 = i
    · right
      have : i - 1 = j := by omega
      rcases h2 u (by rw [this]; exact hj) with z | z
      · omega
      · rw [z]; decide
    · left; exact q
/-- a two-word value stored -/
theorem j_Lset2 {ls' : Array Slot} {n : Nat} {L : List (Option Value)} {i : Nat} {v : Value} (hL : L.length = n) (hi : i + 1 < n) (h2 : ∀ v', L[i - 1]? = some (some v') → i = 0 ∨ v'.category = 1)
    (h : lv_has ls' n ((i, v) :: ((List.range n).filterMap (fun i => (L.getD i none).map (fun v => (i, v)))).filter (fun q => !(q.1 == i) && (!(q.1 == i + 1) && !(q.1 + 1 == i && q.2.category == 2))))) : j_L ls' n ((L.set i (some v)).set (i + 1) none) := by
  refine ⟨h.1, h.2.1, by simp [hL], fun j u hj => ?_⟩
  by_cases e1 : j = i + 1
  · subst e1
    rw [List.getElem?_set_self (by simp; omega)] at hj
    cases hj
  · rw [List.getElem?_set_ne (Ne.symm e1)] at hj
    by_cases e : j = i
    · subst e
      rw [List.getElem?_set_self (by omega)] at hj
      cases hj
      exact h.2.2 (j, v) List.mem_cons_self
    · rw [List.getElem?_set_ne (Ne.symm e)] at hj
      refine h.2.2 (j, u) (List.mem_cons_of_mem _ (List.mem_filter.mpr ⟨j_Lin hL hj, ?_⟩))
      simp only [Bool.and_eq_true, Bool.not_eq_true', beq_eq_false_iff_ne, ne_eq, Bool.and_eq_false_iff]
      refine ⟨e, e1, ?_⟩
      by_cases q : j + 1 = i
      · right
        have : i - 1 = j := by omega
        rcases h2 u (by rw [this]; exact hj) with z | z
        · omega
        · rw [z]; decide
      · left; exact q
/-- the place below holds no two-word value -/
def j_ok1 (L : List (Option Value)) (i : Nat) : Bool := match i with
  | 0 => true
  | j + 1 => match L[j]? with
    | some (some v) => v.category == 1
    | _ => true
theorem j_ok1_spec {L : List (Option Value)} {i : Nat} (h : j_ok1 L i = true) : ∀ v', L[i - 1]? = some (some v') → i = 0 ∨ v'.category = 1 := by
  intro v' hv
  cases i with
  | zero => exact Or.inl rfl
  | succ j =>
    simp only [Nat.add_sub_cancel] at hv
    right
    simpa [j_ok1, hv] using h
section JR
variable {E : jEnv} {St : Type} {w : St → jW} {X : jX} {cc : ByteArray} {mL : Nat} {ret : Option FieldType} {own : String} {R : Room} {k n pc : Nat} {L : List (Option Value)} {st : List Value} {σ : St} {Q : Option Value → St → Prop}

theorem J_iconst {z : Int} (v : Int32) (d : decode cc pc = .ok (.iconst z, 1)) (hv : Int32.ofInt z = v) (kk : J E w X cc mL ret own R k n (pc + 1) L (.int v :: st) σ Q) : J E w X cc mL ret own R k n pc L (st) σ Q := by
  intro p e s m args below meth c A H locs ls C hX hA hk hn hP hD hS hL
  exact lv_iconst C.1 C.2.1 d hv (kk p e s m args below meth c A H locs ls C hX hA hk hn hP hD hS hL)
theorem J_bipush {z : Int} (v : Int32) (d : decode cc pc = .ok (.bipush z, 2)) (hv : (Int8.ofInt z).toInt32 = v) (kk : J E w X cc mL ret own R k n (pc + 2) L (.int v :: st) σ Q) : J E w X cc mL ret own R k n pc L (st) σ Q := by
  intro p e s m args below meth c A H locs ls C hX hA hk hn hP hD hS hL
  exact lv_bipush C.1 C.2.1 d hv (kk p e s m args below meth c A H locs ls C hX hA hk hn hP hD hS hL)
theorem J_sipush {z : Int} (v : Int32) (d : decode cc pc = .ok (.sipush z, 3)) (hv : (Int16.ofInt z).toInt32 = v) (kk : J E w X cc mL ret own R k n (pc + 3) L (.int v :: st) σ Q) : J E w X cc mL ret own R k n pc L (st) σ Q := by
  intro p e s m args below meth c A H locs ls C hX hA hk hn hP hD hS hL
  exact lv_sipush C.1 C.2.1 d hv (kk p e s m args below meth c A H locs ls C hX hA hk hn hP hD hS hL)
theorem J_lconst {z : Fin 2} (v : Int64) (d : decode cc pc = .ok (.lconst z, 1)) (hv : Int64.ofNat (z : Nat) = v) (kk : J E w X cc mL ret own R k n (pc + 1) L (.long v :: st) σ Q) : J E w X cc mL ret own R k n pc L (st) σ Q := by
  intro p e s m args below meth c A H locs ls C hX hA hk hn hP hD hS hL
  exact lv_lconst C.1 C.2.1 d hv (kk p e s m args below meth c A H locs ls C hX hA hk hn hP hD hS hL)
theorem J_ldc {index : Nat} (v : Int32) (q : Cond.constant own index v ∈ lw_all) (d : decode cc pc = .ok (.ldc index, 2)) (kk : J E w X cc mL ret own R k n (pc + 2) L (.int v :: st) σ Q) : J E w X cc mL ret own R k n pc L (st) σ Q := by
  intro p e s m args below meth c A H locs ls C hX hA hk hn hP hD hS hL
  exact lv_ldc C.1 C.2.1 C.2.2.2.2.2.1 (C.2.2.2.2.2.2.1 _ q) d (kk p e s m args below meth c A H locs ls C hX hA hk hn hP hD hS hL)
theorem J_ldcw {index : Nat} (v : Int32) (q : Cond.constant own index v ∈ lw_all) (d : decode cc pc = .ok (.ldc_w index, 3)) (kk : J E w X cc mL ret own R k n (pc + 3) L (.int v :: st) σ Q) : J E w X cc mL ret own R k n pc L (st) σ Q := by
  intro p e s m args below meth c A H locs ls C hX hA hk hn hP hD hS hL
  exact lv_ldcw C.1 C.2.1 C.2.2.2.2.2.1 (C.2.2.2.2.2.2.1 _ q) d (kk p e s m args below meth c A H locs ls C hX hA hk hn hP hD hS hL)
theorem J_ldc2 {index : Nat} (v : Int64) (q : Cond.constantLong own index v ∈ lw_all) (d : decode cc pc = .ok (.ldc2_w index, 3)) (kk : J E w X cc mL ret own R k n (pc + 3) L (.long v :: st) σ Q) : J E w X cc mL ret own R k n pc L (st) σ Q := by
  intro p e s m args below meth c A H locs ls C hX hA hk hn hP hD hS hL
  exact lv_ldc2 C.1 C.2.1 C.2.2.2.2.2.1 (C.2.2.2.2.2.2.1 _ q) d (kk p e s m args below meth c A H locs ls C hX hA hk hn hP hD hS hL)
theorem J_null (d : decode cc pc = .ok (.aconst_null, 1)) (kk : J E w X cc mL ret own R k n (pc + 1) L (.null :: st) σ Q) : J E w X cc mL ret own R k n pc L (st) σ Q := by
  intro p e s m args below meth c A H locs ls C hX hA hk hn hP hD hS hL
  exact lv_null C.1 C.2.1 d (kk p e s m args below meth c A H locs ls C hX hA hk hn hP hD hS hL)
theorem J_iload_n {z : Fin 4} {x : Int32} (d : decode cc pc = .ok (.iload_n z, 1)) (hl : L[(z : Nat)]? = some (some (.int x))) (kk : J E w X cc mL ret own R k n (pc + 1) L (.int x :: st) σ Q) : J E w X cc mL ret own R k n pc L (st) σ Q := by
  intro p e s m args below meth c A H locs ls C hX hA hk hn hP hD hS hL
  exact lv_iload_n C.1 C.2.1 d rfl (j_Lget hL hl) (kk p e s m args below meth c A H locs ls C hX hA hk hn hP hD hS hL)
theorem J_iload {i : Nat} {x : Int32} (d : decode cc pc = .ok (.iload i, 2)) (hl : L[i]? = some (some (.int x))) (kk : J E w X cc mL ret own R k n (pc + 2) L (.int x :: st) σ Q) : J E w X cc mL ret own R k n pc L (st) σ Q := by
  intro p e s m args below meth c A H locs ls C hX hA hk hn hP hD hS hL
  exact lv_iload C.1 C.2.1 d (j_Lget hL hl) (kk p e s m args below meth c A H locs ls C hX hA hk hn hP hD hS hL)
theorem J_lload_n {z : Fin 4} {x : Int64} (d : decode cc pc = .ok (.lload_n z, 1)) (hl : L[(z : Nat)]? = some (some (.long x))) (kk : J E w X cc mL ret own R k n (pc + 1) L (.long x :: st) σ Q) : J E w X cc mL ret own R k n pc L (st) σ Q := by
  intro p e s m args below meth c A H locs ls C hX hA hk hn hP hD hS hL
  exact lv_lload_n C.1 C.2.1 d rfl (j_Lget hL hl) (kk p e s m args below meth c A H locs ls C hX hA hk hn hP hD hS hL)
theorem J_lload {i : Nat} {x : Int64} (d : decode cc pc = .ok (.lload i, 2)) (hl : L[i]? = some (some (.long x))) (kk : J E w X cc mL ret own R k n (pc + 2) L (.long x :: st) σ Q) : J E w X cc mL ret own R k n pc L (st) σ Q := by
  intro p e s m args below meth c A H locs ls C hX hA hk hn hP hD hS hL
  exact lv_lload C.1 C.2.1 d (j_Lget hL hl) (kk p e s m args below meth c A H locs ls C hX hA hk hn hP hD hS hL)
theorem J_aload_n {z : Fin 4} {x : Nat} (d : decode cc pc = .ok (.aload_n z, 1)) (hl : L[(z : Nat)]? = some (some (.ref x))) (kk : J E w X cc mL ret own R k n (pc + 1) L (.ref x :: st) σ Q) : J E w X cc mL ret own R k n pc L (st) σ Q := by
  intro p e s m args below meth c A H locs ls C hX hA hk hn hP hD hS hL
  exact lv_aload_n C.1 C.2.1 d rfl (j_Lget hL hl) (kk p e s m args below meth c A H locs ls C hX hA hk hn hP hD hS hL)
theorem J_aload {i : Nat} {x : Nat} (d : decode cc pc = .ok (.aload i, 2)) (hl : L[i]? = some (some (.ref x))) (kk : J E w X cc mL ret own R k n (pc + 2) L (.ref x :: st) σ Q) : J E w X cc mL ret own R k n pc L (st) σ Q := by
  intro p e s m args below meth c A H locs ls C hX hA hk hn hP hD hS hL
  exact lv_aload C.1 C.2.1 d (j_Lget hL hl) (kk p e s m args below meth c A H locs ls C hX hA hk hn hP hD hS hL)
theorem J_aload_nN {z : Fin 4} (d : decode cc pc = .ok (.aload_n z, 1)) (hl : L[(z : Nat)]? = some (some .null)) (kk : J E w X cc mL ret own R k n (pc + 1) L (.null :: st) σ Q) : J E w X cc mL ret own R k n pc L (st) σ Q := by
  intro p e s m args below meth c A H locs ls C hX hA hk hn hP hD hS hL
  exact lv_aload_nN C.1 C.2.1 d rfl (j_Lget hL hl) (kk p e s m args below meth c A H locs ls C hX hA hk hn hP hD hS hL)
theorem J_aloadN {i : Nat} (d : decode cc pc = .ok (.aload i, 2)) (hl : L[i]? = some (some .null)) (kk : J E w X cc mL ret own R k n (pc + 2) L (.null :: st) σ Q) : J E w X cc mL ret own R k n pc L (st) σ Q := by
  intro p e s m args below meth c A H locs ls C hX hA hk hn hP hD hS hL
  exact lv_aloadN C.1 C.2.1 d (j_Lget hL hl) (kk p e s m args below meth c A H locs ls C hX hA hk hn hP hD hS hL)
theorem J_istore_n {z : Fin 4} {x : Int32} (d : decode cc pc = .ok (.istore_n z, 1)) (ho : j_ok1 L (z : Nat) = true) (hi : (z : Nat) < mL) (L' : List (Option Value)) (hL' : (L.set (z : Nat) (some (.int x))) = L') (kk : J E w X cc mL ret own R k n (pc + 1) L' st σ Q) : J E w X cc mL ret own R k n pc L (.int x :: st) σ Q := by
  intro p e s m args below meth c A H locs ls C hX hA hk hn hP hD hS hL
  refine lv_istore_n C.1 C.2.1 d rfl (j_Lhas hL) hi rfl (fun ls1 h1 => ?_)
  exact kk p e s m args below meth c A H locs ls1 C hX hA hk hn hP hD hS (hL' ▸ j_Lset1 hL.2.2.1 hi (j_ok1_spec ho) h1)
theorem J_istore {i : Nat} {x : Int32} (d : decode cc pc = .ok (.istore i, 2)) (ho : j_ok1 L i = true) (hi : i < mL) (L' : List (Option Value)) (hL' : (L.set i (some (.int x))) = L') (kk : J E w X cc mL ret own R k n (pc + 2) L' st σ Q) : J E w X cc mL ret own R k n pc L (.int x :: st) σ Q := by
  intro p e s m args below meth c A H locs ls C hX hA hk hn hP hD hS hL
  refine lv_istore C.1 C.2.1 d (j_Lhas hL) hi rfl (fun ls1 h1 => ?_)
  exact kk p e s m args below meth c A H locs ls1 C hX hA hk hn hP hD hS (hL' ▸ j_Lset1 hL.2.2.1 hi (j_ok1_spec ho) h1)
theorem J_lstore_n {z : Fin 4} {x : Int64} (d : decode cc pc = .ok (.lstore_n z, 1)) (ho : j_ok1 L (z : Nat) = true) (hi : (z : Nat) + 1 < mL) (L' : List (Option Value)) (hL' : ((L.set (z : Nat) (some (.long x))).set ((z : Nat) + 1) none) = L') (kk : J E w X cc mL ret own R k n (pc + 1) L' st σ Q) : J E w X cc mL ret own R k n pc L (.long x :: st) σ Q := by
  intro p e s m args below meth c A H locs ls C hX hA hk hn hP hD hS hL
  refine lv_lstore_n C.1 C.2.1 d rfl (j_Lhas hL) hi rfl (fun ls1 h1 => ?_)
  exact kk p e s m args below meth c A H locs ls1 C hX hA hk hn hP hD hS (hL' ▸ j_Lset2 hL.2.2.1 hi (j_ok1_spec ho) h1)
theorem J_lstore {i : Nat} {x : Int64} (d : decode cc pc = .ok (.lstore i, 2)) (ho : j_ok1 L i = true) (hi : i + 1 < mL) (L' : List (Option Value)) (hL' : ((L.set i (some (.long x))).set (i + 1) none) = L') (kk : J E w X cc mL ret own R k n (pc + 2) L' st σ Q) : J E w X cc mL ret own R k n pc L (.long x :: st) σ Q := by
  intro p e s m args below meth c A H locs ls C hX hA hk hn hP hD hS hL
  refine lv_lstore C.1 C.2.1 d (j_Lhas hL) hi rfl (fun ls1 h1 => ?_)
  exact kk p e s m args below meth c A H locs ls1 C hX hA hk hn hP hD hS (hL' ▸ j_Lset2 hL.2.2.1 hi (j_ok1_spec ho) h1)
theorem J_astore_n {z : Fin 4} {x : Nat} (d : decode cc pc = .ok (.astore_n z, 1)) (ho : j_ok1 L (z : Nat) = true) (hi : (z : Nat) < mL) (L' : List (Option Value)) (hL' : (L.set (z : Nat) (some (.ref x))) = L') (kk : J E w X cc mL ret own R k n (pc + 1) L' st σ Q) : J E w X cc mL ret own R k n pc L (.ref x :: st) σ Q := by
  intro p e s m args below meth c A H locs ls C hX hA hk hn hP hD hS hL
  refine lv_astore_n C.1 C.2.1 d rfl (j_Lhas hL) hi rfl (fun ls1 h1 => ?_)
  exact kk p e s m args below meth c A H locs ls1 C hX hA hk hn hP hD hS (hL' ▸ j_Lset1 hL.2.2.1 hi (j_ok1_spec ho) h1)
theorem J_astore {i : Nat} {x : Nat} (d : decode cc pc = .ok (.astore i, 2)) (ho : j_ok1 L i = true) (hi : i < mL) (L' : List (Option Value)) (hL' : (L.set i (some (.ref x))) = L') (kk : J E w X cc mL ret own R k n (pc + 2) L' st σ Q) : J E w X cc mL ret own R k n pc L (.ref x :: st) σ Q := by
  intro p e s m args below meth c A H locs ls C hX hA hk hn hP hD hS hL
  refine lv_astore C.1 C.2.1 d (j_Lhas hL) hi rfl (fun ls1 h1 => ?_)
  exact kk p e s m args below meth c A H locs ls1 C hX hA hk hn hP hD hS (hL' ▸ j_Lset1 hL.2.2.1 hi (j_ok1_spec ho) h1)
theorem J_astore_nN {z : Fin 4} (d : decode cc pc = .ok (.astore_n z, 1)) (ho : j_ok1 L (z : Nat) = true) (hi : (z : Nat) < mL) (L' : List (Option Value)) (hL' : (L.set (z : Nat) (some (.null))) = L') (kk : J E w X cc mL ret own R k n (pc + 1) L' st σ Q) : J E w X cc mL ret own R k n pc L (.null :: st) σ Q := by
  intro p e s m args below meth c A H locs ls C hX hA hk hn hP hD hS hL
  refine lv_astore_nN C.1 C.2.1 d rfl (j_Lhas hL) hi rfl (fun ls1 h1 => ?_)
  exact kk p e s m args below meth c A H locs ls1 C hX hA hk hn hP hD hS (hL' ▸ j_Lset1 hL.2.2.1 hi (j_ok1_spec ho) h1)
theorem J_astoreN {i : Nat} (d : decode cc pc = .ok (.astore i, 2)) (ho : j_ok1 L i = true) (hi : i < mL) (L' : List (Option Value)) (hL' : (L.set i (some (.null))) = L') (kk : J E w X cc mL ret own R k n (pc + 2) L' st σ Q) : J E w X cc mL ret own R k n pc L (.null :: st) σ Q := by
  intro p e s m args below meth c A H locs ls C hX hA hk hn hP hD hS hL
  refine lv_astoreN C.1 C.2.1 d (j_Lhas hL) hi rfl (fun ls1 h1 => ?_)
  exact kk p e s m args below meth c A H locs ls1 C hX hA hk hn hP hD hS (hL' ▸ j_Lset1 hL.2.2.1 hi (j_ok1_spec ho) h1)
theorem J_iinc {i : Nat} {z : Int} {x : Int32} (v : Int32) (d : decode cc pc = .ok (.iinc i z, 3)) (hl : L[i]? = some (some (.int x))) (hv : x + Int32.ofInt z = v) (ho : j_ok1 L i = true) (hi : i < mL) (L' : List (Option Value)) (hL' : L.set i (some (.int v)) = L') (kk : J E w X cc mL ret own R k n (pc + 3) L' st σ Q) : J E w X cc mL ret own R k n pc L st σ Q := by
  intro p e s m args below meth c A H locs ls C hX hA hk hn hP hD hS hL
  obtain ⟨j, hj⟩ := List.getElem?_of_mem (j_Lin hL.2.2.1 hl)
  refine lv_iinc C.1 C.2.1 d (j_Lhas hL) hj hv hi rfl (fun ls1 h1 => ?_)
  exact kk p e s m args below meth c A H locs ls1 C hX hA hk hn hP hD hS (hL' ▸ j_Lset1 hL.2.2.1 hi (j_ok1_spec ho) h1)
theorem J_iadd {x y : Int32} (d : decode cc pc = .ok (.iadd, 1)) (kk : J E w X cc mL ret own R k n (pc + 1) L (.int (x + y) :: st) σ Q) : J E w X cc mL ret own R k n pc L (.int y :: .int x :: st) σ Q := by
  intro p e s m args below meth c A H locs ls C hX hA hk hn hP hD hS hL
  exact lv_iadd C.1 C.2.1 d (kk p e s m args below meth c A H locs ls C hX hA hk hn hP hD hS hL)
theorem J_isub {x y : Int32} (d : decode cc pc = .ok (.isub, 1)) (kk : J E w X cc mL ret own R k n (pc + 1) L (.int (x - y) :: st) σ Q) : J E w X cc mL ret own R k n pc L (.int y :: .int x :: st) σ Q := by
  intro p e s m args below meth c A H locs ls C hX hA hk hn hP hD hS hL
  exact lv_isub C.1 C.2.1 d (kk p e s m args below meth c A H locs ls C hX hA hk hn hP hD hS hL)
theorem J_imul {x y : Int32} (d : decode cc pc = .ok (.imul, 1)) (kk : J E w X cc mL ret own R k n (pc + 1) L (.int (x * y) :: st) σ Q) : J E w X cc mL ret own R k n pc L (.int y :: .int x :: st) σ Q := by
  intro p e s m args below meth c A H locs ls C hX hA hk hn hP hD hS hL
  exact lv_imul C.1 C.2.1 d (kk p e s m args below meth c A H locs ls C hX hA hk hn hP hD hS hL)
theorem J_iand {x y : Int32} (d : decode cc pc = .ok (.iand, 1)) (kk : J E w X cc mL ret own R k n (pc + 1) L (.int (x &&& y) :: st) σ Q) : J E w X cc mL ret own R k n pc L (.int y :: .int x :: st) σ Q := by
  intro p e s m args below meth c A H locs ls C hX hA hk hn hP hD hS hL
  exact lv_iand C.1 C.2.1 d (kk p e s m args below meth c A H locs ls C hX hA hk hn hP hD hS hL)
theorem J_ior {x y : Int32} (d : decode cc pc = .ok (.ior, 1)) (kk : J E w X cc mL ret own R k n (pc + 1) L (.int (x ||| y) :: st) σ Q) : J E w X cc mL ret own R k n pc L (.int y :: .int x :: st) σ Q := by
  intro p e s m args below meth c A H locs ls C hX hA hk hn hP hD hS hL
  exact lv_ior C.1 C.2.1 d (kk p e s m args below meth c A H locs ls C hX hA hk hn hP hD hS hL)
theorem J_ixor {x y : Int32} (d : decode cc pc = .ok (.ixor, 1)) (kk : J E w X cc mL ret own R k n (pc + 1) L (.int (x ^^^ y) :: st) σ Q) : J E w X cc mL ret own R k n pc L (.int y :: .int x :: st) σ Q := by
  intro p e s m args below meth c A H locs ls C hX hA hk hn hP hD hS hL
  exact lv_ixor C.1 C.2.1 d (kk p e s m args below meth c A H locs ls C hX hA hk hn hP hD hS hL)
theorem J_ishl {x y : Int32} (d : decode cc pc = .ok (.ishl, 1)) (kk : J E w X cc mL ret own R k n (pc + 1) L (.int (x <<< (y &&& 31)) :: st) σ Q) : J E w X cc mL ret own R k n pc L (.int y :: .int x :: st) σ Q := by
  intro p e s m args below meth c A H locs ls C hX hA hk hn hP hD hS hL
  exact lv_ishl C.1 C.2.1 d (kk p e s m args below meth c A H locs ls C hX hA hk hn hP hD hS hL)
theorem J_ishr {x y : Int32} (d : decode cc pc = .ok (.ishr, 1)) (kk : J E w X cc mL ret own R k n (pc + 1) L (.int (x >>> (y &&& 31)) :: st) σ Q) : J E w X cc mL ret own R k n pc L (.int y :: .int x :: st) σ Q := by
  intro p e s m args below meth c A H locs ls C hX hA hk hn hP hD hS hL
  exact lv_ishr C.1 C.2.1 d (kk p e s m args below meth c A H locs ls C hX hA hk hn hP hD hS hL)
theorem J_idiv {x y : Int32} (d : decode cc pc = .ok (.idiv, 1)) (h0 : ¬ y = 0) (kk : J E w X cc mL ret own R k n (pc + 1) L (.int (x / y) :: st) σ Q) : J E w X cc mL ret own R k n pc L (.int y :: .int x :: st) σ Q := by
  intro p e s m args below meth c A H locs ls C hX hA hk hn hP hD hS hL
  exact lv_idiv C.1 C.2.1 d h0 (kk p e s m args below meth c A H locs ls C hX hA hk hn hP hD hS hL)
theorem J_irem {x y : Int32} (d : decode cc pc = .ok (.irem, 1)) (h0 : ¬ y = 0) (kk : J E w X cc mL ret own R k n (pc + 1) L (.int (x - x / y * y) :: st) σ Q) : J E w X cc mL ret own R k n pc L (.int y :: .int x :: st) σ Q := by
  intro p e s m args below meth c A H locs ls C hX hA hk hn hP hD hS hL
  exact lv_irem C.1 C.2.1 d h0 (kk p e s m args below meth c A H locs ls C hX hA hk hn hP hD hS hL)
theorem J_ineg {x : Int32} (d : decode cc pc = .ok (.ineg, 1)) (kk : J E w X cc mL ret own R k n (pc + 1) L (.int (-x) :: st) σ Q) : J E w X cc mL ret own R k n pc L (.int x :: st) σ Q := by
  intro p e s m args below meth c A H locs ls C hX hA hk hn hP hD hS hL
  exact lv_ineg C.1 C.2.1 d (kk p e s m args below meth c A H locs ls C hX hA hk hn hP hD hS hL)
theorem J_ladd {x y : Int64} (d : decode cc pc = .ok (.ladd, 1)) (kk : J E w X cc mL ret own R k n (pc + 1) L (.long (x + y) :: st) σ Q) : J E w X cc mL ret own R k n pc L (.long y :: .long x :: st) σ Q := by
  intro p e s m args below meth c A H locs ls C hX hA hk hn hP hD hS hL
  exact lv_ladd C.1 C.2.1 d (kk p e s m args below meth c A H locs ls C hX hA hk hn hP hD hS hL)
theorem J_lsub {x y : Int64} (d : decode cc pc = .ok (.lsub, 1)) (kk : J E w X cc mL ret own R k n (pc + 1) L (.long (x - y) :: st) σ Q) : J E w X cc mL ret own R k n pc L (.long y :: .long x :: st) σ Q := by
  intro p e s m args below meth c A H locs ls C hX hA hk hn hP hD hS hL
  exact lv_lsub C.1 C.2.1 d (kk p e s m args below meth c A H locs ls C hX hA hk hn hP hD hS hL)
theorem J_lmul {x y : Int64} (d : decode cc pc = .ok (.lmul, 1)) (kk : J E w X cc mL ret own R k n (pc + 1) L (.long (x * y) :: st) σ Q) : J E w X cc mL ret own R k n pc L (.long y :: .long x :: st) σ Q := by
  intro p e s m args below meth c A H locs ls C hX hA hk hn hP hD hS hL
  exact lv_lmul C.1 C.2.1 d (kk p e s m args below meth c A H locs ls C hX hA hk hn hP hD hS hL)
theorem J_ldiv {x y : Int64} (d : decode cc pc = .ok (.ldiv, 1)) (h0 : ¬ y = 0) (kk : J E w X cc mL ret own R k n (pc + 1) L (.long (x / y) :: st) σ Q) : J E w X cc mL ret own R k n pc L (.long y :: .long x :: st) σ Q := by
  intro p e s m args below meth c A H locs ls C hX hA hk hn hP hD hS hL
  exact lv_ldiv C.1 C.2.1 d h0 (kk p e s m args below meth c A H locs ls C hX hA hk hn hP hD hS hL)
theorem J_lrem {x y : Int64} (d : decode cc pc = .ok (.lrem, 1)) (h0 : ¬ y = 0) (kk : J E w X cc mL ret own R k n (pc + 1) L (.long (x - x / y * y) :: st) σ Q) : J E w X cc mL ret own R k n pc L (.long y :: .long x :: st) σ Q := by
  intro p e s m args below meth c A H locs ls C hX hA hk hn hP hD hS hL
  exact lv_lrem C.1 C.2.1 d h0 (kk p e s m args below meth c A H locs ls C hX hA hk hn hP hD hS hL)
theorem J_lcmp {x y : Int64} (d : decode cc pc = .ok (.lcmp, 1)) (kk : J E w X cc mL ret own R k n (pc + 1) L (.int (lg_cmp x y) :: st) σ Q) : J E w X cc mL ret own R k n pc L (.long y :: .long x :: st) σ Q := by
  intro p e s m args below meth c A H locs ls C hX hA hk hn hP hD hS hL
  exact W.lcmp C.1 C.2.1 d (kk p e s m args below meth c A H locs ls C hX hA hk hn hP hD hS hL)
theorem J_i2l {x : Int32} (d : decode cc pc = .ok (.i2l, 1)) (kk : J E w X cc mL ret own R k n (pc + 1) L (.long x.toInt64 :: st) σ Q) : J E w X cc mL ret own R k n pc L (.int x :: st) σ Q := by
  intro p e s m args below meth c A H locs ls C hX hA hk hn hP hD hS hL
  exact lv_i2l C.1 C.2.1 d rfl (kk p e s m args below meth c A H locs ls C hX hA hk hn hP hD hS hL)
theorem J_l2i {x : Int64} (d : decode cc pc = .ok (.l2i, 1)) (kk : J E w X cc mL ret own R k n (pc + 1) L (.int x.toInt32 :: st) σ Q) : J E w X cc mL ret own R k n pc L (.long x :: st) σ Q := by
  intro p e s m args below meth c A H locs ls C hX hA hk hn hP hD hS hL
  exact lv_l2i C.1 C.2.1 d rfl (kk p e s m args below meth c A H locs ls C hX hA hk hn hP hD hS hL)
theorem J_i2b {x : Int32} (d : decode cc pc = .ok (.i2b, 1)) (kk : J E w X cc mL ret own R k n (pc + 1) L (.int x.toInt8.toInt32 :: st) σ Q) : J E w X cc mL ret own R k n pc L (.int x :: st) σ Q := by
  intro p e s m args below meth c A H locs ls C hX hA hk hn hP hD hS hL
  exact lv_i2b C.1 C.2.1 d rfl (kk p e s m args below meth c A H locs ls C hX hA hk hn hP hD hS hL)
theorem J_i2c {x : Int32} (d : decode cc pc = .ok (.i2c, 1)) (kk : J E w X cc mL ret own R k n (pc + 1) L (.int (x.toUInt32 % 65536).toInt32 :: st) σ Q) : J E w X cc mL ret own R k n pc L (.int x :: st) σ Q := by
  intro p e s m args below meth c A H locs ls C hX hA hk hn hP hD hS hL
  exact lv_i2c C.1 C.2.1 d rfl (kk p e s m args below meth c A H locs ls C hX hA hk hn hP hD hS hL)
theorem J_iushr {x y : Int32} (d : decode cc pc = .ok (.iushr, 1)) (kk : J E w X cc mL ret own R k n (pc + 1) L (.int (x.toUInt32 >>> (y.toUInt32 &&& Int32.toUInt32 31)).toInt32 :: st) σ Q) : J E w X cc mL ret own R k n pc L (.int y :: .int x :: st) σ Q := by
  intro p e s m args below meth c A H locs ls C hX hA hk hn hP hD hS hL
  exact lv_iushr C.1 C.2.1 d rfl (kk p e s m args below meth c A H locs ls C hX hA hk hn hP hD hS hL)
theorem J_dup {a : Value} (d : decode cc pc = .ok (.dup, 1)) (ha : a.category = 1) (kk : J E w X cc mL ret own R k n (pc + 1) L (a :: a :: st) σ Q) : J E w X cc mL ret own R k n pc L (a :: st) σ Q := by
  intro p e s m args below meth c A H locs ls C hX hA hk hn hP hD hS hL
  exact lv_dup C.1 C.2.1 d ha (kk p e s m args below meth c A H locs ls C hX hA hk hn hP hD hS hL)
theorem J_pop {a : Value} (d : decode cc pc = .ok (.pop, 1)) (ha : a.category = 1) (kk : J E w X cc mL ret own R k n (pc + 1) L (st) σ Q) : J E w X cc mL ret own R k n pc L (a :: st) σ Q := by
  intro p e s m args below meth c A H locs ls C hX hA hk hn hP hD hS hL
  exact lv_pop C.1 C.2.1 d ha (kk p e s m args below meth c A H locs ls C hX hA hk hn hP hD hS hL)
theorem J_dup_x1 {a b : Value} (d : decode cc pc = .ok (.dup_x1, 1)) (ha : a.category = 1) (hb : b.category = 1) (kk : J E w X cc mL ret own R k n (pc + 1) L (a :: b :: a :: st) σ Q) : J E w X cc mL ret own R k n pc L (a :: b :: st) σ Q := by
  intro p e s m args below meth c A H locs ls C hX hA hk hn hP hD hS hL
  exact lv_dup_x1 C.1 C.2.1 d ha hb (kk p e s m args below meth c A H locs ls C hX hA hk hn hP hD hS hL)
theorem J_dup2 {a b : Value} (d : decode cc pc = .ok (.dup2, 1)) (ha : a.category = 1) (hb : b.category = 1) (kk : J E w X cc mL ret own R k n (pc + 1) L (a :: b :: a :: b :: st) σ Q) : J E w X cc mL ret own R k n pc L (a :: b :: st) σ Q := by
  intro p e s m args below meth c A H locs ls C hX hA hk hn hP hD hS hL
  exact lv_dup2_11 C.1 C.2.1 d ha hb (kk p e s m args below meth c A H locs ls C hX hA hk hn hP hD hS hL)
theorem J_if_eq {x : Int32} {off : Int} {tgt : Nat} (d : decode cc pc = .ok (.ifCond .eq off, 3)) (ht : (pc : Int) + off = (tgt : Int)) (kt : x = 0 → J E w X cc mL ret own R k n tgt L st σ Q) (kf : ¬ x = 0 → J E w X cc mL ret own R k n (pc + 3) L st σ Q) : J E w X cc mL ret own R k n pc L (.int x :: st) σ Q := by
  intro p e s m args below meth c A H locs ls C hX hA hk hn hP hD hS hL
  exact lv_if_eq C.1 C.2.1 d ht (fun h => kt h p e s m args below meth c A H locs ls C hX hA hk hn hP hD hS hL) (fun h => kf h p e s m args below meth c A H locs ls C hX hA hk hn hP hD hS hL)
theorem J_if_eq_y {x : Int32} {off : Int} {tgt : Nat} (d : decode cc pc = .ok (.ifCond .eq off, 3)) (ht : (pc : Int) + off = (tgt : Int)) (h : x = 0) (kk : J E w X cc mL ret own R k n tgt L st σ Q) : J E w X cc mL ret own R k n pc L (.int x :: st) σ Q := J_if_eq d ht (fun _ => kk) (fun z => by exact absurd h z)
theorem J_if_eq_n {x : Int32} {off : Int} {tgt : Nat} (d : decode cc pc = .ok (.ifCond .eq off, 3)) (ht : (pc : Int) + off = (tgt : Int)) (h : ¬ x = 0) (kk : J E w X cc mL ret own R k n (pc + 3) L st σ Q) : J E w X cc mL ret own R k n pc L (.int x :: st) σ Q := J_if_eq d ht (fun z => by exact absurd z h) (fun _ => kk)
theorem J_icmp_eq {x y : Int32} {off : Int} {tgt : Nat} (d : decode cc pc = .ok (.if_icmp .eq off, 3)) (ht : (pc : Int) + off = (tgt : Int)) (kt : x = y → J E w X cc mL ret own R k n tgt L st σ Q) (kf : ¬ x = y → J E w X cc mL ret own R k n (pc + 3) L st σ Q) : J E w X cc mL ret own R k n pc L (.int y :: .int x :: st) σ Q := by
  intro p e s m args below meth c A H locs ls C hX hA hk hn hP hD hS hL
  exact lv_icmp_eq C.1 C.2.1 d ht (fun h => kt h p e s m args below meth c A H locs ls C hX hA hk hn hP hD hS hL) (fun h => kf h p e s m args below meth c A H locs ls C hX hA hk hn hP hD hS hL)
theorem J_icmp_eq_y {x y : Int32} {off : Int} {tgt : Nat} (d : decode cc pc = .ok (.if_icmp .eq off, 3)) (ht : (pc : Int) + off = (tgt : Int)) (h : x = y) (kk : J E w X cc mL ret own R k n tgt L st σ Q) : J E w X cc mL ret own R k n pc L (.int y :: .int x :: st) σ Q := J_icmp_eq d ht (fun _ => kk) (fun z => by exact absurd h z)
theorem J_icmp_eq_n {x y : Int32} {off : Int} {tgt : Nat} (d : decode cc pc = .ok (.if_icmp .eq off, 3)) (ht : (pc : Int) + off = (tgt : Int)) (h : ¬ x = y) (kk : J E w X cc mL ret own R k n (pc + 3) L st σ Q) : J E w X cc mL ret own R k n pc L (.int y :: .int x :: st) σ Q := J_icmp_eq d ht (fun z => by exact absurd z h) (fun _ => kk)
theorem J_if_ne {x : Int32} {off : Int} {tgt : Nat} (d : decode cc pc = .ok (.ifCond .ne off, 3)) (ht : (pc : Int) + off = (tgt : Int)) (kt : ¬ x = 0 → J E w X cc mL ret own R k n tgt L st σ Q) (kf : x = 0 → J E w X cc mL ret own R k n (pc + 3) L st σ Q) : J E w X cc mL ret own R k n pc L (.int x :: st) σ Q := by
  intro p e s m args below meth c A H locs ls C hX hA hk hn hP hD hS hL
  exact lv_if_ne C.1 C.2.1 d ht (fun h => kt h p e s m args below meth c A H locs ls C hX hA hk hn hP hD hS hL) (fun h => kf h p e s m args below meth c A H locs ls C hX hA hk hn hP hD hS hL)
theorem J_if_ne_y {x : Int32} {off : Int} {tgt : Nat} (d : decode cc pc = .ok (.ifCond .ne off, 3)) (ht : (pc : Int) + off = (tgt : Int)) (h : ¬ x = 0) (kk : J E w X cc mL ret own R k n tgt L st σ Q) : J E w X cc mL ret own R k n pc L (.int x :: st) σ Q := J_if_ne d ht (fun _ => kk) (fun z => by exact absurd z h)
theorem J_if_ne_n {x : Int32} {off : Int} {tgt : Nat} (d : decode cc pc = .ok (.ifCond .ne off, 3)) (ht : (pc : Int) + off = (tgt : Int)) (h : x = 0) (kk : J E w X cc mL ret own R k n (pc + 3) L st σ Q) : J E w X cc mL ret own R k n pc L (.int x :: st) σ Q := J_if_ne d ht (fun z => by exact absurd h z) (fun _ => kk)
theorem J_icmp_ne {x y : Int32} {off : Int} {tgt : Nat} (d : decode cc pc = .ok (.if_icmp .ne off, 3)) (ht : (pc : Int) + off = (tgt : Int)) (kt : ¬ x = y → J E w X cc mL ret own R k n tgt L st σ Q) (kf : x = y → J E w X cc mL ret own R k n (pc + 3) L st σ Q) : J E w X cc mL ret own R k n pc L (.int y :: .int x :: st) σ Q := by
  intro p e s m args below meth c A H locs ls C hX hA hk hn hP hD hS hL
  exact lv_icmp_ne C.1 C.2.1 d ht (fun h => kt h p e s m args below meth c A H locs ls C hX hA hk hn hP hD hS hL) (fun h => kf h p e s m args below meth c A H locs ls C hX hA hk hn hP hD hS hL)
theorem J_icmp_ne_y {x y : Int32} {off : Int} {tgt : Nat} (d : decode cc pc = .ok (.if_icmp .ne off, 3)) (ht : (pc : Int) + off = (tgt : Int)) (h : ¬ x = y) (kk : J E w X cc mL ret own R k n tgt L st σ Q) : J E w X cc mL ret own R k n pc L (.int y :: .int x :: st) σ Q := J_icmp_ne d ht (fun _ => kk) (fun z => by exact absurd z h)
theorem J_icmp_ne_n {x y : Int32} {off : Int} {tgt : Nat} (d : decode cc pc = .ok (.if_icmp .ne off, 3)) (ht : (pc : Int) + off = (tgt : Int)) (h : x = y) (kk : J E w X cc mL ret own R k n (pc + 3) L st σ Q) : J E w X cc mL ret own R k n pc L (.int y :: .int x :: st) σ Q := J_icmp_ne d ht (fun z => by exact absurd h z) (fun _ => kk)
theorem J_if_lt {x : Int32} {off : Int} {tgt : Nat} (d : decode cc pc = .ok (.ifCond .lt off, 3)) (ht : (pc : Int) + off = (tgt : Int)) (kt : x < 0 → J E w X cc mL ret own R k n tgt L st σ Q) (kf : ¬ x < 0 → J E w X cc mL ret own R k n (pc + 3) L st σ Q) : J E w X cc mL ret own R k n pc L (.int x :: st) σ Q := by
  intro p e s m args below meth c A H locs ls C hX hA hk hn hP hD hS hL
  exact lv_if_lt C.1 C.2.1 d ht (fun h => kt h p e s m args below meth c A H locs ls C hX hA hk hn hP hD hS hL) (fun h => kf h p e s m args below meth c A H locs ls C hX hA hk hn hP hD hS hL)
theorem J_if_lt_y {x : Int32} {off : Int} {tgt : Nat} (d : decode cc pc = .ok (.ifCond .lt off, 3)) (ht : (pc : Int) + off = (tgt : Int)) (h : x < 0) (kk : J E w X cc mL ret own R k n tgt L st σ Q) : J E w X cc mL ret own R k n pc L (.int x :: st) σ Q := J_if_lt d ht (fun _ => kk) (fun z => by exact absurd h z)
theorem J_if_lt_n {x : Int32} {off : Int} {tgt : Nat} (d : decode cc pc = .ok (.ifCond .lt off, 3)) (ht : (pc : Int) + off = (tgt : Int)) (h : ¬ x < 0) (kk : J E w X cc mL ret own R k n (pc + 3) L st σ Q) : J E w X cc mL ret own R k n pc L (.int x :: st) σ Q := J_if_lt d ht (fun z => by exact absurd z h) (fun _ => kk)
theorem J_icmp_lt {x y : Int32} {off : Int} {tgt : Nat} (d : decode cc pc = .ok (.if_icmp .lt off, 3)) (ht : (pc : Int) + off = (tgt : Int)) (kt : x < y → J E w X cc mL ret own R k n tgt L st σ Q) (kf : ¬ x < y → J E w X cc mL ret own R k n (pc + 3) L st σ Q) : J E w X cc mL ret own R k n pc L (.int y :: .int x :: st) σ Q := by
  intro p e s m args below meth c A H locs ls C hX hA hk hn hP hD hS hL
  exact lv_icmp_lt C.1 C.2.1 d ht (fun h => kt h p e s m args below meth c A H locs ls C hX hA hk hn hP hD hS hL) (fun h => kf h p e s m args below meth c A H locs ls C hX hA hk hn hP hD hS hL)
theorem J_icmp_lt_y {x y : Int32} {off : Int} {tgt : Nat} (d : decode cc pc = .ok (.if_icmp .lt off, 3)) (ht : (pc : Int) + off = (tgt : Int)) (h : x < y) (kk : J E w X cc mL ret own R k n tgt L st σ Q) : J E w X cc mL ret own R k n pc L (.int y :: .int x :: st) σ Q := J_icmp_lt d ht (fun _ => kk) (fun z => by exact absurd h z)
theorem J_icmp_lt_n {x y : Int32} {off : Int} {tgt : Nat} (d : decode cc pc = .ok (.if_icmp .lt off, 3)) (ht : (pc : Int) + off = (tgt : Int)) (h : ¬ x < y) (kk : J E w X cc mL ret own R k n (pc + 3) L st σ Q) : J E w X cc mL ret own R k n pc L (.int y :: .int x :: st) σ Q := J_icmp_lt d ht (fun z => by exact absurd z h) (fun _ => kk)
theorem J_if_ge {x : Int32} {off : Int} {tgt : Nat} (d : decode cc pc = .ok (.ifCond .ge off, 3)) (ht : (pc : Int) + off = (tgt : Int)) (kt : 0 ≤ x → J E w X cc mL ret own R k n tgt L st σ Q) (kf : ¬ 0 ≤ x → J E w X cc mL ret own R k n (pc + 3) L st σ Q) : J E w X cc mL ret own R k n pc L (.int x :: st) σ Q := by
  intro p e s m args below meth c A H locs ls C hX hA hk hn hP hD hS hL
  exact lv_if_ge C.1 C.2.1 d ht (fun h => kt h p e s m args below meth c A H locs ls C hX hA hk hn hP hD hS hL) (fun h => kf h p e s m args below meth c A H locs ls C hX hA hk hn hP hD hS hL)
theorem J_if_ge_y {x : Int32} {off : Int} {tgt : Nat} (d : decode cc pc = .ok (.ifCond .ge off, 3)) (ht : (pc : Int) + off = (tgt : Int)) (h : 0 ≤ x) (kk : J E w X cc mL ret own R k n tgt L st σ Q) : J E w X cc mL ret own R k n pc L (.int x :: st) σ Q := J_if_ge d ht (fun _ => kk) (fun z => by exact absurd h z)
theorem J_if_ge_n {x : Int32} {off : Int} {tgt : Nat} (d : decode cc pc = .ok (.ifCond .ge off, 3)) (ht : (pc : Int) + off = (tgt : Int)) (h : ¬ 0 ≤ x) (kk : J E w X cc mL ret own R k n (pc + 3) L st σ Q) : J E w X cc mL ret own R k n pc L (.int x :: st) σ Q := J_if_ge d ht (fun z => by exact absurd z h) (fun _ => kk)
theorem J_icmp_ge {x y : Int32} {off : Int} {tgt : Nat} (d : decode cc pc = .ok (.if_icmp .ge off, 3)) (ht : (pc : Int) + off = (tgt : Int)) (kt : y ≤ x → J E w X cc mL ret own R k n tgt L st σ Q) (kf : ¬ y ≤ x → J E w X cc mL ret own R k n (pc + 3) L st σ Q) : J E w X cc mL ret own R k n pc L (.int y :: .int x :: st) σ Q := by
  intro p e s m args below meth c A H locs ls C hX hA hk hn hP hD hS hL
  exact lv_icmp_ge C.1 C.2.1 d ht (fun h => kt h p e s m args below meth c A H locs ls C hX hA hk hn hP hD hS hL) (fun h => kf h p e s m args below meth c A H locs ls C hX hA hk hn hP hD hS hL)
theorem J_icmp_ge_y {x y : Int32} {off : Int} {tgt : Nat} (d : decode cc pc = .ok (.if_icmp .ge off, 3)) (ht : (pc : Int) + off = (tgt : Int)) (h : y ≤ x) (kk : J E w X cc mL ret own R k n tgt L st σ Q) : J E w X cc mL ret own R k n pc L (.int y :: .int x :: st) σ Q := J_icmp_ge d ht (fun _ => kk) (fun z => by exact absurd h z)
theorem J_icmp_ge_n {x y : Int32} {off : Int} {tgt : Nat} (d : decode cc pc = .ok (.if_icmp .ge off, 3)) (ht : (pc : Int) + off = (tgt : Int)) (h : ¬ y ≤ x) (kk : J E w X cc mL ret own R k n (pc + 3) L st σ Q) : J E w X cc mL ret own R k n pc L (.int y :: .int x :: st) σ Q := J_icmp_ge d ht (fun z => by exact absurd z h) (fun _ => kk)
theorem J_if_gt {x : Int32} {off : Int} {tgt : Nat} (d : decode cc pc = .ok (.ifCond .gt off, 3)) (ht : (pc : Int) + off = (tgt : Int)) (kt : 0 < x → J E w X cc mL ret own R k n tgt L st σ Q) (kf : ¬ 0 < x → J E w X cc mL ret own R k n (pc + 3) L st σ Q) : J E w X cc mL ret own R k n pc L (.int x :: st) σ Q := by
  intro p e s m args below meth c A H locs ls C hX hA hk hn hP hD hS hL
  exact lv_if_gt C.1 C.2.1 d ht (fun h => kt h p e s m args below meth c A H locs ls C hX hA hk hn hP hD hS hL) (fun h => kf h p e s m args below meth c A H locs ls C hX hA hk hn hP hD hS hL)
theorem J_if_gt_y {x : Int32} {off : Int} {tgt : Nat} (d : decode cc pc = .ok (.ifCond .gt off, 3)) (ht : (pc : Int) + off = (tgt : Int)) (h : 0 < x) (kk : J E w X cc mL ret own R k n tgt L st σ Q) : J E w X cc mL ret own R k n pc L (.int x :: st) σ Q := J_if_gt d ht (fun _ => kk) (fun z => by exact absurd h z)
theorem J_if_gt_n {x : Int32} {off : Int} {tgt : Nat} (d : decode cc pc = .ok (.ifCond .gt off, 3)) (ht : (pc : Int) + off = (tgt : Int)) (h : ¬ 0 < x) (kk : J E w X cc mL ret own R k n (pc + 3) L st σ Q) : J E w X cc mL ret own R k n pc L (.int x :: st) σ Q := J_if_gt d ht (fun z => by exact absurd z h) (fun _ => kk)
theorem J_icmp_gt {x y : Int32} {off : Int} {tgt : Nat} (d : decode cc pc = .ok (.if_icmp .gt off, 3)) (ht : (pc : Int) + off = (tgt : Int)) (kt : y < x → J E w X cc mL ret own R k n tgt L st σ Q) (kf : ¬ y < x → J E w X cc mL ret own R k n (pc + 3) L st σ Q) : J E w X cc mL ret own R k n pc L (.int y :: .int x :: st) σ Q := by
  intro p e s m args below meth c A H locs ls C hX hA hk hn hP hD hS hL
  exact lv_icmp_gt C.1 C.2.1 d ht (fun h => kt h p e s m args below meth c A H locs ls C hX hA hk hn hP hD hS hL) (fun h => kf h p e s m args below meth c A H locs ls C hX hA hk hn hP hD hS hL)
theorem J_icmp_gt_y {x y : Int32} {off : Int} {tgt : Nat} (d : decode cc pc = .ok (.if_icmp .gt off, 3)) (ht : (pc : Int) + off = (tgt : Int)) (h : y < x) (kk : J E w X cc mL ret own R k n tgt L st σ Q) : J E w X cc mL ret own R k n pc L (.int y :: .int x :: st) σ Q := J_icmp_gt d ht (fun _ => kk) (fun z => by exact absurd h z)
theorem J_icmp_gt_n {x y : Int32} {off : Int} {tgt : Nat} (d : decode cc pc = .ok (.if_icmp .gt off, 3)) (ht : (pc : Int) + off = (tgt : Int)) (h : ¬ y < x) (kk : J E w X cc mL ret own R k n (pc + 3) L st σ Q) : J E w X cc mL ret own R k n pc L (.int y :: .int x :: st) σ Q := J_icmp_gt d ht (fun z => by exact absurd z h) (fun _ => kk)
theorem J_if_le {x : Int32} {off : Int} {tgt : Nat} (d : decode cc pc = .ok (.ifCond .le off, 3)) (ht : (pc : Int) + off = (tgt : Int)) (kt : x ≤ 0 → J E w X cc mL ret own R k n tgt L st σ Q) (kf : ¬ x ≤ 0 → J E w X cc mL ret own R k n (pc + 3) L st σ Q) : J E w X cc mL ret own R k n pc L (.int x :: st) σ Q := by
  intro p e s m args below meth c A H locs ls C hX hA hk hn hP hD hS hL
  exact lv_if_le C.1 C.2.1 d ht (fun h => kt h p e s m args below meth c A H locs ls C hX hA hk hn hP hD hS hL) (fun h => kf h p e s m args below meth c A H locs ls C hX hA hk hn hP hD hS hL)
theorem J_if_le_y {x : Int32} {off : Int} {tgt : Nat} (d : decode cc pc = .ok (.ifCond .le off, 3)) (ht : (pc : Int) + off = (tgt : Int)) (h : x ≤ 0) (kk : J E w X cc mL ret own R k n tgt L st σ Q) : J E w X cc mL ret own R k n pc L (.int x :: st) σ Q := J_if_le d ht (fun _ => kk) (fun z => by exact absurd h z)
theorem J_if_le_n {x : Int32} {off : Int} {tgt : Nat} (d : decode cc pc = .ok (.ifCond .le off, 3)) (ht : (pc : Int) + off = (tgt : Int)) (h : ¬ x ≤ 0) (kk : J E w X cc mL ret own R k n (pc + 3) L st σ Q) : J E w X cc mL ret own R k n pc L (.int x :: st) σ Q := J_if_le d ht (fun z => by exact absurd z h) (fun _ => kk)
theorem J_icmp_le {x y : Int32} {off : Int} {tgt : Nat} (d : decode cc pc = .ok (.if_icmp .le off, 3)) (ht : (pc : Int) + off = (tgt : Int)) (kt : x ≤ y → J E w X cc mL ret own R k n tgt L st σ Q) (kf : ¬ x ≤ y → J E w X cc mL ret own R k n (pc + 3) L st σ Q) : J E w X cc mL ret own R k n pc L (.int y :: .int x :: st) σ Q := by
  intro p e s m args below meth c A H locs ls C hX hA hk hn hP hD hS hL
  exact lv_icmp_le C.1 C.2.1 d ht (fun h => kt h p e s m args below meth c A H locs ls C hX hA hk hn hP hD hS hL) (fun h => kf h p e s m args below meth c A H locs ls C hX hA hk hn hP hD hS hL)
theorem J_icmp_le_y {x y : Int32} {off : Int} {tgt : Nat} (d : decode cc pc = .ok (.if_icmp .le off, 3)) (ht : (pc : Int) + off = (tgt : Int)) (h : x ≤ y) (kk : J E w X cc mL ret own R k n tgt L st σ Q) : J E w X cc mL ret own R k n pc L (.int y :: .int x :: st) σ Q := J_icmp_le d ht (fun _ => kk) (fun z => by exact absurd h z)
theorem J_icmp_le_n {x y : Int32} {off : Int} {tgt : Nat} (d : decode cc pc = .ok (.if_icmp .le off, 3)) (ht : (pc : Int) + off = (tgt : Int)) (h : ¬ x ≤ y) (kk : J E w X cc mL ret own R k n (pc + 3) L st σ Q) : J E w X cc mL ret own R k n pc L (.int y :: .int x :: st) σ Q := J_icmp_le d ht (fun z => by exact absurd z h) (fun _ => kk)
theorem J_goto {off : Int} {tgt : Nat} (d : decode cc pc = .ok (.goto off, 3)) (ht : (pc : Int) + off = (tgt : Int)) (kk : J E w X cc mL ret own R k n (tgt) L (st) σ Q) : J E w X cc mL ret own R k n pc L (st) σ Q := by
  intro p e s m args below meth c A H locs ls C hX hA hk hn hP hD hS hL
  exact lv_goto C.1 C.2.1 d ht (kk p e s m args below meth c A H locs ls C hX hA hk hn hP hD hS hL)
theorem J_ifnonnull {a : Nat} {off : Int} {tgt : Nat} (d : decode cc pc = .ok (.ifnonnull off, 3)) (ht : (pc : Int) + off = (tgt : Int)) (kk : J E w X cc mL ret own R k n (tgt) L (st) σ Q) : J E w X cc mL ret own R k n pc L (.ref a :: st) σ Q := by
  intro p e s m args below meth c A H locs ls C hX hA hk hn hP hD hS hL
  exact lv_ifnonnull C.1 C.2.1 d ht (kk p e s m args below meth c A H locs ls C hX hA hk hn hP hD hS hL)
theorem J_ifnonnullN {off : Int} (d : decode cc pc = .ok (.ifnonnull off, 3)) (kk : J E w X cc mL ret own R k n (pc + 3) L (st) σ Q) : J E w X cc mL ret own R k n pc L (.null :: st) σ Q := by
  intro p e s m args below meth c A H locs ls C hX hA hk hn hP hD hS hL
  exact lv_ifnonnullN C.1 C.2.1 d (kk p e s m args below meth c A H locs ls C hX hA hk hn hP hD hS hL)
theorem J_ifnull {a : Nat} {off : Int} (d : decode cc pc = .ok (.ifnull off, 3)) (kk : J E w X cc mL ret own R k n (pc + 3) L (st) σ Q) : J E w X cc mL ret own R k n pc L (.ref a :: st) σ Q := by
  intro p e s m args below meth c A H locs ls C hX hA hk hn hP hD hS hL
  exact lv_ifnull C.1 C.2.1 d (kk p e s m args below meth c A H locs ls C hX hA hk hn hP hD hS hL)
theorem J_ifnullN {off : Int} {tgt : Nat} (d : decode cc pc = .ok (.ifnull off, 3)) (ht : (pc : Int) + off = (tgt : Int)) (kk : J E w X cc mL ret own R k n (tgt) L (st) σ Q) : J E w X cc mL ret own R k n pc L (.null :: st) σ Q := by
  intro p e s m args below meth c A H locs ls C hX hA hk hn hP hD hS hL
  exact lv_ifnullN C.1 C.2.1 d ht (kk p e s m args below meth c A H locs ls C hX hA hk hn hP hD hS hL)
theorem J_tableIn {dflt lo hi : Int} {offs : Array Int} {len : Nat} {x : Int32} (off : Int) {tgt : Nat} (d : decode cc pc = .ok (.tableswitch dflt lo hi offs, len)) (h1 : ¬ x.toInt < lo) (h2 : ¬ hi < x.toInt) (ho : offs[(x.toInt - lo).toNat]? = some off) (ht : (pc : Int) + off = (tgt : Int)) (kk : J E w X cc mL ret own R k n (tgt) L (st) σ Q) : J E w X cc mL ret own R k n pc L (.int x :: st) σ Q := by
  intro p e s m args below meth c A H locs ls C hX hA hk hn hP hD hS hL
  exact lv_tableIn C.1 C.2.1 d h1 h2 ho ht (kk p e s m args below meth c A H locs ls C hX hA hk hn hP hD hS hL)
theorem J_tableOut {dflt lo hi : Int} {offs : Array Int} {len : Nat} {x : Int32} {tgt : Nat} (d : decode cc pc = .ok (.tableswitch dflt lo hi offs, len)) (h : x.toInt < lo ∨ hi < x.toInt) (ht : (pc : Int) + dflt = (tgt : Int)) (kk : J E w X cc mL ret own R k n (tgt) L (st) σ Q) : J E w X cc mL ret own R k n pc L (.int x :: st) σ Q := by
  intro p e s m args below meth c A H locs ls C hX hA hk hn hP hD hS hL
  exact lv_tableOut C.1 C.2.1 d h ht (kk p e s m args below meth c A H locs ls C hX hA hk hn hP hD hS hL)
theorem J_lookup {dflt : Int} {ps : Array (Int × Int)} {len : Nat} {x : Int32} (off : Int) {tgt : Nat} (d : decode cc pc = .ok (.lookupswitch dflt ps, len)) (hp : (ps.toList.zip (ps.toList.drop 1)).all (fun (a, next) => a.1 < next.1) = true) (ho : Op.lookupswitch.offset ps.toList dflt x.toInt = off) (ht : (pc : Int) + off = (tgt : Int)) (kk : J E w X cc mL ret own R k n (tgt) L (st) σ Q) : J E w X cc mL ret own R k n pc L (.int x :: st) σ Q := by
  intro p e s m args below meth c A H locs ls C hX hA hk hn hP hD hS hL
  exact lv_lookup C.1 C.2.1 d hp ho ht (kk p e s m args below meth c A H locs ls C hX hA hk hn hP hD hS hL)
/-- the top of the stack under another name -/
theorem J_top {x : Int32} (y : Int32) (h : x = y) (kk : J E w X cc mL ret own R k n pc L (.int y :: st) σ Q) : J E w X cc mL ret own R k n pc L (.int x :: st) σ Q := h ▸ kk
theorem J_topl {x : Int64} (y : Int64) (h : x = y) (kk : J E w X cc mL ret own R k n pc L (.long y :: st) σ Q) : J E w X cc mL ret own R k n pc L (.long x :: st) σ Q := h ▸ kk
/-- the world under another name -/
theorem J_w {σ' : St} (h : σ = σ') (kk : J E w X cc mL ret own R k n pc L st σ' Q) : J E w X cc mL ret own R k n pc L st σ Q := h ▸ kk
theorem J_mono {Q' : Option Value → St → Prop} (h : ∀ v σ, Q' v σ → Q v σ) (kk : J E w X cc mL ret own R k n pc L st σ Q') : J E w X cc mL ret own R k n pc L st σ Q := by
  intro p e s m args below meth c A H locs ls C hX hA hk hn hP hD hS hL T hT Y
  obtain ⟨t, a1, o, b1, b2, ⟨⟨v, σ1, c1, c2, c3⟩, b4⟩, b5⟩ := kk p e s m args below meth c A H locs ls C hX hA hk hn hP hD hS hL T hT Y
  exact ⟨t, a1, o, b1, b2, ⟨⟨v, σ1, c1, h v σ1 c2, c3⟩, b4⟩, b5⟩
/-- less is known of the locals -/
theorem J_loc {L' : List (Option Value)} (hl : L'.length = L.length) (h : ∀ (i : Nat) (v : Value), L'[i]? = some (some v) → L[i]? = some (some v)) (kk : J E w X cc mL ret own R k n pc L' st σ Q) : J E w X cc mL ret own R k n pc L st σ Q := by
  intro p e s m args below meth c A H locs ls C hX hA hk hn hP hD hS hL
  exact kk p e s m args below meth c A H locs ls C hX hA hk hn hP hD hS ⟨hL.1, hL.2.1, hl.trans hL.2.2.1, fun i v hi => hL.2.2.2 i v (h i v hi)⟩
def j_sub (L' L : List (Option Value)) : Bool := match L', L with
  | [], [] => true
  | none :: l', _ :: l => j_sub l' l
  | _ :: l', _ :: l => j_sub l' l
  | _, _ => false
theorem J_wid {k' n' : Nat} (h1 : k ≤ k') (h2 : n ≤ n') (h3 : k' ≤ R.cells) (h4 : n' ≤ R.slots) (kk : J E w X cc mL ret own R k' n' pc L st σ Q) : J E w X cc mL ret own R k n pc L st σ Q := by
  intro p e s m args below meth c A H locs ls C hX hA hk hn hP hD hS hL
  exact W.widen h1 h2 (kk p e s m args below meth c A H locs ls C hX hA h3 h4 hP hD hS hL)
/-- fields -/
theorem J_get {index ci a N : Nat} {C ref : String} {T : u_T} {V : Nat → Value} (r f : Nat) (hr : w σ r = some (a, .inr (ci, V))) (hc : CL[ci]? = some (C, T, N)) (hin : ∀ w ∈ u_ws C T N, w ∈ lw_all) (hf : f < N) (q : Cond.fieldLink own index ref (T f).2.1 (T f).2.2.1 ∈ lw_all) (href : (T f).1 = ref) (d : decode cc pc = .ok (.getfield index, 3)) (kk : J E w X cc mL ret own R k n (pc + 3) L (V f :: st) σ Q) : J E w X cc mL ret own R k n pc L (.ref a :: st) σ Q := by
  intro p e s m args below meth c A H locs ls C hX hA hk hn hP hD hS hL
  obtain ⟨r', h1, cell, q1, q2, q3, q4⟩ := hP r _ _ hr
  have hr' : r' = (_, T, N) := Option.some.inj (h1.symm.trans hc)
  subst hr'
  obtain ⟨hSl, hfc, kC, hkC, hkind⟩ := C.2.2.2.2.2.2.2.1 ci _ hc
  obtain ⟨cf, kf, fi, fd, hi, hsl⟩ := hSl f hf
  subst href
  refine W.getf C.1 C.2.1 C.2.2.2.2.2.1 (C.2.2.2.2.2.2.1 _ q) hi (u_facts hfc hkC (u_lays C.2.2.2.2.2.2.1 hin hf) hi).1 q1 (by rw [q3]; exact fun h => by cases h) (v := V f) ?_ rfl rfl d (kk p e s m args below meth c A H locs ls C hX hA hk hn hP hD hS hL)
  rw [hsl, q4 f hf]
theorem j_Pset {D : va_G} {A : Nat → Prop} {w : jW} {r a : Nat} {e0 e : jE} {H H1 : Heap} (hP : j_P D w H) (hD : j_D A w) (hr : w r = some (a, e0)) (he : j_at D a e H1) (oq : ∀ q : Nat, q ≠ a → H1[q]? = H[q]?) : j_P D (j_up w r (some (a, e))) H1 := by
  intro r' a' e' h
  by_cases z : r' = r
  · subst z
    simp only [j_up, if_pos] at h
    cases h
    exact he
  · simp only [j_up, if_neg z] at h
    have hne : a' ≠ a := fun y => z (hD.1 r' r a' e' e0 h (y ▸ hr))
    have h2 := hP r' a' e' h
    cases e' with
    | inl x => exact (oq a' hne).trans h2
    | inr o =>
      obtain ⟨r2, h3, h4⟩ := h2
      exact ⟨r2, h3, h4.kept (oq a' hne)⟩
theorem j_Dset {A : Nat → Prop} {w : jW} {r a : Nat} {e0 e : jE} (hD : j_D A w) (hr : w r = some (a, e0)) : j_D A (j_up w r (some (a, e))) := by
  have key : ∀ (r' a' : Nat) (e' : jE), j_up w r (some (a, e)) r' = some (a', e') → ∃ e2, w r' = some (a', e2) := by
    intro r' a' e' h
    by_cases z : r' = r
    · subst z
      simp only [j_up, if_pos] at h
      cases h
      exact ⟨e0, hr⟩
    · simp only [j_up, if_neg z] at h
      exact ⟨e', h⟩
  refine ⟨fun r1 r2 a' e1 e2 h1 h2 => ?_, fun r1 a' e1 h1 => ?_⟩
  · obtain ⟨x1, y1⟩ := key _ _ _ h1
    obtain ⟨x2, y2⟩ := key _ _ _ h2
    exact hD.1 r1 r2 a' x1 x2 y1 y2
  · obtain ⟨x1, y1⟩ := key _ _ _ h1
    exact hD.2 r1 a' x1 y1
theorem j_apart {s : State} {args : Array Value} {D : va_G} {tys : List (ClassId × FieldType)} {C : String} {T : u_T} {N ci : Nat} (hts : ∀ w ∈ lw_all, w.before args s = true) (hin : ∀ w ∈ u_ws C T N, w ∈ lw_all) (ty : Nat → FieldType) (hty : ∀ k, k < N → parseFieldDescriptor (T k).2.2.1 = some (ty k)) (hnm : ∀ a, a < N → ∀ b, b < N → a ≠ b → (T a).2.1 ≠ (T b).2.1) (hK : va_K D CL tys s) (hc : CL[ci]? = some (C, T, N)) : ∀ x y, x < N → y < N → x ≠ y → (D.2 ci) x ≠ (D.2 ci) y :=
  va_apart (own := C) hts hin ty hty hnm hK hc
theorem J_put {σ' : St} {index ci a N : Nat} {C ref : String} {T : u_T} {V : Nat → Value} {v : Value} {ty0 : Nat → FieldType} (r f : Nat) (hr : w σ r = some (a, .inr (ci, V))) (hc : CL[ci]? = some (C, T, N)) (hin : ∀ w ∈ u_ws C T N, w ∈ lw_all) (hty : ∀ k, k < N → parseFieldDescriptor (T k).2.2.1 = some (ty0 k)) (hnm : ∀ a, a < N → ∀ b, b < N → a ≠ b → (T a).2.1 ≠ (T b).2.1) (hf : f < N) (q : Cond.fieldLink own index ref (T f).2.1 (T f).2.2.1 ∈ lw_all) (href : (T f).1 = ref) (hfin : (T f).2.2.2 = false) (hn : narrow (ty0 f) v = v) (hfit : fits (ty0 f) v = true) (hσ : w σ' = j_up (w σ) r (some (a, .inr (ci, updV V f v)))) (d : decode cc pc = .ok (.putfield index, 3)) (kk : J E w X cc mL ret own R k n (pc + 3) L st σ' Q) : J E w X cc mL ret own R k n pc L (v :: .ref a :: st) σ Q := by
  intro p e s m args below meth c A H locs ls C hX hA hk hn0 hP hD hS hL
  have hap := j_apart C.2.2.2.2.2.2.1 hin ty0 hty hnm C.2.2.2.2.2.2.2 hc
  obtain ⟨r', h1, cell, q1, q2, q3, q4⟩ := hP r _ _ hr
  have hr' : r' = (_, T, N) := Option.some.inj (h1.symm.trans hc)
  subst hr'
  obtain ⟨hSl, hfc, kC, hkC, hkind⟩ := C.2.2.2.2.2.2.2.1 ci _ hc
  obtain ⟨cf, kf, fi, fd, hi, hsl⟩ := hSl f hf
  subst href
  have hlay := C.2.2.2.2.2.2.1 _ (hin _ (u_in_lay hf))
  unfold u_lay at hlay
  rw [if_neg (by rw [hfin]; decide)] at hlay
  have hst := (u_facts hfc hkC (u_lays C.2.2.2.2.2.2.1 hin hf) hi).1
  have h6 := u_store hfc hkC hkind hlay hi (hty f hf) hn hfit
  refine W.putK C.1 C.2.1 (f := fd) ⟨C.2.2.2.2.2.1, C.2.2.2.2.2.2.1 _ q, ⟨_, _, _, hi⟩, hst⟩ (by rw [q2]; exact h6) q1 q3 (by rw [hsl]; exact k2_hasslot (q4 f hf)) rfl rfl d fun H' e1 e2 e3 => ?_
  rw [hsl] at e1 ⊢
  refine kk p e s m args below meth c A H' _ ls C hX hA hk hn0 ?_ ?_ (hS.put e2 e3 (hD.2 r _ _ hr)) hL
  · rw [hσ]
    exact j_Pset hP hD hr ⟨_, hc, _, e1, q2, q3, t_set q4 hap hf v⟩ e3
  · rw [hσ]
    exact j_Dset hD hr
/-- arrays -/
theorem J_alen {a : Nat} {cA : ClassId} {x : vp_A} {ty : FieldType} (r t0 : Nat) (v : Int32) (hr : w σ r = some (a, .inl (cA, x))) (ht : (j_tys E.2.2)[t0]? = some (cA, ty)) (hv : Int32.ofNat x.1 = v) (d : decode cc pc = .ok (.arraylength, 1)) (kk : J E w X cc mL ret own R k n (pc + 1) L (.int v :: st) σ Q) : J E w X cc mL ret own R k n pc L (.ref a :: st) σ Q := by
  intro p e s m args below meth c A H locs ls C hX hA hk hn hP hD hS hL
  have hq : va_P E.2.1 CL [(a, .inl (cA, x))] H := fun i q hi => by
    cases i with
    | zero => cases hi; exact hP r _ _ hr
    | succ i => simp at hi
  exact va_alen C.1 C.2.1 C.2.2.2.2.2.2.2 hq 0 t0 rfl ht hv d (kk p e s m args below meth c A H locs ls C hX hA hk hn hP hD hS hL)
theorem J_iald {a : Nat} {f : Nat → Int32} {N : Nat} {i : Int32} (r : Nat) (hr : w σ r = some (a, .inl (E.2.2 0, N, .inl f))) (hin : vp_in i N) (d : decode cc pc = .ok (.iaload, 1)) (kk : J E w X cc mL ret own R k n (pc + 1) L (.int (f i.toNatClampNeg) :: st) σ Q) : J E w X cc mL ret own R k n pc L (.int i :: .ref a :: st) σ Q := by
  intro p e s m args below meth c A H locs ls C hX hA hk hn hP hD hS hL
  have hq : va_P E.2.1 CL [(a, .inl (E.2.2 0, N, .inl f))] H := fun i q hi => by
    cases i with
    | zero => cases hi; exact hP r _ _ hr
    | succ i => simp at hi
  exact va_iald C.1 C.2.1 C.2.2.2.2.2.2.2 hq 0 0 rfl rfl hin d (kk p e s m args below meth c A H locs ls C hX hA hk hn hP hD hS hL)
theorem J_bald {a : Nat} {f : Nat → Int32} {N : Nat} {i : Int32} (r : Nat) (hr : w σ r = some (a, .inl (E.2.2 1, N, .inl f))) (hin : vp_in i N) (d : decode cc pc = .ok (.baload, 1)) (kk : J E w X cc mL ret own R k n (pc + 1) L (.int (f i.toNatClampNeg) :: st) σ Q) : J E w X cc mL ret own R k n pc L (.int i :: .ref a :: st) σ Q := by
  intro p e s m args below meth c A H locs ls C hX hA hk hn hP hD hS hL
  have hq : va_P E.2.1 CL [(a, .inl (E.2.2 1, N, .inl f))] H := fun i q hi => by
    cases i with
    | zero => cases hi; exact hP r _ _ hr
    | succ i => simp at hi
  exact va_bald C.1 C.2.1 C.2.2.2.2.2.2.2 hq 0 1 rfl rfl hin d (kk p e s m args below meth c A H locs ls C hX hA hk hn hP hD hS hL)
theorem J_zald {a : Nat} {f : Nat → Int32} {N : Nat} {i : Int32} (r : Nat) (hr : w σ r = some (a, .inl (E.2.2 2, N, .inl f))) (hin : vp_in i N) (d : decode cc pc = .ok (.baload, 1)) (kk : J E w X cc mL ret own R k n (pc + 1) L (.int (f i.toNatClampNeg) :: st) σ Q) : J E w X cc mL ret own R k n pc L (.int i :: .ref a :: st) σ Q := by
  intro p e s m args below meth c A H locs ls C hX hA hk hn hP hD hS hL
  have hq : va_P E.2.1 CL [(a, .inl (E.2.2 2, N, .inl f))] H := fun i q hi => by
    cases i with
    | zero => cases hi; exact hP r _ _ hr
    | succ i => simp at hi
  exact va_zald C.1 C.2.1 C.2.2.2.2.2.2.2 hq 0 2 rfl rfl hin d (kk p e s m args below meth c A H locs ls C hX hA hk hn hP hD hS hL)
theorem J_iast {σ' : St} {a : Nat} {f : Nat → Int32} {N : Nat} {i x : Int32} (r : Nat) (hr : w σ r = some (a, .inl (E.2.2 0, N, .inl f))) (hin : vp_in i N) (hσ : w σ' = j_up (w σ) r (some (a, .inl (E.2.2 0, N, .inl (upd f i.toNatClampNeg x))))) (d : decode cc pc = .ok (.iastore, 1)) (kk : J E w X cc mL ret own R k n (pc + 1) L st σ' Q) : J E w X cc mL ret own R k n pc L (.int x :: .int i :: .ref a :: st) σ Q := by
  intro p e s m args below meth c A H locs ls C hX hA hk hn hP hD hS hL
  refine W.iast C.1 C.2.1 (hP r _ _ hr) ((C.2.2.2.2.2.2.2.2 0 _ rfl).1 N (fun j => .int (f j))) (fun q => by cases q) (by show ¬ (i < 0 ∨ (arrV _ _ _).slots.size ≤ _); rw [arrV_size]; exact hin) rfl rfl d fun H1 e1 z oq => ?_
  refine kk p e s m args below meth c A H1 _ ls C hX hA hk hn ?_ (by rw [hσ]; exact j_Dset hD hr) (hS.put z oq (hD.2 r _ _ hr)) hL
  rw [hσ]
  refine j_Pset hP hD hr ?_ oq
  show H1[a]? = some (vp_cell _ _)
  rw [e1]
  rw [vp_cell_i, vp_cell_i, arrV_store]
  congr 2
  funext q
  by_cases hq : q = i.toNatClampNeg
  · subst hq
    simp [updV, upd]
  · simp [updV, upd, hq]
theorem J_bast {σ' : St} {a : Nat} {f : Nat → Int32} {N : Nat} {i x : Int32} (r : Nat) (hr : w σ r = some (a, .inl (E.2.2 1, N, .inl f))) (hin : vp_in i N) (hσ : w σ' = j_up (w σ) r (some (a, .inl (E.2.2 1, N, .inl (upd f i.toNatClampNeg x.toInt8.toInt32))))) (d : decode cc pc = .ok (.bastore, 1)) (kk : J E w X cc mL ret own R k n (pc + 1) L st σ' Q) : J E w X cc mL ret own R k n pc L (.int x :: .int i :: .ref a :: st) σ Q := by
  intro p e s m args below meth c A H locs ls C hX hA hk hn hP hD hS hL
  refine W.bast C.1 C.2.1 (hP r _ _ hr) ((C.2.2.2.2.2.2.2.2 1 _ rfl).1 N (fun j => .int (f j))) (fun q => by cases q) (by show ¬ (i < 0 ∨ (arrV _ _ _).slots.size ≤ _); rw [arrV_size]; exact hin) rfl rfl d fun H1 e1 z oq => ?_
  refine kk p e s m args below meth c A H1 _ ls C hX hA hk hn ?_ (by rw [hσ]; exact j_Dset hD hr) (hS.put z oq (hD.2 r _ _ hr)) hL
  rw [hσ]
  refine j_Pset hP hD hr ?_ oq
  show H1[a]? = some (vp_cell _ _)
  rw [e1]
  rw [vp_cell_i, vp_cell_i, arrV_store]
  congr 2
  funext q
  by_cases hq : q = i.toNatClampNeg
  · subst hq
    simp [updV, upd, narrow_byte]
  · simp [updV, upd, hq]
theorem J_zast {σ' : St} {a : Nat} {f : Nat → Int32} {N : Nat} {i x : Int32} (r : Nat) (hr : w σ r = some (a, .inl (E.2.2 2, N, .inl f))) (hin : vp_in i N) (hσ : w σ' = j_up (w σ) r (some (a, .inl (E.2.2 2, N, .inl (upd f i.toNatClampNeg (vp_nar .boolean x)))))) (d : decode cc pc = .ok (.bastore, 1)) (kk : J E w X cc mL ret own R k n (pc + 1) L st σ' Q) : J E w X cc mL ret own R k n pc L (.int x :: .int i :: .ref a :: st) σ Q := by
  intro p e s m args below meth c A H locs ls C hX hA hk hn hP hD hS hL
  refine W.zast C.1 C.2.1 (hP r _ _ hr) ((C.2.2.2.2.2.2.2.2 2 _ rfl).1 N (fun j => .int (f j))) (fun q => by cases q) (by show ¬ (i < 0 ∨ (arrV _ _ _).slots.size ≤ _); rw [arrV_size]; exact hin) rfl rfl d fun H1 e1 z oq => ?_
  refine kk p e s m args below meth c A H1 _ ls C hX hA hk hn ?_ (by rw [hσ]; exact j_Dset hD hr) (hS.put z oq (hD.2 r _ _ hr)) hL
  rw [hσ]
  refine j_Pset hP hD hr ?_ oq
  show H1[a]? = some (vp_cell _ _)
  rw [e1]
  rw [vp_cell_i, vp_cell_i, arrV_store]
  congr 2
  funext q
  by_cases hq : q = i.toNatClampNeg
  · subst hq
    simp [updV, upd, vp_nar, narrow]
  · simp [updV, upd, hq]
theorem J_iret {v : Int32} (hret : ret = some .int) (d : decode cc pc = .ok (.ireturn, 1))  (hq : Q (some (.int v)) σ) : J E w X cc mL ret own R k n pc L [(.int v)] σ Q := by
  intro p e s m args below meth c A H locs ls C hX hA hk hn hP hD hS hL
  have hr := C.2.2.1
  have hlocks := C.2.2.2.1
  subst hret
  refine W.widen hk hn ?_
  exact W.iret C.1 C.2.1 hr (fun t ht hW => ⟨⟨(some (.int v)), σ, rfl, hq, by rw [ht]; exact hP, hD⟩, hS.F ht⟩) hS.2.2 d
theorem J_zret {v : Int32} (hret : ret = some .boolean) (d : decode cc pc = .ok (.ireturn, 1)) (hz : narrow .boolean (.int v) = .int v) (hq : Q (some (.int v)) σ) : J E w X cc mL ret own R k n pc L [(.int v)] σ Q := by
  intro p e s m args below meth c A H locs ls C hX hA hk hn hP hD hS hL
  have hr := C.2.2.1
  have hlocks := C.2.2.2.1
  subst hret
  refine W.widen hk hn ?_
  exact W.zret C.1 C.2.1 hr hz (fun t ht hW => ⟨⟨(some (.int v)), σ, rfl, hq, by rw [ht]; exact hP, hD⟩, hS.F ht⟩) hS.2.2 d
theorem J_lret {v : Int64} (hret : ret = some .long) (d : decode cc pc = .ok (.lreturn, 1))  (hq : Q (some (.long v)) σ) : J E w X cc mL ret own R k n pc L [(.long v)] σ Q := by
  intro p e s m args below meth c A H locs ls C hX hA hk hn hP hD hS hL
  have hr := C.2.2.1
  have hlocks := C.2.2.2.1
  subst hret
  refine W.widen hk hn ?_
  exact W.lret C.1 C.2.1 hr (fun t ht hW => ⟨⟨(some (.long v)), σ, rfl, hq, by rw [ht]; exact hP, hD⟩, hS.F ht⟩) hS.2.2 d
theorem J_vret  (hret : ret = none) (d : decode cc pc = .ok (.return_, 1))  (hq : Q none σ) : J E w X cc mL ret own R k n pc L [] σ Q := by
  intro p e s m args below meth c A H locs ls C hX hA hk hn hP hD hS hL
  have hr := C.2.2.1
  have hlocks := C.2.2.2.1
  subst hret
  refine W.widen hk hn ?_
  exact W.vret C.1 C.2.1 hr (fun t ht hW => ⟨⟨none, σ, rfl, hq, by rw [ht]; exact hP, hD⟩, hS.F ht⟩) hS.2.2 d
/-- what is said of the start lasts -/
def j_X1 (X : (Nat → Prop) → State → Prop) : Prop := (∀ (A : Nat → Prop) (U U' : State), X A U → U'.heap = U.heap → U'.vm = U.vm → X A U') ∧ ∀ (A A' : Nat → Prop) (s U : State), X A s → s.WarmedH U.vm → s.heap.size ≤ U.heap.size → (∀ q, q < s.heap.size → ¬ A q → U.heap[q]? = s.heap[q]?) → (∀ q, q < s.heap.size → A' q → A q) → X A' U
def j_X (X X' : jX) (y : MethodName) : Prop := j_X1 X.1 ∧ X'.1 = X.1 ∧ ∀ z, X'.2 = some z → z = y
def j_sv : Slot → Option Value
  | .val v => some v
  | _ => none
def j_ent (vs : List Value) (n : Nat) : List (Option Value) := (lg_sl vs ++ List.replicate (n - (lg_sl vs).length) Slot.unset).map j_sv
def j_A (w : jW) (sz : Nat) : Nat → Prop := fun q => (∃ (r : Nat) (e : jE), w r = some (q, e)) ∨ sz ≤ q
def j_Pc (E : jEnv) {St : Type} (w : St → jW) (X : (Nat → Prop) → State → Prop) (vs : List Value) (σ : St) (sz : Nat) : Array Value → State → Prop := va_Pc vs (fun U => U.heap.size = sz ∧ X (j_A (w σ) sz) U ∧ va_K E.2.1 CL (j_tys E.2.2) U ∧ j_P E.2.1 (w σ) U.heap ∧ j_D (j_A (w σ) sz) (w σ))
theorem j_blind {X1 : (Nat → Prop) → State → Prop} {vs : List Value} {sz : Nat} (hX : j_X1 X1) : FrameBlind (j_Pc E w X1 vs σ sz) := by
  intro a U g mk h
  obtain ⟨h1, h2, h3, h4, h5⟩ := h
  exact ⟨h1, h2, hX.1 _ _ _ h3 rfl rfl, va_K.moved (u := U) (U := U.calling g mk a) (Vm.Alike.refl U.vm) h4, h5⟩
theorem j_met {y : MethodName} {vs : List Value} {sz : Nat} (hy : plainName y.cls = true) (hown : y.cls = own) (hlen : (lg_sl vs).length ≤ mL) (hnm : ∀ z, X.2 = some z → z = y) (hJ : J E w X cc mL ret own R 0 0 0 (j_ent vs mL) [] σ Q) : Met E.1 y (ws_ y cc mL ret) R (j_Pc E w X.1 vs σ sz) (j_Q E w Q (j_A (w σ) sz)) R.cells R.slots (j_A (w σ) sz) := by
  refine Met.ofW (cc := cc) (maxL := mL) (ret := ret) hy rfl ?_
  intro p e s m args below meth c s₁ B hml hv
  obtain ⟨rfl, hsz, hXs, hK, hP, hD⟩ := hv
  have hts := atoms_spec (ws := ws_ y cc mL ret) B.pre
  have hts : ∀ w ∈ lw_all, w.before _ s = true := fun w h => hts w (List.mem_cons_of_mem _ h)
  have ho : s.vm.findClass own = some m.cls := hown ▸ findClass_of_methodNamed B.named
  have he := lv_entry vs hlen
  rw [lg_entry_eq]
  refine hJ p e s m _ below meth c _ s.heap [] _ ⟨B.exec, B.bytes, B.returns, B.notSynchronized, hml, ho, hts, hK⟩ ⟨hXs, fun z hz => by rw [hnm z hz]; exact ⟨B.named, B.method⟩⟩ (fun q h => Or.inr (by rw [← hsz]; exact h)) (Nat.zero_le _) (Nat.zero_le _) hP hD va_S.rf ⟨he.1, he.2.1, ?_, ?_⟩
  · simp [j_ent]; omega
  · intro i v hi
    simp only [j_ent, List.getElem?_map] at hi
    rw [← Array.getElem?_toList]
    show (lg_sl vs ++ List.replicate (mL - (lg_sl vs).length) Slot.unset)[i]? = _
    cases hx : (lg_sl vs ++ List.replicate (mL - (lg_sl vs).length) Slot.unset)[i]? with
    | none => rw [hx] at hi; simp at hi
    | some o =>
      rw [hx] at hi
      cases o with
      | val u => simp [j_sv] at hi; rw [hi]
      | _ => simp [j_sv] at hi
theorem j_freeA {A : Nat → Prop} {s : State} {H : Heap} {locs : List Loc} (hA : ∀ q, s.heap.size ≤ q → A q) (hD : j_D A (w σ)) (hS : va_S A s.heap H locs) : ∀ q, j_A (w σ) H.size q → A q := by
  intro q h
  rcases h with ⟨r, e, h⟩ | h
  · exact hD.2 r q e h
  · exact hA q (Nat.le_trans hS.1 h)
theorem j_start {A : Nat → Prop} {s U : State} {H : Heap} {locs : List Loc} {vs : List Value} {X1 : (Nat → Prop) → State → Prop} (hX : j_X1 X1) (hXs : X1 A s) (hA : ∀ q, s.heap.size ≤ q → A q) (hK : va_K E.2.1 CL (j_tys E.2.2) s) (hP : j_P E.2.1 (w σ) H) (hD : j_D A (w σ)) (hS : va_S A s.heap H locs) (hU : U.heap = H) (hW : s.WarmedH U.vm) : j_Pc E w X1 vs σ H.size vs.toArray U := by
  refine ⟨rfl, by rw [hU], ?_, va_K.moved hW.alike hK, by rw [hU]; exact hP, hD.1, fun r a e h => Or.inl ⟨r, e, h⟩⟩
  refine hX.2 A _ s U hXs hW (by rw [hU]; exact hS.1) (fun q h1 h2 => by rw [hU]; exact hS.2.1 q h1 h2) (fun q _ h2 => j_freeA hA hD hS q h2)
/-- behind a call -/
theorem j_back {St2 : Type} {w2 : St2 → jW} {σ2 : St2} {p : Program} {e : Env} {s : State} {m : MethodId} {args : Array Value} {below : List Frame} {meth : Method} {c : Code} {A : Nat → Prop} {H : Heap} {locs : List Loc} {ls : Array Slot} {Q0 : State → Prop} {Q2 : Option Value → St2 → Prop} {a : Array Value} {st0 rest : List Value} {mc ms : Nat}
    (hr : va_Run p E.1 e R s m args below meth c H locs k n mc ms (F0 m pc ls st0) rest (j_Q E w2 Q2 (j_A (w2 σ2) H.size) a) (j_A (w2 σ2) H.size)) (hA : ∀ q, s.heap.size ≤ q → A q) (hD : j_D A (w2 σ2)) (hS : va_S A s.heap H locs)
    (kk : ∀ (v : Option Value) (σ1 : St2) (H1 : Heap) (locs1 : List Loc), Q2 v σ1 → j_P E.2.1 (w2 σ1) H1 → j_D (j_A (w2 σ2) H.size) (w2 σ1) → H.size ≤ H1.size → (∀ q, q < H.size → ¬ j_A (w2 σ2) H.size q → H1[q]? = H[q]?) → va_S A s.heap H1 locs1 → W p E.1 e R s m args below meth c H1 locs1 (k + mc) (n + ms) Q0 (F0 m (pc + 3) ls (v.toList ++ rest))) : W p E.1 e R s m args below meth c H locs k n Q0 (F0 m pc ls st0) := by
  intro T hT Y
  obtain ⟨v, st₀, t, T', L1, h0, Y', hL1, e1, e2, ⟨⟨v', σ1, hv, hq, hp, hd⟩, hz, hkp⟩, st⟩ := hr T hT Y
  cases hv
  rw [h0] at hz hkp
  have hf := j_freeA (w := w2) (σ := σ2) hA hD hS
  obtain ⟨t2, a1, b1⟩ := kk v σ1 T'.heap (locs ++ L1) hq (by rw [e1]; exact hp) hd (by rw [e1]; exact hz) (fun q h1 h2 => by rw [e1]; exact hkp q h1 h2)
    ⟨Nat.le_trans hS.1 (by rw [e1]; exact hz), fun q h1 h2 => by rw [e1, hkp q (Nat.lt_of_lt_of_le h1 hS.1) (fun z => h2 (hf q z))]; exact hS.2.1 q h1 h2, fun q hq => by
      rcases List.mem_append.mp hq with h | h
      · exact hS.2.2 q h
      · exact hf _ (hL1 q h)⟩ T' rfl Y'
  exact ⟨t2, st t2 a1, b1⟩
theorem j_room {f f' k' n' a b : Nat} {cl : Nat} (h : f' + 1 ≤ f) (hm : cl ≤ 29) : (jR f' k' n').frames + 1 ≤ (jR f a b).frames ∧ 8 + (cl + 11) + (jR f' k' n').locals ≤ (jR f a b).locals := ⟨h, by show 8 + (cl + 11) + 48 * f' ≤ 48 * f; omega⟩
theorem J_callV {X' : jX} {y : MethodName} {cc' : ByteArray} {mL' : Nat} {ret' : Option FieldType} {R' : Room} {C : String} {T : u_T} {N index ci a : Nat} {V : Nat → Value} (As : List Value) (na : Nat) (r : Nat) (hr : w σ r = some (a, .inr (ci, V))) (hc : CL[ci]? = some (C, T, N)) (q1 : Cond.methodLink own index y ∈ lw_all) (q2 : Cond.instanceMethod y ∈ lw_all) (q3 : Cond.selects C y y ∈ lw_all) (q4 : Cond.initialized C ∈ lw_all) (q5 : Cond.code y cc' mL' ret' ∈ lw_all)
    (hd : y.cls = C ∧ y.cls ≠ "java/lang/invoke/MethodHandle" ∧ y.cls ≠ "java/lang/invoke/VarHandle" ∧ (parseMethodDescriptor y.desc).map (fun d => d.parameters.length) = some na) (hp : plainName y.cls = true) (hX : j_X X X' y) (hR : R'.frames + 1 ≤ R.frames ∧ 8 + (mL' + 11) + R'.locals ≤ R.locals) (hcs : k + R'.cells ≤ R.cells ∧ n + R'.slots ≤ R.slots) (hAs : As.length = na) (hst : (st.map fun v => v.category).sum ≤ 8) (hlen : (lg_sl (.ref a :: As)).length ≤ mL') (d : decode cc pc = .ok (.invokevirtual index, 3))
    (hJ : J E w X' cc' mL' ret' C R' 0 0 0 (j_ent (.ref a :: As) mL') [] σ (fun v σ' => J E w X cc mL ret own R (k + R'.cells) (n + R'.slots) (pc + 3) L (v.toList ++ st) σ' Q)) : J E w X cc mL ret own R k n pc L (As.reverse ++ .ref a :: st) σ Q := by
  intro p e s m args below meth c A H locs ls C0 hXs hA hk hn hP hD hS hL
  have hrecv : ∃ cell : Cell, H[a]? = some cell ∧ cell.vm.isStatics = false ∧ s.vm.findClass C = some cell.cls := by
    obtain ⟨r', h1, cell, g1, g2, g3, -⟩ := hP r _ _ hr
    exact ⟨cell, g1, by rw [g3]; rfl, by rw [g2]; exact (C0.2.2.2.2.2.2.2.1 ci _ hc).2.1⟩
  refine j_back (σ2 := σ) (va_runV (As := As) (rest := st) ⟨C0.1, C0.2.1, C0.2.2.2.2.1, C0.2.2.2.2.2.1, C0.2.2.2.2.2.2.1⟩ (j_met (sz := H.size) hp hd.1 hlen hX.2.2 hJ) (cwV na C0.2.2.2.2.2.2.1 (lw_V q1 q2 q3 q4 q5) rfl rfl rfl hd hR) ⟨j_blind (hX.2.1 ▸ hX.1), hrecv, fun U hU hW => j_start (hX.2.1 ▸ hX.1) (hX.2.1 ▸ hXs.1) hA C0.2.2.2.2.2.2.2 hP hD hS hU hW⟩ rfl hAs hL.1 rfl (lv_room hst) d hcs) hA hD hS ?_
  intro v σ1 H1 locs1 hq hP1 hD1 hz hkp hS1
  exact hq p e s m args below meth c A H1 locs1 ls C0 hXs hA hcs.1 hcs.2 hP1 ⟨hD1.1, fun r a e h => j_freeA hA hD hS _ (hD1.2 r a e h)⟩ hS1 hL
theorem J_callS {X' : jX} {y : MethodName} {cc' : ByteArray} {mL' : Nat} {ret' : Option FieldType} {R' : Room} {index : Nat} (As : List Value) (na : Nat) (q1 : Cond.methodLink own index y ∈ lw_all) (q2 : Cond.static y ∈ lw_all) (q4 : Cond.initialized y.cls ∈ lw_all) (q5 : Cond.code y cc' mL' ret' ∈ lw_all)
    (hd : y.cls ≠ "java/lang/invoke/MethodHandle" ∧ y.cls ≠ "java/lang/invoke/VarHandle" ∧ (parseMethodDescriptor y.desc).map (fun d => d.parameters.length) = some na) (hp : plainName y.cls = true) (hX : j_X X X' y) (hR : R'.frames + 1 ≤ R.frames ∧ 8 + (mL' + 11) + R'.locals ≤ R.locals) (hcs : k + R'.cells ≤ R.cells ∧ n + R'.slots ≤ R.slots) (hAs : As.length = na) (hst : (st.map fun v => v.category).sum ≤ 8) (hlen : (lg_sl As).length ≤ mL') (d : decode cc pc = .ok (.invokestatic index, 3))
    (hJ : J E w X' cc' mL' ret' y.cls R' 0 0 0 (j_ent As mL') [] σ (fun v σ' => J E w X cc mL ret own R (k + R'.cells) (n + R'.slots) (pc + 3) L (v.toList ++ st) σ' Q)) : J E w X cc mL ret own R k n pc L (As.reverse ++ st) σ Q := by
  intro p e s m args below meth c A H locs ls C0 hXs hA hk hn hP hD hS hL
  refine j_back (σ2 := σ) (va_runS (As := As) (rest := st) ⟨C0.1, C0.2.1, C0.2.2.2.2.1, C0.2.2.2.2.2.1, C0.2.2.2.2.2.2.1⟩ (j_met (sz := H.size) hp rfl hlen hX.2.2 hJ) (va_cwS na C0.2.2.2.2.2.2.1 (lw_S q1 q2 q4 q5) rfl rfl rfl hd hR) ⟨j_blind (hX.2.1 ▸ hX.1), fun U hU hW => j_start (hX.2.1 ▸ hX.1) (hX.2.1 ▸ hXs.1) hA C0.2.2.2.2.2.2.2 hP hD hS hU hW⟩ rfl hAs hL.1 rfl (lv_room hst) d hcs) hA hD hS ?_
  intro v σ1 H1 locs1 hq hP1 hD1 hz hkp hS1
  exact hq p e s m args below meth c A H1 locs1 ls C0 hXs hA hcs.1 hcs.2 hP1 ⟨hD1.1, fun r a e h => j_freeA hA hD hS _ (hD1.2 r a e h)⟩ hS1 hL
theorem J_callI {X' : jX} {y : MethodName} {cc' : ByteArray} {mL' : Nat} {R' : Room} {index a : Nat} (As : List Value) (na : Nat) (q1 : Cond.methodLink own index y ∈ lw_all) (q2 : Cond.instanceMethod y ∈ lw_all) (q4 : Cond.initialized y.cls ∈ lw_all) (q5 : Cond.code y cc' mL' none ∈ lw_all) (hy1 : y.name = "<init>")
    (hd : y.cls ≠ "java/lang/invoke/MethodHandle" ∧ y.cls ≠ "java/lang/invoke/VarHandle" ∧ (parseMethodDescriptor y.desc).map (fun d => d.parameters.length) = some na) (hp : plainName y.cls = true) (hX : j_X X X' y) (hR : R'.frames + 1 ≤ R.frames ∧ 8 + (mL' + 11) + R'.locals ≤ R.locals) (hcs : k + R'.cells ≤ R.cells ∧ n + R'.slots ≤ R.slots) (hAs : As.length = na) (hst : (st.map fun v => v.category).sum ≤ 8) (hlen : (lg_sl (.ref a :: As)).length ≤ mL') (d : decode cc pc = .ok (.invokespecial index, 3))
    (hJ : J E w X' cc' mL' none y.cls R' 0 0 0 (j_ent (.ref a :: As) mL') [] σ (fun v σ' => J E w X cc mL ret own R (k + R'.cells) (n + R'.slots) (pc + 3) L (v.toList ++ st) σ' Q)) : J E w X cc mL ret own R k n pc L (As.reverse ++ .ref a :: st) σ Q := by
  intro p e s m args below meth c A H locs ls C0 hXs hA hk hn hP hD hS hL
  refine j_back (σ2 := σ) (va_runI (As := As) (rest := st) ⟨C0.1, C0.2.1, C0.2.2.2.2.1, C0.2.2.2.2.2.1, C0.2.2.2.2.2.2.1⟩ (j_met (sz := H.size) hp rfl hlen hX.2.2 hJ) (cwI na C0.2.2.2.2.2.2.1 (lw_meth q5) rfl rfl rfl (C0.2.2.2.2.2.2.1 _ q4) (C0.2.2.2.2.2.2.1 _ q1) (C0.2.2.2.2.2.2.1 _ q2) hy1 hd hR) ⟨j_blind (hX.2.1 ▸ hX.1), fun U hU hW => j_start (hX.2.1 ▸ hX.1) (hX.2.1 ▸ hXs.1) hA C0.2.2.2.2.2.2.2 hP hD hS hU hW⟩ rfl hAs hL.1 rfl (lv_room hst) d hcs) hA hD hS ?_
  intro v σ1 H1 locs1 hq hP1 hD1 hz hkp hS1
  exact hq p e s m args below meth c A H1 locs1 ls C0 hXs hA hcs.1 hcs.2 hP1 ⟨hD1.1, fun r a e h => j_freeA hA hD hS _ (hD1.2 r a e h)⟩ hS1 hL
end JR
/-- whole numbers as ints -/
def zI (z : Int) : Int32 := Int32.ofInt z
def zR (z : Int) : Prop := -2147483648 ≤ z ∧ z < 2147483648
theorem zI_add (a b : Int) : zI a + zI b = zI (a + b) := (Int32.ofInt_add a b).symm
theorem zI_sub (a b : Int) : zI a - zI b = zI (a - b) := (Int32.ofInt_sub a b).symm
theorem zI_mul (a b : Int) : zI a * zI b = zI (a * b) := (Int32.ofInt_mul a b).symm
theorem zI_neg (a : Int) : - zI a = zI (-a) := (Int32.ofInt_neg a).symm
theorem zI_toInt {a : Int} (h : zR a) : (zI a).toInt = a := Int32.toInt_ofInt_of_le h.1 h.2
theorem zI_of (x : Int32) : ∃ z : Int, zR z ∧ x = zI z := ⟨x.toInt, ⟨Int32.le_toInt x, Int32.toInt_lt x⟩, (Int32.ofInt_toInt x).symm⟩
theorem zI_inj {a b : Int} (ha : zR a) (hb : zR b) (h : zI a = zI b) : a = b := by
  have := congrArg Int32.toInt h
  rwa [zI_toInt ha, zI_toInt hb] at this
theorem zI_lt {a b : Int} (ha : zR a) (hb : zR b) : zI a < zI b ↔ a < b := by
  rw [Int32.lt_iff_toInt_lt, zI_toInt ha, zI_toInt hb]
theorem zI_le {a b : Int} (ha : zR a) (hb : zR b) : zI a ≤ zI b ↔ a ≤ b := by
  rw [Int32.le_iff_toInt_le, zI_toInt ha, zI_toInt hb]
theorem zI_0 : (0 : Int32) = zI 0 := rfl
theorem zR_0 : zR 0 := by unfold zR; omega
theorem zI_nI (n : Nat) : zI (n : Int) = nI n := Int32.ofInt_eq_ofNat
theorem zI_in {z : Int} {m N : Nat} (h : z = m) (hm : m < N) (hN : N ≤ 1000000) : vp_in (zI z) N ∧ (zI z).toNatClampNeg = m := by
  subst h
  rw [zI_nI]
  exact ⟨vp_in_nI hm (by omega), nI_clamp (by omega)⟩
theorem zI_div {a b : Int} (ha : zR a) (hb : zR b) (h0 : 0 ≤ a) (h1 : 0 < b) : zI a / zI b = zI (a / b) := by
  obtain ⟨n, rfl⟩ := Int.eq_ofNat_of_zero_le h0
  obtain ⟨m, rfl⟩ := Int.eq_ofNat_of_zero_le (Int.le_of_lt h1)
  unfold zR at ha hb
  rw [← Int.natCast_ediv, zI_nI, zI_nI, zI_nI, pk_div (by omega) (by omega) (by omega)]
theorem zI_rem {a b : Int} (ha : zR a) (hb : zR b) (h0 : 0 ≤ a) (h1 : 0 < b) : zI a - zI a / zI b * zI b = zI (a % b) := by
  obtain ⟨n, rfl⟩ := Int.eq_ofNat_of_zero_le h0
  obtain ⟨m, rfl⟩ := Int.eq_ofNat_of_zero_le (Int.le_of_lt h1)
  unfold zR at ha hb
  rw [← Int.natCast_emod, zI_nI, zI_nI, zI_nI, pk_rem (by omega) (by omega) (by omega)]
theorem zI_ne0 {b : Int} (hb : zR b) (h1 : b ≠ 0) : ¬ zI b = 0 := fun h => h1 (zI_inj hb zR_0 h)
section JZ
variable {E : jEnv} {St : Type} {w : St → jW} {X : jX} {cc : ByteArray} {mL : Nat} {ret : Option FieldType} {own : String} {R : Room} {k n pc : Nat} {L : List (Option Value)} {st : List Value} {σ : St} {Q : Option Value → St → Prop}
theorem J_iadd_z {a b : Int} (d : decode cc pc = .ok (.iadd, 1)) (kk : J E w X cc mL ret own R k n (pc + 1) L (.int (zI (a + b)) :: st) σ Q) : J E w X cc mL ret own R k n pc L (.int (zI b) :: .int (zI a) :: st) σ Q := J_iadd d (by rw [zI_add]; exact kk)
theorem J_isub_z {a b : Int} (d : decode cc pc = .ok (.isub, 1)) (kk : J E w X cc mL ret own R k n (pc + 1) L (.int (zI (a - b)) :: st) σ Q) : J E w X cc mL ret own R k n pc L (.int (zI b) :: .int (zI a) :: st) σ Q := J_isub d (by rw [zI_sub]; exact kk)
theorem J_imul_z {a b : Int} (d : decode cc pc = .ok (.imul, 1)) (kk : J E w X cc mL ret own R k n (pc + 1) L (.int (zI (a * b)) :: st) σ Q) : J E w X cc mL ret own R k n pc L (.int (zI b) :: .int (zI a) :: st) σ Q := J_imul d (by rw [zI_mul]; exact kk)
theorem J_ineg_z {a : Int} (d : decode cc pc = .ok (.ineg, 1)) (kk : J E w X cc mL ret own R k n (pc + 1) L (.int (zI (-a)) :: st) σ Q) : J E w X cc mL ret own R k n pc L (.int (zI a) :: st) σ Q := J_ineg d (by rw [zI_neg]; exact kk)
theorem J_idiv_z {a b : Int} (d : decode cc pc = .ok (.idiv, 1)) (ra : zR a) (rb : zR b) (h0 : 0 ≤ a) (h1 : 0 < b) (kk : J E w X cc mL ret own R k n (pc + 1) L (.int (zI (a / b)) :: st) σ Q) : J E w X cc mL ret own R k n pc L (.int (zI b) :: .int (zI a) :: st) σ Q := J_idiv d (zI_ne0 rb (by omega)) (by rw [zI_div ra rb h0 h1]; exact kk)
theorem J_irem_z {a b : Int} (d : decode cc pc = .ok (.irem, 1)) (ra : zR a) (rb : zR b) (h0 : 0 ≤ a) (h1 : 0 < b) (kk : J E w X cc mL ret own R k n (pc + 1) L (.int (zI (a % b)) :: st) σ Q) : J E w X cc mL ret own R k n pc L (.int (zI b) :: .int (zI a) :: st) σ Q := J_irem d (zI_ne0 rb (by omega)) (by rw [zI_rem ra rb h0 h1]; exact kk)
theorem J_iinc_z {i : Nat} {z : Int} {a : Int} (b : Int) (hb : a + z = b) (d : decode cc pc = .ok (.iinc i z, 3)) (hl : L[i]? = some (some (.int (zI a)))) (ho : j_ok1 L i = true) (hi : i < mL) (L' : List (Option Value)) (hL' : L.set i (some (.int (zI b))) = L') (kk : J E w X cc mL ret own R k n (pc + 3) L' st σ Q) : J E w X cc mL ret own R k n pc L st σ Q := J_iinc (zI b) d hl (by rw [← hb]; exact zI_add a z) ho hi L' hL' kk
theorem J_icmp_eq_z {a b : Int} {off : Int} {tgt : Nat} (d : decode cc pc = .ok (.if_icmp .eq off, 3)) (ht : (pc : Int) + off = (tgt : Int)) (ra : zR a) (rb : zR b) (kt : a = b → J E w X cc mL ret own R k n tgt L st σ Q) (kf : a ≠ b → J E w X cc mL ret own R k n (pc + 3) L st σ Q) : J E w X cc mL ret own R k n pc L (.int (zI b) :: .int (zI a) :: st) σ Q := J_icmp_eq d ht (fun h => kt (zI_inj ra rb h)) (fun h => kf (fun z => h (by rw [z])))
theorem J_if_eq_z {a : Int} {off : Int} {tgt : Nat} (d : decode cc pc = .ok (.ifCond .eq off, 3)) (ht : (pc : Int) + off = (tgt : Int)) (ra : zR a) (kt : a = 0 → J E w X cc mL ret own R k n tgt L st σ Q) (kf : a ≠ 0 → J E w X cc mL ret own R k n (pc + 3) L st σ Q) : J E w X cc mL ret own R k n pc L (.int (zI a) :: st) σ Q := J_if_eq d ht (fun h => kt (zI_inj ra zR_0 h)) (fun h => kf (fun z => h (by rw [z]; rfl)))
theorem J_icmp_ne_z {a b : Int} {off : Int} {tgt : Nat} (d : decode cc pc = .ok (.if_icmp .ne off, 3)) (ht : (pc : Int) + off = (tgt : Int)) (ra : zR a) (rb : zR b) (kt : a ≠ b → J E w X cc mL ret own R k n tgt L st σ Q) (kf : a = b → J E w X cc mL ret own R k n (pc + 3) L st σ Q) : J E w X cc mL ret own R k n pc L (.int (zI b) :: .int (zI a) :: st) σ Q := J_icmp_ne d ht (fun h => kt (fun z => h (by rw [z]))) (fun h => kf (zI_inj ra rb h))
theorem J_if_ne_z {a : Int} {off : Int} {tgt : Nat} (d : decode cc pc = .ok (.ifCond .ne off, 3)) (ht : (pc : Int) + off = (tgt : Int)) (ra : zR a) (kt : a ≠ 0 → J E w X cc mL ret own R k n tgt L st σ Q) (kf : a = 0 → J E w X cc mL ret own R k n (pc + 3) L st σ Q) : J E w X cc mL ret own R k n pc L (.int (zI a) :: st) σ Q := J_if_ne d ht (fun h => kt (fun z => h (by rw [z]; rfl))) (fun h => kf (zI_inj ra zR_0 h))
theorem J_icmp_lt_z {a b : Int} {off : Int} {tgt : Nat} (d : decode cc pc = .ok (.if_icmp .lt off, 3)) (ht : (pc : Int) + off = (tgt : Int)) (ra : zR a) (rb : zR b) (kt : a < b → J E w X cc mL ret own R k n tgt L st σ Q) (kf : b ≤ a → J E w X cc mL ret own R k n (pc + 3) L st σ Q) : J E w X cc mL ret own R k n pc L (.int (zI b) :: .int (zI a) :: st) σ Q := J_icmp_lt d ht (fun h => kt ((zI_lt ra rb).mp h)) (fun h => kf (by have := mt (zI_lt ra rb).mpr h; omega))
theorem J_if_lt_z {a : Int} {off : Int} {tgt : Nat} (d : decode cc pc = .ok (.ifCond .lt off, 3)) (ht : (pc : Int) + off = (tgt : Int)) (ra : zR a) (kt : a < 0 → J E w X cc mL ret own R k n tgt L st σ Q) (kf : 0 ≤ a → J E w X cc mL ret own R k n (pc + 3) L st σ Q) : J E w X cc mL ret own R k n pc L (.int (zI a) :: st) σ Q := J_if_lt d ht (fun h => kt ((zI_lt ra zR_0).mp h)) (fun h => kf (by have := mt (zI_lt ra zR_0).mpr h; omega))
theorem J_icmp_ge_z {a b : Int} {off : Int} {tgt : Nat} (d : decode cc pc = .ok (.if_icmp .ge off, 3)) (ht : (pc : Int) + off = (tgt : Int)) (ra : zR a) (rb : zR b) (kt : b ≤ a → J E w X cc mL ret own R k n tgt L st σ Q) (kf : a < b → J E w X cc mL ret own R k n (pc + 3) L st σ Q) : J E w X cc mL ret own R k n pc L (.int (zI b) :: .int (zI a) :: st) σ Q := J_icmp_ge d ht (fun h => kt ((zI_le rb ra).mp h)) (fun h => kf (by have := mt (zI_le rb ra).mpr h; omega))
theorem J_if_ge_z {a : Int} {off : Int} {tgt : Nat} (d : decode cc pc = .ok (.ifCond .ge off, 3)) (ht : (pc : Int) + off = (tgt : Int)) (ra : zR a) (kt : 0 ≤ a → J E w X cc mL ret own R k n tgt L st σ Q) (kf : a < 0 → J E w X cc mL ret own R k n (pc + 3) L st σ Q) : J E w X cc mL ret own R k n pc L (.int (zI a) :: st) σ Q := J_if_ge d ht (fun h => kt ((zI_le zR_0 ra).mp h)) (fun h => kf (by have := mt (zI_le zR_0 ra).mpr h; omega))
theorem J_icmp_gt_z {a b : Int} {off : Int} {tgt : Nat} (d : decode cc pc = .ok (.if_icmp .gt off, 3)) (ht : (pc : Int) + off = (tgt : Int)) (ra : zR a) (rb : zR b) (kt : b < a → J E w X cc mL ret own R k n tgt L st σ Q) (kf : a ≤ b → J E w X cc mL ret own R k n (pc + 3) L st σ Q) : J E w X cc mL ret own R k n pc L (.int (zI b) :: .int (zI a) :: st) σ Q := J_icmp_gt d ht (fun h => kt ((zI_lt rb ra).mp h)) (fun h => kf (by have := mt (zI_lt rb ra).mpr h; omega))
theorem J_if_gt_z {a : Int} {off : Int} {tgt : Nat} (d : decode cc pc = .ok (.ifCond .gt off, 3)) (ht : (pc : Int) + off = (tgt : Int)) (ra : zR a) (kt : 0 < a → J E w X cc mL ret own R k n tgt L st σ Q) (kf : a ≤ 0 → J E w X cc mL ret own R k n (pc + 3) L st σ Q) : J E w X cc mL ret own R k n pc L (.int (zI a) :: st) σ Q := J_if_gt d ht (fun h => kt ((zI_lt zR_0 ra).mp h)) (fun h => kf (by have := mt (zI_lt zR_0 ra).mpr h; omega))
theorem J_icmp_le_z {a b : Int} {off : Int} {tgt : Nat} (d : decode cc pc = .ok (.if_icmp .le off, 3)) (ht : (pc : Int) + off = (tgt : Int)) (ra : zR a) (rb : zR b) (kt : a ≤ b → J E w X cc mL ret own R k n tgt L st σ Q) (kf : b < a → J E w X cc mL ret own R k n (pc + 3) L st σ Q) : J E w X cc mL ret own R k n pc L (.int (zI b) :: .int (zI a) :: st) σ Q := J_icmp_le d ht (fun h => kt ((zI_le ra rb).mp h)) (fun h => kf (by have := mt (zI_le ra rb).mpr h; omega))
theorem J_if_le_z {a : Int} {off : Int} {tgt : Nat} (d : decode cc pc = .ok (.ifCond .le off, 3)) (ht : (pc : Int) + off = (tgt : Int)) (ra : zR a) (kt : a ≤ 0 → J E w X cc mL ret own R k n tgt L st σ Q) (kf : 0 < a → J E w X cc mL ret own R k n (pc + 3) L st σ Q) : J E w X cc mL ret own R k n pc L (.int (zI a) :: st) σ Q := J_if_le d ht (fun h => kt ((zI_le ra zR_0).mp h)) (fun h => kf (by have := mt (zI_le ra zR_0).mpr h; omega))
theorem J_ri {r : Int32} (kk : J E w X cc mL ret own R k n pc L (.int r :: st) σ Q) : J E w X cc mL ret own R k n pc L ((some (Value.int r)).toList ++ st) σ Q := kk
theorem J_rl {r : Int64} (kk : J E w X cc mL ret own R k n pc L (.long r :: st) σ Q) : J E w X cc mL ret own R k n pc L ((some (Value.long r)).toList ++ st) σ Q := kk
theorem J_ra {r : Nat} (kk : J E w X cc mL ret own R k n pc L (.ref r :: st) σ Q) : J E w X cc mL ret own R k n pc L ((some (Value.ref r)).toList ++ st) σ Q := kk
theorem J_rv (kk : J E w X cc mL ret own R k n pc L st σ Q) : J E w X cc mL ret own R k n pc L ((none : Option Value).toList ++ st) σ Q := kk
end JZ
def j_le : List (Option Value) → List (Option Value) → Prop
  | [], [] => True
  | none :: a, _ :: b => j_le a b
  | some v :: a, o :: b => o = some v ∧ j_le a b
  | _, _ => False
theorem j_le_spec : ∀ (L' L : List (Option Value)), j_le L' L → L'.length = L.length ∧ ∀ (i : Nat) (v : Value), L'[i]? = some (some v) → L[i]? = some (some v)
  | [], [], _ => ⟨rfl, fun i v h => by simp at h⟩
  | none :: a, o :: b, h => by
    obtain ⟨h1, h2⟩ := j_le_spec a b h
    refine ⟨by simp [h1], fun i v hv => ?_⟩
    cases i with
    | zero => simp at hv
    | succ i => simpa using h2 i v (by simpa using hv)
  | some u :: a, o :: b, h => by
    obtain ⟨h0, h⟩ := h
    obtain ⟨h1, h2⟩ := j_le_spec a b h
    refine ⟨by simp [h1], fun i v hv => ?_⟩
    cases i with
    | zero => simpa [h0] using hv
    | succ i => simpa using h2 i v (by simpa using hv)
  | [], _ :: _, h => h.elim
  | none :: _, [], h => h.elim
  | some _ :: _, [], h => h.elim
theorem J_fg {E : jEnv} {St : Type} {w : St → jW} {X : jX} {cc : ByteArray} {mL : Nat} {ret : Option FieldType} {own : String} {R : Room} {k n pc : Nat} {L L' : List (Option Value)} {st : List Value} {σ : St} {Q : Option Value → St → Prop} (h : j_le L' L) (kk : J E w X cc mL ret own R k n pc L' st σ Q) : J E w X cc mL ret own R k n pc L st σ Q := J_loc (j_le_spec L' L h).1 (j_le_spec L' L h).2 kk
