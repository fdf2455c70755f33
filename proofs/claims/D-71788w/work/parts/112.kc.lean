/-! JE: a callee's contract; the frame rule; calls -/
set_option maxRecDepth 100000
def j_mix (iv : Nat → Option Nat) (w0 w2 : jW) : jW := fun r => match iv r with
  | some r2 => w2 r2
  | none => w0 r
def JE (E : jEnv) {St : Type} (w : St → jW) (X1 : (Nat → Prop) → State → Prop) (y : MethodName) (ws : List Cond) (R : Room) (vs : List Value) (σ : St) (Q : Option Value → St → Prop) : Prop := ∀ sz, Met E.1 y ws R (j_Pc E w X1 vs σ sz) (j_Q E w Q (j_A (w σ) sz)) R.cells R.slots (j_A (w σ) sz)
theorem JE.of {E : jEnv} {St : Type} {w : St → jW} {X' : jX} {y : MethodName} {cc : ByteArray} {mL : Nat} {ret : Option FieldType} {R : Room} {vs : List Value} {σ : St} {Q : Option Value → St → Prop} (hp : plainName y.cls = true) (hlen : (lg_sl vs).length ≤ mL) (hnm : ∀ z, X'.2 = some z → z = y) (hJ : J E w X' cc mL ret y.cls R 0 0 0 (j_ent vs mL) [] σ Q) : JE E w X'.1 y (ws_ y cc mL ret) R vs σ Q := fun _ => j_met hp rfl hlen hnm hJ
theorem JE.frame {E : jEnv} {St St2 : Type} {w : St → jW} {w2 : St2 → jW} {X1 : (Nat → Prop) → State → Prop} {y : MethodName} {ws : List Cond} {R : Room} {vs : List Value} {σ : St} {σ2 : St2} {Q : Option Value → St → Prop} (iv : Nat → Option Nat) (mix : St2 → St) (hX : j_X1 X1) (h1 : w σ = j_mix iv (w σ) (w2 σ2)) (h2 : ∀ σ2', w (mix σ2') = j_mix iv (w σ) (w2 σ2')) (hi : ∀ r r' q, iv r = some q → iv r' = some q → r = r') (hs : ∀ r2 x, w2 σ2 r2 = some x → ∃ r, iv r = some r2) (h : JE E w2 X1 y ws R vs σ2 (fun v σ2' => Q v (mix σ2'))) : JE E w X1 y ws R vs σ Q := by
  intro sz
  have hin : ∀ r2 x, w2 σ2 r2 = some x → ∃ r, w σ r = some x := by
    intro r2 x hx
    obtain ⟨r, hr⟩ := hs r2 x hx
    exact ⟨r, by rw [h1]; simp only [j_mix, hr]; exact hx⟩
  have hA : ∀ q, j_A (w2 σ2) sz q → j_A (w σ) sz q := by
    intro q hq
    rcases hq with ⟨r, e, hr⟩ | hq
    · obtain ⟨r', hr'⟩ := hin r _ hr
      exact Or.inl ⟨r', e, hr'⟩
    · exact Or.inr hq
  refine MetFree.mono (h sz) ?_ (fun _ _ _ _ _ _ => trivial) ?_
  · intro a s hp
    obtain ⟨p1, p2, p3, p4, p5, p6⟩ := hp
    refine ⟨p1, p2, ?_, p4, fun r a e hr => ?_, fun r r' a e e' hr hr' => ?_, fun r a e hr => Or.inl ⟨r, e, hr⟩⟩
    · exact hX.2 _ _ s s p3 (State.WarmedH.refl s) (Nat.le_refl _) (fun _ _ _ => rfl) (fun q _ hq => hA q hq)
    · obtain ⟨r', hr'⟩ := hin r _ hr
      exact p5 r' a e hr'
    · obtain ⟨q, hq⟩ := hs r _ hr
      obtain ⟨q', hq'⟩ := hs r' _ hr'
      have e1 : w σ q = some (a, e) := by rw [h1]; simp only [j_mix, hq]; exact hr
      have e2 : w σ q' = some (a, e') := by rw [h1]; simp only [j_mix, hq']; exact hr'
      have := p6.1 q q' a e e' e1 e2
      subst this
      exact Option.some.inj (hq.symm.trans hq')
  · intro a s o t hp hq
    obtain ⟨p1, p2, p3, p4, p5, p6⟩ := hp
    obtain ⟨⟨⟨v, σ1, rfl, hQ, g1, g2⟩, hF⟩, L, hL1, hL2⟩ := hq
    have keep : ∀ r x, iv r = none → w σ r = some x → ¬ j_A (w2 σ2) sz x.1 ∧ x.1 < s.heap.size := by
      intro r x hn hx
      have hlt := (p5 r x.1 x.2 hx).lt
      refine ⟨?_, hlt⟩
      rintro (⟨r2, e2, hr2⟩ | hge)
      · obtain ⟨q, hq⟩ := hs r2 _ hr2
        have e1 : w σ q = some (x.1, e2) := by rw [h1]; simp only [j_mix, hq]; exact hr2
        have := p6.1 r q x.1 x.2 e2 hx e1
        subst this
        rw [hn] at hq
        cases hq
      · omega
    refine ⟨⟨⟨v, mix σ1, rfl, hQ, ?_, ?_, ?_⟩, hF.1, fun q hq hn => hF.2 q hq (fun z => hn (hA q z))⟩, L, hL1, fun q hq => hA _ (hL2 q hq)⟩
    · intro r a e hr
      rw [h2] at hr
      cases hv : iv r with
      | some r2 =>
        simp only [j_mix, hv] at hr
        exact g1 r2 a e hr
      | none =>
        simp only [j_mix, hv] at hr
        obtain ⟨k1, k2⟩ := keep r _ hv hr
        have h3 := hF.2 a k2 k1
        have h4 := p5 r a e hr
        cases e with
        | inl x => exact h3.trans h4
        | inr o =>
          obtain ⟨r2, h5, h6⟩ := h4
          exact ⟨r2, h5, h6.kept h3⟩
    · intro r r' a e e' hr hr'
      rw [h2] at hr hr'
      cases hv : iv r with
      | some r2 =>
        simp only [j_mix, hv] at hr
        cases hv' : iv r' with
        | some r2' =>
          simp only [j_mix, hv'] at hr'
          have := g2.1 r2 r2' a e e' hr hr'
          subst this
          exact hi r r' r2 hv hv'
        | none =>
          simp only [j_mix, hv'] at hr'
          exact absurd (g2.2 r2 a e hr) (keep r' _ hv' hr').1
      | none =>
        simp only [j_mix, hv] at hr
        cases hv' : iv r' with
        | some r2' =>
          simp only [j_mix, hv'] at hr'
          exact absurd (g2.2 r2' a e' hr') (keep r _ hv hr).1
        | none =>
          simp only [j_mix, hv'] at hr'
          exact p6.1 r r' a e e' hr hr'
    · intro r a e hr
      rw [h2] at hr
      cases hv : iv r with
      | some r2 =>
        simp only [j_mix, hv] at hr
        exact hA _ (g2.2 r2 a e hr)
      | none =>
        simp only [j_mix, hv] at hr
        exact Or.inl ⟨r, e, hr⟩
section JC
variable {E : jEnv} {St : Type} {w : St → jW} {X : jX} {cc : ByteArray} {mL : Nat} {ret : Option FieldType} {own : String} {R : Room} {k n pc : Nat} {L : List (Option Value)} {st : List Value} {σ : St} {Q : Option Value → St → Prop}
theorem J_eV {y : MethodName} {cc' : ByteArray} {mL' : Nat} {ret' : Option FieldType} {R' : Room} {C : String} {T : u_T} {N index ci a : Nat} {V : Nat → Value} (As : List Value) (na r : Nat) (hr : w σ r = some (a, .inr (ci, V))) (hc : CL[ci]? = some (C, T, N)) (q1 : Cond.methodLink own index y ∈ lw_all) (q2 : Cond.instanceMethod y ∈ lw_all) (q3 : Cond.selects C y y ∈ lw_all) (q4 : Cond.initialized C ∈ lw_all) (q5 : Cond.code y cc' mL' ret' ∈ lw_all) (hd : y.cls = C ∧ y.cls ≠ "java/lang/invoke/MethodHandle" ∧ y.cls ≠ "java/lang/invoke/VarHandle" ∧ (parseMethodDescriptor y.desc).map (fun d => d.parameters.length) = some na) (hX : j_X1 X.1) (hR : R'.frames + 1 ≤ R.frames ∧ 8 + (mL' + 11) + R'.locals ≤ R.locals) (hcs : k + R'.cells ≤ R.cells ∧ n + R'.slots ≤ R.slots) (hAs : As.length = na) (hst : (st.map fun v => v.category).sum ≤ 8) (d : decode cc pc = .ok (.invokevirtual index, 3)) (hJ : JE E w X.1 y (ws_ y cc' mL' ret') R' (.ref a :: As) σ (fun v σ' => J E w X cc mL ret own R (k + R'.cells) (n + R'.slots) (pc + 3) L (v.toList ++ st) σ' Q)) : J E w X cc mL ret own R k n pc L (As.reverse ++ .ref a :: st) σ Q := by
  intro p e s m args below meth c A H locs ls C0 hXs hA hk hn hP hD hS hL
  have hrecv : ∃ cell : Cell, H[a]? = some cell ∧ cell.vm.isStatics = false ∧ s.vm.findClass C = some cell.cls := by
    obtain ⟨r', h1, cell, g1, g2, g3, -⟩ := hP r _ _ hr
    exact ⟨cell, g1, by rw [g3]; rfl, by rw [g2]; exact (C0.2.2.2.2.2.2.2.1 ci _ hc).2.1⟩
  refine j_back (σ2 := σ) (va_runV (As := As) (rest := st) ⟨C0.1, C0.2.1, C0.2.2.2.2.1, C0.2.2.2.2.2.1, C0.2.2.2.2.2.2.1⟩ (hJ H.size) (cwV na C0.2.2.2.2.2.2.1 (lw_V q1 q2 q3 q4 q5) rfl rfl rfl hd hR) ⟨j_blind hX, hrecv, fun U hU hW => j_start hX hXs.1 hA C0.2.2.2.2.2.2.2 hP hD hS hU hW⟩ rfl hAs hL.1 rfl (lv_room hst) d hcs) hA hD hS ?_
  intro v σ1 H1 locs1 hq hP1 hD1 hz hkp hS1
  exact hq p e s m args below meth c A H1 locs1 ls C0 hXs hA hcs.1 hcs.2 hP1 ⟨hD1.1, fun r a e h => j_freeA hA hD hS _ (hD1.2 r a e h)⟩ hS1 hL
theorem J_eS {y : MethodName} {cc' : ByteArray} {mL' : Nat} {ret' : Option FieldType} {R' : Room} {index : Nat} (As : List Value) (na : Nat) (q1 : Cond.methodLink own index y ∈ lw_all) (q2 : Cond.static y ∈ lw_all) (q4 : Cond.initialized y.cls ∈ lw_all) (q5 : Cond.code y cc' mL' ret' ∈ lw_all) (hd : y.cls ≠ "java/lang/invoke/MethodHandle" ∧ y.cls ≠ "java/lang/invoke/VarHandle" ∧ (parseMethodDescriptor y.desc).map (fun d => d.parameters.length) = some na) (hX : j_X1 X.1) (hR : R'.frames + 1 ≤ R.frames ∧ 8 + (mL' + 11) + R'.locals ≤ R.locals) (hcs : k + R'.cells ≤ R.cells ∧ n + R'.slots ≤ R.slots) (hAs : As.length = na) (hst : (st.map fun v => v.category).sum ≤ 8) (d : decode cc pc = .ok (.invokestatic index, 3)) (hJ : JE E w X.1 y (ws_ y cc' mL' ret') R' As σ (fun v σ' => J E w X cc mL ret own R (k + R'.cells) (n + R'.slots) (pc + 3) L (v.toList ++ st) σ' Q)) : J E w X cc mL ret own R k n pc L (As.reverse ++ st) σ Q := by
  intro p e s m args below meth c A H locs ls C0 hXs hA hk hn hP hD hS hL
  refine j_back (σ2 := σ) (va_runS (As := As) (rest := st) ⟨C0.1, C0.2.1, C0.2.2.2.2.1, C0.2.2.2.2.2.1, C0.2.2.2.2.2.2.1⟩ (hJ H.size) (va_cwS na C0.2.2.2.2.2.2.1 (lw_S q1 q2 q4 q5) rfl rfl rfl hd hR) ⟨j_blind hX, fun U hU hW => j_start hX hXs.1 hA C0.2.2.2.2.2.2.2 hP hD hS hU hW⟩ rfl hAs hL.1 rfl (lv_room hst) d hcs) hA hD hS ?_
  intro v σ1 H1 locs1 hq hP1 hD1 hz hkp hS1
  exact hq p e s m args below meth c A H1 locs1 ls C0 hXs hA hcs.1 hcs.2 hP1 ⟨hD1.1, fun r a e h => j_freeA hA hD hS _ (hD1.2 r a e h)⟩ hS1 hL
theorem J_eI {y : MethodName} {cc' : ByteArray} {mL' : Nat} {R' : Room} {index a : Nat} (As : List Value) (na : Nat) (q1 : Cond.methodLink own index y ∈ lw_all) (q2 : Cond.instanceMethod y ∈ lw_all) (q4 : Cond.initialized y.cls ∈ lw_all) (q5 : Cond.code y cc' mL' none ∈ lw_all) (hy1 : y.name = "<init>") (hd : y.cls ≠ "java/lang/invoke/MethodHandle" ∧ y.cls ≠ "java/lang/invoke/VarHandle" ∧ (parseMethodDescriptor y.desc).map (fun d => d.parameters.length) = some na) (hX : j_X1 X.1) (hR : R'.frames + 1 ≤ R.frames ∧ 8 + (mL' + 11) + R'.locals ≤ R.locals) (hcs : k + R'.cells ≤ R.cells ∧ n + R'.slots ≤ R.slots) (hAs : As.length = na) (hst : (st.map fun v => v.category).sum ≤ 8) (d : decode cc pc = .ok (.invokespecial index, 3)) (hJ : JE E w X.1 y (ws_ y cc' mL' none) R' (.ref a :: As) σ (fun v σ' => J E w X cc mL ret own R (k + R'.cells) (n + R'.slots) (pc + 3) L (v.toList ++ st) σ' Q)) : J E w X cc mL ret own R k n pc L (As.reverse ++ .ref a :: st) σ Q := by
  intro p e s m args below meth c A H locs ls C0 hXs hA hk hn hP hD hS hL
  refine j_back (σ2 := σ) (va_runI (As := As) (rest := st) ⟨C0.1, C0.2.1, C0.2.2.2.2.1, C0.2.2.2.2.2.1, C0.2.2.2.2.2.2.1⟩ (hJ H.size) (cwI na C0.2.2.2.2.2.2.1 (lw_meth q5) rfl rfl rfl (C0.2.2.2.2.2.2.1 _ q4) (C0.2.2.2.2.2.2.1 _ q1) (C0.2.2.2.2.2.2.1 _ q2) hy1 hd hR) ⟨j_blind hX, fun U hU hW => j_start hX hXs.1 hA C0.2.2.2.2.2.2.2 hP hD hS hU hW⟩ rfl hAs hL.1 rfl (lv_room hst) d hcs) hA hD hS ?_
  intro v σ1 H1 locs1 hq hP1 hD1 hz hkp hS1
  exact hq p e s m args below meth c A H1 locs1 ls C0 hXs hA hcs.1 hcs.2 hP1 ⟨hD1.1, fun r a e h => j_freeA hA hD hS _ (hD1.2 r a e h)⟩ hS1 hL
theorem J_eSN {y : MethodName} {cc' : ByteArray} {mL' : Nat} {ret' : Option FieldType} {R' : Room} {index : Nat} {host : String} (As : List Value) (na : Nat) (hN : ∀ A s, X.1 A s → va_Nw (.methodLinkNest own index y host) s) (q2 : Cond.static y ∈ lw_all) (q4 : Cond.initialized y.cls ∈ lw_all) (q5 : Cond.code y cc' mL' ret' ∈ lw_all) (hd : y.cls ≠ "java/lang/invoke/MethodHandle" ∧ y.cls ≠ "java/lang/invoke/VarHandle" ∧ (parseMethodDescriptor y.desc).map (fun d => d.parameters.length) = some na) (hX : j_X1 X.1) (hR : R'.frames + 1 ≤ R.frames ∧ 8 + (mL' + 11) + R'.locals ≤ R.locals) (hcs : k + R'.cells ≤ R.cells ∧ n + R'.slots ≤ R.slots) (hAs : As.length = na) (hst : (st.map fun v => v.category).sum ≤ 8) (d : decode cc pc = .ok (.invokestatic index, 3)) (hJ : JE E w X.1 y (ws_ y cc' mL' ret') R' As σ (fun v σ' => J E w X cc mL ret own R (k + R'.cells) (n + R'.slots) (pc + 3) L (v.toList ++ st) σ' Q)) : J E w X cc mL ret own R k n pc L (As.reverse ++ st) σ Q := by
  intro p e s m args below meth c A H locs ls C0 hXs hA hk hn hP hD hS hL
  refine j_back (σ2 := σ) (va_runSN (As := As) (rest := st) ⟨C0.1, C0.2.1, C0.2.2.2.2.1, C0.2.2.2.2.2.1, C0.2.2.2.2.2.2.1⟩ (hJ H.size) ⟨va_cnB na C0.2.2.2.2.2.2.1 (lw_meth q5) rfl rfl rfl (hN A s hXs.1) (C0.2.2.2.2.2.2.1 _ q4) hd hR, C0.2.2.2.2.2.2.1 _ q2, trivial⟩ ⟨j_blind hX, fun U hU hW => j_start hX hXs.1 hA C0.2.2.2.2.2.2.2 hP hD hS hU hW⟩ rfl hAs hL.1 rfl (lv_room hst) d hcs) hA hD hS ?_
  intro v σ1 H1 locs1 hq hP1 hD1 hz hkp hS1
  exact hq p e s m args below meth c A H1 locs1 ls C0 hXs hA hcs.1 hcs.2 hP1 ⟨hD1.1, fun r a e h => j_freeA hA hD hS _ (hD1.2 r a e h)⟩ hS1 hL
theorem J_eIN {y : MethodName} {cc' : ByteArray} {mL' : Nat} {R' : Room} {index a : Nat} {host : String} (As : List Value) (na : Nat) (hN : ∀ A s, X.1 A s → va_Nw (.methodLinkNest own index y host) s) (q2 : Cond.instanceMethod y ∈ lw_all) (q4 : Cond.initialized y.cls ∈ lw_all) (q5 : Cond.code y cc' mL' none ∈ lw_all) (hy1 : y.name = "<init>") (hd : y.cls ≠ "java/lang/invoke/MethodHandle" ∧ y.cls ≠ "java/lang/invoke/VarHandle" ∧ (parseMethodDescriptor y.desc).map (fun d => d.parameters.length) = some na) (hX : j_X1 X.1) (hR : R'.frames + 1 ≤ R.frames ∧ 8 + (mL' + 11) + R'.locals ≤ R.locals) (hcs : k + R'.cells ≤ R.cells ∧ n + R'.slots ≤ R.slots) (hAs : As.length = na) (hst : (st.map fun v => v.category).sum ≤ 8) (d : decode cc pc = .ok (.invokespecial index, 3)) (hJ : JE E w X.1 y (ws_ y cc' mL' none) R' (.ref a :: As) σ (fun v σ' => J E w X cc mL ret own R (k + R'.cells) (n + R'.slots) (pc + 3) L (v.toList ++ st) σ' Q)) : J E w X cc mL ret own R k n pc L (As.reverse ++ .ref a :: st) σ Q := by
  intro p e s m args below meth c A H locs ls C0 hXs hA hk hn hP hD hS hL
  refine j_back (σ2 := σ) (va_runIN (As := As) (rest := st) ⟨C0.1, C0.2.1, C0.2.2.2.2.1, C0.2.2.2.2.2.1, C0.2.2.2.2.2.2.1⟩ (hJ H.size) ⟨va_cnB na C0.2.2.2.2.2.2.1 (lw_meth q5) rfl rfl rfl (hN A s hXs.1) (C0.2.2.2.2.2.2.1 _ q4) hd hR, hy1, C0.2.2.2.2.2.2.1 _ q2⟩ ⟨j_blind hX, fun U hU hW => j_start hX hXs.1 hA C0.2.2.2.2.2.2.2 hP hD hS hU hW⟩ rfl hAs hL.1 rfl (lv_room hst) d hcs) hA hD hS ?_
  intro v σ1 H1 locs1 hq hP1 hD1 hz hkp hS1
  exact hq p e s m args below meth c A H1 locs1 ls C0 hXs hA hcs.1 hcs.2 hP1 ⟨hD1.1, fun r a e h => j_freeA hA hD hS _ (hD1.2 r a e h)⟩ hS1 hL
theorem j_mem5 {a b c d e : Cond} (h1 : a ∈ lw_all) (h2 : b ∈ lw_all) (h3 : c ∈ lw_all) (h4 : d ∈ lw_all) (h5 : e ∈ lw_all) : ∀ w ∈ [a, b, c, d, e], w ∈ lw_all := by
  intro w hw
  simp only [List.mem_cons, List.not_mem_nil, or_false] at hw
  rcases hw with rfl | rfl | rfl | rfl | rfl <;> assumption
theorem j_mem6 {a b c d e f : Cond} (h1 : a ∈ lw_all) (h2 : b ∈ lw_all) (h3 : c ∈ lw_all) (h4 : d ∈ lw_all) (h5 : e ∈ lw_all) (h6 : f ∈ lw_all) : ∀ w ∈ [a, b, c, d, e, f], w ∈ lw_all := by
  intro w hw
  simp only [List.mem_cons, List.not_mem_nil, or_false] at hw
  rcases hw with rfl | rfl | rfl | rfl | rfl | rfl <;> assumption
theorem j_mem4 {a b c d : Cond} (h1 : a ∈ lw_all) (h2 : b ∈ lw_all) (h3 : c ∈ lw_all) (h4 : d ∈ lw_all) : ∀ w ∈ [a, b, c, d], w ∈ lw_all := by
  intro w hw
  simp only [List.mem_cons, List.not_mem_nil, or_false] at hw
  rcases hw with rfl | rfl | rfl | rfl <;> assumption
theorem J_eU {y : MethodName} {cc' : ByteArray} {mL' : Nat} {ret' : Option FieldType} {R' : Room} {C : String} {T : u_T} {N index ci a : Nat} {V : Nat → Value} {x : MethodName} {owner : String} (As : List Value) (na r : Nat) (hr : w σ r = some (a, .inr (ci, V))) (hc : CL[ci]? = some (C, T, N)) (q1 : Cond.methodLink own index x ∈ lw_all) (q2 : Cond.sameMethod x.cls owner x.name x.desc ∈ lw_all) (q3 : Cond.selects C x y ∈ lw_all) (q4 : Cond.instanceMethod y ∈ lw_all) (q5 : Cond.initialized y.cls ∈ lw_all) (q6 : Cond.code y cc' mL' ret' ∈ lw_all) (hyx : y = ⟨owner, x.name, x.desc⟩) (hd : owner ≠ "java/lang/invoke/MethodHandle" ∧ owner ≠ "java/lang/invoke/VarHandle" ∧ (parseMethodDescriptor x.desc).map (fun d => d.parameters.length) = some na) (hX : j_X1 X.1) (hR : R'.frames + 1 ≤ R.frames ∧ 8 + (mL' + 11) + R'.locals ≤ R.locals) (hcs : k + R'.cells ≤ R.cells ∧ n + R'.slots ≤ R.slots) (hAs : As.length = na) (hst : (st.map fun v => v.category).sum ≤ 8) (d : decode cc pc = .ok (.invokevirtual index, 3)) (hJ : JE E w X.1 y (ws_ y cc' mL' ret') R' (.ref a :: As) σ (fun v σ' => J E w X cc mL ret own R (k + R'.cells) (n + R'.slots) (pc + 3) L (v.toList ++ st) σ' Q)) : J E w X cc mL ret own R k n pc L (As.reverse ++ .ref a :: st) σ Q := by
  intro p e s m args below meth c A H locs ls C0 hXs hA hk hn hP hD hS hL
  have hrecv : ∃ cell : Cell, H[a]? = some cell ∧ cell.vm.isStatics = false ∧ s.vm.findClass C = some cell.cls := by
    obtain ⟨r', h1, cell, g1, g2, g3, -⟩ := hP r _ _ hr
    exact ⟨cell, g1, by rw [g3]; rfl, by rw [g2]; exact (C0.2.2.2.2.2.2.2.1 ci _ hc).2.1⟩
  refine j_back (σ2 := σ) (va_runU (As := As) (rest := st) ⟨C0.1, C0.2.1, C0.2.2.2.2.1, C0.2.2.2.2.2.1, C0.2.2.2.2.2.2.1⟩ (hJ H.size) (va_cwU na C0.2.2.2.2.2.2.1 (lw_app (j_mem5 q1 q2 q3 q4 q5) (lw_meth q6)) rfl rfl rfl hyx hd hR) ⟨j_blind hX, hrecv, fun U hU hW => j_start hX hXs.1 hA C0.2.2.2.2.2.2.2 hP hD hS hU hW⟩ rfl hAs hL.1 rfl (lv_room hst) d hcs) hA hD hS ?_
  intro v σ1 H1 locs1 hq hP1 hD1 hz hkp hS1
  exact hq p e s m args below meth c A H1 locs1 ls C0 hXs hA hcs.1 hcs.2 hP1 ⟨hD1.1, fun r a e h => j_freeA hA hD hS _ (hD1.2 r a e h)⟩ hS1 hL
theorem J_eO {y : MethodName} {cc' : ByteArray} {mL' : Nat} {ret' : Option FieldType} {R' : Room} {C : String} {T : u_T} {N index ci a : Nat} {V : Nat → Value} {x : MethodName} {owner : String} (As : List Value) (na r : Nat) (hr : w σ r = some (a, .inr (ci, V))) (hc : CL[ci]? = some (C, T, N)) (q1 : Cond.methodLink own index x ∈ lw_all) (q2 : Cond.sameMethod x.cls owner x.name x.desc ∈ lw_all) {b0 : ByteArray} {m0 : Nat} {r0 : Option FieldType} (q7 : Cond.instanceMethod ⟨owner, x.name, x.desc⟩ ∈ lw_all) (q8 : Cond.code ⟨owner, x.name, x.desc⟩ b0 m0 r0 ∈ lw_all) (q3 : Cond.selects C x y ∈ lw_all) (q4 : Cond.instanceMethod y ∈ lw_all) (q5 : Cond.initialized y.cls ∈ lw_all) (q6 : Cond.code y cc' mL' ret' ∈ lw_all) (hd : owner ≠ "java/lang/invoke/MethodHandle" ∧ owner ≠ "java/lang/invoke/VarHandle" ∧ (parseMethodDescriptor x.desc).map (fun d => d.parameters.length) = some na) (hX : j_X1 X.1) (hR : R'.frames + 1 ≤ R.frames ∧ 8 + (mL' + 11) + R'.locals ≤ R.locals) (hcs : k + R'.cells ≤ R.cells ∧ n + R'.slots ≤ R.slots) (hAs : As.length = na) (hst : (st.map fun v => v.category).sum ≤ 8) (d : decode cc pc = .ok (.invokevirtual index, 3)) (hJ : JE E w X.1 y (ws_ y cc' mL' ret') R' (.ref a :: As) σ (fun v σ' => J E w X cc mL ret own R (k + R'.cells) (n + R'.slots) (pc + 3) L (v.toList ++ st) σ' Q)) : J E w X cc mL ret own R k n pc L (As.reverse ++ .ref a :: st) σ Q := by
  intro p e s m args below meth c A H locs ls C0 hXs hA hk hn hP hD hS hL
  have hrecv : ∃ cell : Cell, H[a]? = some cell ∧ cell.vm.isStatics = false ∧ s.vm.findClass C = some cell.cls := by
    obtain ⟨r', h1, cell, g1, g2, g3, -⟩ := hP r _ _ hr
    exact ⟨cell, g1, by rw [g3]; rfl, by rw [g2]; exact (C0.2.2.2.2.2.2.2.1 ci _ hc).2.1⟩
  refine j_back (σ2 := σ) (va_runU (As := As) (rest := st) ⟨C0.1, C0.2.1, C0.2.2.2.2.1, C0.2.2.2.2.2.1, C0.2.2.2.2.2.2.1⟩ (hJ H.size) (va_cwO na C0.2.2.2.2.2.2.1 (lw_app (j_mem6 q1 q2 q7 q3 q4 q5) (lw_meth q6)) rfl rfl rfl q8 hd hR) ⟨j_blind hX, hrecv, fun U hU hW => j_start hX hXs.1 hA C0.2.2.2.2.2.2.2 hP hD hS hU hW⟩ rfl hAs hL.1 rfl (lv_room hst) d hcs) hA hD hS ?_
  intro v σ1 H1 locs1 hq hP1 hD1 hz hkp hS1
  exact hq p e s m args below meth c A H1 locs1 ls C0 hXs hA hcs.1 hcs.2 hP1 ⟨hD1.1, fun r a e h => j_freeA hA hD hS _ (hD1.2 r a e h)⟩ hS1 hL
theorem j_back5 {St2 : Type} {w2 : St2 → jW} {σ2 : St2} {p : Program} {e : Env} {s : State} {m : MethodId} {args : Array Value} {below : List Frame} {meth : Method} {c : Code} {A : Nat → Prop} {H : Heap} {locs : List Loc} {ls : Array Slot} {Q0 : State → Prop} {Q2 : Option Value → St2 → Prop} {a : Array Value} {st0 rest : List Value} {mc ms : Nat}
    (hr : va_Run5 p E.1 e R s m args below meth c H locs k n mc ms (F0 m pc ls st0) rest (j_Q E w2 Q2 (j_A (w2 σ2) H.size) a) (j_A (w2 σ2) H.size)) (hA : ∀ q, s.heap.size ≤ q → A q) (hD : j_D A (w2 σ2)) (hS : va_S A s.heap H locs)
    (kk : ∀ (v : Option Value) (σ1 : St2) (H1 : Heap) (locs1 : List Loc), Q2 v σ1 → j_P E.2.1 (w2 σ1) H1 → j_D (j_A (w2 σ2) H.size) (w2 σ1) → H.size ≤ H1.size → (∀ q, q < H.size → ¬ j_A (w2 σ2) H.size q → H1[q]? = H[q]?) → va_S A s.heap H1 locs1 → W p E.1 e R s m args below meth c H1 locs1 (k + mc) (n + ms) Q0 (F0 m (pc + 5) ls (v.toList ++ rest))) : W p E.1 e R s m args below meth c H locs k n Q0 (F0 m pc ls st0) := by
  intro T hT Y
  obtain ⟨v, st₀, t, T', L1, h0, Y', hL1, e1, e2, ⟨⟨v', σ1, hv, hq, hp, hd⟩, hz, hkp⟩, st⟩ := hr T hT Y
  cases hv
  rw [h0] at hz hkp
  have hf := j_freeA (w := w2) (σ := σ2) hA hD hS
  obtain ⟨t2, a1, b1⟩ := kk v σ1 T'.heap (locs ++ L1) hq (by rw [e1]; exact hp) hd (by rw [e1]; exact hz) (fun q h1 h2 => by rw [e1]; exact hkp q h1 h2)
    ⟨Nat.le_trans hS.1 (by rw [e1]; exact hz), fun q h1 h2 => by rw [e1, hkp q (Nat.lt_of_lt_of_le h1 hS.1) (fun z => h2 (hf q z))]; exact hS.2.1 q h1 h2, fun q hq => by
      rcases List.mem_append.mp hq with h | h
      · exact hS.2.2 q h
      · exact hf _ (hL1 q h)⟩ T' rfl Y'
  exact ⟨t2, st t2 a1, b1⟩
theorem J_eF {y : MethodName} {cc' : ByteArray} {mL' : Nat} {ret' : Option FieldType} {R' : Room} {C : String} {T : u_T} {N index count ci a : Nat} {V : Nat → Value} {x : MethodName} (As : List Value) (na r : Nat) (hr : w σ r = some (a, .inr (ci, V))) (hc : CL[ci]? = some (C, T, N)) (hF : ∀ A s, X.1 A s → va_Fw C x y s) (q1 : Cond.methodLink own index x ∈ lw_all) (q3 : Cond.selects C x y ∈ lw_all) (q4 : Cond.instanceMethod y ∈ lw_all) (q5 : Cond.initialized y.cls ∈ lw_all) (q6 : Cond.code y cc' mL' ret' ∈ lw_all) (hd : x.cls ≠ "java/lang/invoke/MethodHandle" ∧ x.cls ≠ "java/lang/invoke/VarHandle" ∧ (parseMethodDescriptor x.desc).map (fun d => d.parameters.length) = some na) (hX : j_X1 X.1) (hR : R'.frames + 1 ≤ R.frames ∧ 8 + (mL' + 11) + R'.locals ≤ R.locals) (hcs : k + R'.cells ≤ R.cells ∧ n + R'.slots ≤ R.slots) (hAs : As.length = na) (hst : (st.map fun v => v.category).sum ≤ 8) (d : decode cc pc = .ok (.invokeinterface index count, 5)) (hJ : JE E w X.1 y (ws_ y cc' mL' ret') R' (.ref a :: As) σ (fun v σ' => J E w X cc mL ret own R (k + R'.cells) (n + R'.slots) (pc + 5) L (v.toList ++ st) σ' Q)) : J E w X cc mL ret own R k n pc L (As.reverse ++ .ref a :: st) σ Q := by
  intro p e s m args below meth c A H locs ls C0 hXs hA hk hn hP hD hS hL
  have hrecv : ∃ cell : Cell, H[a]? = some cell ∧ cell.vm.isStatics = false ∧ s.vm.findClass C = some cell.cls := by
    obtain ⟨r', h1, cell, g1, g2, g3, -⟩ := hP r _ _ hr
    exact ⟨cell, g1, by rw [g3]; rfl, by rw [g2]; exact (C0.2.2.2.2.2.2.2.1 ci _ hc).2.1⟩
  refine j_back5 (σ2 := σ) (va_runF (C0.2.2.2.2.2.2.2.1 ci _ hc).2 (As := As) (rest := st) ⟨C0.1, C0.2.1, C0.2.2.2.2.1, C0.2.2.2.2.2.1, C0.2.2.2.2.2.2.1⟩ (hJ H.size) (va_cwF na C0.2.2.2.2.2.2.1 (lw_app (j_mem4 q1 q3 q4 q5) (lw_meth q6)) rfl rfl rfl (hF A s hXs.1) hd hR) ⟨j_blind hX, hrecv, fun U hU hW => j_start hX hXs.1 hA C0.2.2.2.2.2.2.2 hP hD hS hU hW⟩ rfl hAs hL.1 rfl (lv_room hst) d hcs) hA hD hS ?_
  intro v σ1 H1 locs1 hq hP1 hD1 hz hkp hS1
  exact hq p e s m args below meth c A H1 locs1 ls C0 hXs hA hcs.1 hcs.2 hP1 ⟨hD1.1, fun r a e h => j_freeA hA hD hS _ (hD1.2 r a e h)⟩ hS1 hL
end JC
