set_option maxRecDepth 100000
/-! strings: cells own or outside; private methods; clone; the string world -/
def jHas (E : jEnv) (W : jW) (a : Nat) (x : jE) : Prop := (∃ r, W r = some (a, x)) ∨ ∃ i, i < 22 ∧ oC E i = (a, x)
theorem k_has {E : jEnv} {A : Nat → Prop} {s : State} {H : Heap} {locs : List Loc} {W : jW} {a : Nat} {x : jE} (hX : cX E A s) (hP : j_P E.2.1 W H) (hS : va_S A s.heap H locs) (h : jHas E W a x) : j_ao E.2.1 a x H := by
  rcases h with ⟨r, hr⟩ | ⟨i, hi, hr⟩
  · exact (hP r _ _ hr).ao
  · have h1 := (k_out (i := i) hX hS hi).1
    rw [hr] at h1
    exact h1
section JG
variable {E : jEnv} {St : Type} {w : St → jW} {o : Option MethodName} {cc : ByteArray} {mL : Nat} {ret : Option FieldType} {own : String} {R : Room} {k n pc : Nat} {L : List (Option Value)} {st : List Value} {σ : St} {Q : Option Value → St → Prop}
theorem JG_get {index ci a N : Nat} {C ref : String} {T : u_T} {V : Nat → Value} (f : Nat) (h : jHas E (w σ) a (.inr (ci, V))) (hc : CL[ci]? = some (C, T, N)) (hin : ∀ w ∈ u_ws C T N, w ∈ lw_all) (hf : f < N) (q : Cond.fieldLink own index ref (T f).2.1 (T f).2.2.1 ∈ lw_all) (href : (T f).1 = ref) (d : decode cc pc = .ok (.getfield index, 3)) (kk : J E w (cX E, o) cc mL ret own R k n (pc + 3) L (V f :: st) σ Q) : J E w (cX E, o) cc mL ret own R k n pc L (.ref a :: st) σ Q := by
  rcases h with ⟨r, hr⟩ | ⟨i, hi, hr⟩
  · exact J_get r f hr hc hin hf q href d kk
  · exact JO_get i f rfl hi hr hc hin hf q href d kk
theorem JG_alen {a N : Nat} {f : Nat → Int32} (h : jHas E (w σ) a (.inl (E.2.2 1, N, .inl f))) (d : decode cc pc = .ok (.arraylength, 1)) (kk : J E w (cX E, o) cc mL ret own R k n (pc + 1) L (.int (zI (N : Nat)) :: st) σ Q) : J E w (cX E, o) cc mL ret own R k n pc L (.ref a :: st) σ Q := by
  rcases h with ⟨r, hr⟩ | ⟨i, hi, hr⟩
  · exact J_alen (x := (N, .inl f)) (ty := .byte) r 1 (zI (N : Nat)) hr rfl (zI_nI N).symm d kk
  · exact JO_alen i (zI (N : Nat)) rfl hi hr (zI_nI N).symm d kk
theorem JG_bald {a N : Nat} {f : Nat → Int32} {z : Int} (m : Nat) (h : jHas E (w σ) a (.inl (E.2.2 1, N, .inl f))) (hz : z = m) (hm : m < N) (hN : N ≤ 1000000) (d : decode cc pc = .ok (.baload, 1)) (kk : J E w (cX E, o) cc mL ret own R k n (pc + 1) L (.int (f m) :: st) σ Q) : J E w (cX E, o) cc mL ret own R k n pc L (.int (zI z) :: .ref a :: st) σ Q := by
  obtain ⟨h1, h2⟩ := zI_in hz hm hN
  rcases h with ⟨r, hr⟩ | ⟨i, hi, hr⟩
  · exact J_bald r hr h1 d (by rw [h2]; exact kk)
  · exact JO_bald i rfl hi hr h1 d (by rw [h2]; exact kk)
theorem JG_castB {a N index : Nat} {f : Nat → Int32} (h : jHas E (w σ) a (.inl (E.2.2 1, N, .inl f))) (q1 : Cond.classLink own index "[B" ∈ lw_all) (d : decode cc pc = .ok (.checkcast index, 3)) (kk : J E w (cX E, o) cc mL ret own R k n (pc + 3) L (.ref a :: st) σ Q) : J E w (cX E, o) cc mL ret own R k n pc L (.ref a :: st) σ Q := by
  intro p e s m args below meth c A H locs ls C hX hA hk hn hP hD hS hL
  obtain ⟨cell, g1, g2, g3, g4, -⟩ := k_aoB (t0 := 1) (ty := .byte) C.2.2.2.2.2.2.2 rfl (k_has hX.1 hP hS h)
  exact va_castE C.1 C.2.1 C.2.2.2.2.2.1 (C.2.2.2.2.2.2.1 _ q1) ⟨cell, g1, g3, by rw [g4]; exact k_nmB C⟩ d (kk p e s m args below meth c A H locs ls C hX hA hk hn hP hD hS hL)

theorem JG_acopy {σ' : St} {a0 a N0 N1 index sp dp cn : Nat} {ty : FieldType} {f g : Nat → Int32} (t0 r1 : Nat) (hr0 : jHas E (w σ) a0 (.inl (E.2.2 t0, N0, .inl f))) (hr1 : w σ r1 = some (a, .inl (E.2.2 t0, N1, .inl g))) (ht : (j_tys E.2.2)[t0]? = some (E.2.2 t0, ty)) (hprim : refKind ty = false) (hfit : ∀ i, i < cn → fits ty (.int (f (sp + i))) = true) (h4 : sp + cn ≤ N0) (h5 : dp + cn ≤ N1) (hN : N0 ≤ 1000000 ∧ N1 ≤ 1000000)
    (q1 : Cond.methodLink own index arraycopyName ∈ lw_all) (q2 : Cond.native arraycopyName ∈ lw_all) (q3 : Cond.static arraycopyName ∈ lw_all) (q4 : Cond.initialized "java/lang/System" ∈ lw_all) (hR : 1 ≤ R.frames ∧ 8 + (nativeFrameWords "java/lang/System" "arraycopy" 5 + 11) ≤ R.locals) (hst : (st.map fun v => v.category).sum ≤ 8)
    (hσ : w σ' = j_up (w σ) r1 (some (a, .inl (E.2.2 t0, N1, .inl (va_cpy f g sp dp cn))))) (d : decode cc pc = .ok (.invokestatic index, 3)) (kk : J E w (cX E, o) cc mL ret own R k n (pc + 3) L st σ' Q) : J E w (cX E, o) cc mL ret own R k n pc L (.int (zI (cn : Nat)) :: .int (zI (dp : Nat)) :: .ref a :: .int (zI (sp : Nat)) :: .ref a0 :: st) σ Q := by
  intro p e s m args below meth c A H locs ls C hX hA hk hn hP hD hS hL T hT Y
  have hts := C.2.2.2.2.2.2.1
  obtain ⟨s1, s2⟩ := zI_nn (m := sp) (by omega)
  obtain ⟨d1, d2⟩ := zI_nn (m := dp) (by omega)
  obtain ⟨n1, n2⟩ := zI_nn (m := cn) (by omega)
  have nn : ∀ z : Int32, ¬ z < 0 → z.toInt = (z.toNatClampNeg : Int) := by
    intro z hz
    have hz0 : (0 : Int) ≤ z.toInt := by
      have := Int32.not_lt.mp hz
      simpa using Int32.le_iff_toInt_le.mp this
    show z.toInt = ((z.toInt.toNat : Nat) : Int)
    omega
  obtain ⟨cs, hc0, hs3, hs6, hs4, hs2, hsz, hs5⟩ := k_aoB C.2.2.2.2.2.2.2 ht (k_has hX.1 hP hS hr0)
  have hc1 : H[a]? = some (vp_cell (E.2.2 t0) (N1, .inl g)) := hP r1 _ _ hr1
  obtain ⟨hs7, k0, hk0, cm0, hkk0⟩ := hs2
  obtain ⟨-, k1, hk1, cm1, hkk1⟩ := (C.2.2.2.2.2.2.2.2 t0 _ ht).1 N1 (fun j => .int (g j))
  obtain ⟨vm', X', step⟩ := Y.arraycopy C.1 C.2.2.2.2.2.1 (hts _ q1) (hts _ q2) (hts _ q3) (hts _ q4) (src := a0) (dst := a) (cs := cs) (cd := vp_cell (E.2.2 t0) (N1, .inl g)) (srcPos := zI (sp : Nat)) (destPos := zI (dp : Nat)) (n := zI (cn : Nat)) (by rw [hT]; exact hc0) (by rw [hT]; exact hc1)
    hs7 (fun _ h => by cases h) hs3 (fun h => by cases h) hk0 hk1 hkk0 hkk1 (by simp [hprim]) s1 d1 n1
    (by rw [nn _ s1, nn _ n1, s2, n2]; omega)
    (by rw [nn _ d1, nn _ n1, d2, n2]; show ¬ _ > ((arrV _ N1 (fun j => .int (g j))).slots.size : Int); rw [arrV_size]; omega)
    (fun vm₁ _ i hi => by
      rw [n2] at hi
      have e : cs.slots.getD ((zI (sp : Nat)).toNatClampNeg + i) .null = .int (f (sp + i)) := by
        rw [s2]
        rw [Array.getD_eq_getD_getElem?, hs5 _ (by omega)]
        rfl
      refine ⟨?_, ?_⟩
      · rw [e]
        exact hfit i hi
      · rw [e]
        exact trivial)
    (g := F0 m pc ls (.int (zI (cn : Nat)) :: .int (zI (dp : Nat)) :: .ref a :: .int (zI (sp : Nat)) :: .ref a0 :: st)) rfl (by show ls.size = _; rw [hL.1]; exact C.2.2.2.2.1.symm) (rest := st) rfl (by rw [C.2.1]; exact d) hR.1 (by show 2 * 0 + _ + _ ≤ _; omega)
  have e1 : copied cs (vp_cell (E.2.2 t0) (N1, .inl g)) (zI (sp : Nat)) (zI (dp : Nat)) (zI (cn : Nat)) = vp_cell (E.2.2 t0) (N1, .inl (va_cpy f g sp dp cn)) := by
    have := va_copiedX (fun z => .int z) cs (E.2.2 t0) f g hs5 (n1 := N1) (dp := dp) h4
    show Cell.storeRun _ _ _ = _
    rw [s2, d2, n2]
    exact this
  rw [e1] at X' step
  have hl : a < H.size := (Array.getElem?_eq_some_iff.mp hc1).1
  have hheap : ((T.setVm vm').setCell a (vp_cell (E.2.2 t0) (N1, .inl (va_cpy f g sp dp cn)))).heap = H.setIfInBounds a (vp_cell (E.2.2 t0) (N1, .inl (va_cpy f g sp dp cn))) := by rw [← hT]; rfl
  have oq : ∀ q : Nat, q ≠ a → (H.setIfInBounds a (vp_cell (E.2.2 t0) (N1, .inl (va_cpy f g sp dp cn))))[q]? = H[q]? := fun q hq => by simp [Array.getElem?_setIfInBounds, Ne.symm hq]
  obtain ⟨t, a1, b1⟩ := kk p e s m args below meth c A _ _ ls C hX hA hk hn (by rw [hσ]; exact j_Pset hP hD hr1 (show (H.setIfInBounds a _)[a]? = some _ by simp [Array.getElem?_setIfInBounds, hl]) oq) (by rw [hσ]; exact j_Dset hD hr1) ⟨by simp; exact hS.1, fun q g1 g2 => by
      rw [oq q (fun e => g2 (by rw [e]; exact hD.2 r1 _ _ hr1))]
      exact hS.2.1 q g1 g2, fun q hq => by
      rcases List.mem_append.mp hq with h | h
      · exact hS.2.2 q h
      · obtain ⟨z, -, hz⟩ := List.mem_map.mp h
        rw [← hz]
        exact hD.2 r1 _ _ hr1⟩ hL _ hheap X'
  exact ⟨t, step t a1, b1⟩
end JG
section KP
variable {p : Program} {l : Launch} {e : Env} {R : Room} {s : State} {m : MethodId} {args : Array Value} {below : List Frame} {meth : Method} {c : Code} {H : Heap} {locs : List Loc} {cells slots : Nat}
theorem k_runVP {y : MethodName} {bytes cc : ByteArray} {maxL nL mc ms n index : Nat} {ret : Option FieldType} {ws : List Cond} {rm : Room} {Pc : Array Value → State → Prop} {Qc : Array Value → State → Outcome → State → Prop} {free : Addr → Prop} {Ts : List Cond} {own C : String} {b : Addr} {As rest : List Value} {g : JFrame}
    (S : CallFix p m c cc nL s args Ts own) (hM : Met l y ws rm Pc Qc mc ms free) (hws : GoodIn Ts ws) (hts : ∀ w ∈ Ts, w.before args s = true) (hw : Cond.code y bytes maxL ret ∈ ws) (hrc : rm.cells = mc) (hrs : rm.slots = ms) (hR : rm.frames + 1 ≤ R.frames ∧ 8 + (maxL + 11) + rm.locals ≤ R.locals)
    (hl1 : (Cond.methodLink own index y).before args s = true) (hl2 : (Cond.sameMethod y.cls y.cls y.name y.desc).before args s = true) (hl4 : (Cond.instanceMethod y).before args s = true) (hpm : va_Nw (.privateMethod y) s) (hini : (Cond.initialized y.cls).before args s = true) (hd : y.cls ≠ "java/lang/invoke/MethodHandle" ∧ y.cls ≠ "java/lang/invoke/VarHandle" ∧ (parseMethodDescriptor y.desc).map (fun d => d.parameters.length) = some n) (hp : PreV s H C b Pc As)
    (hg : g.method = m) (hn : As.length = n) (hsize : g.locals.size = nL) (hstack : g.stack = As.reverse ++ .ref b :: rest) (hW : 2 * g.monitorRoom + (rest.map fun v => v.category).sum ≤ 8) (hdg : decode cc g.pc = .ok (.invokevirtual index, 3)) (hf : cells + mc ≤ R.cells ∧ slots + ms ≤ R.slots) :
    va_Run p l e R s m args below meth c H locs cells slots mc ms g rest (Qc (Value.ref b :: As).toArray) (free) := by
  have hcode := hts _ (hws _ hw).1
  have hK : Back l R p e below s args y 3 8 (PreOf R mc ms Pc) (PostOf Qc mc ms free) := back_of (bytes := bytes) (maxL := maxL) (ret := ret) hM hp.1 hrc hrs hR.1 hR.2 (pay_in hts hws) hw (fun a' U hW => word_at hW (Or.inl (by first | rfl | simp [Cond.onTables, Cond.keeps, Cond.steady])) hini)
  obtain ⟨hx, hb, hml, ho, -⟩ := S
  obtain ⟨-, ⟨cellB, hcB, hoB, hclB⟩, hPc⟩ := hp
  intro T hT X
  obtain ⟨mk, methM, hnamed, hmethM, hstM, habM⟩ := Cond.instanceMethod_spec hl4
  obtain ⟨methM', cM, hmethM', -, -, -, -, -, -, hsigM⟩ := Cond.code_spec hnamed hcode
  cases hmethM.symm.trans hmethM'
  have hfc := findClass_of_methodNamed hnamed
  have hmf : ∃ r, s.methodFound? y.cls y.name y.desc = some r := by
    cases hq : s.methodFound? y.cls y.name y.desc with
    | some r => exact ⟨r, rfl⟩
    | none =>
      have h := hl2
      simp only [Cond.before, Cond.holds, Cond.value, hfc, hq] at h
      simp at h
  obtain ⟨r0, hr0⟩ := hmf
  obtain ⟨-, kP, hkP, hkPi⟩ := Cond.sameMethod_spec hfc hr0 hl2
  have hpv : methM.isPrivate = true := by
    have h := va_Nw.use (A := args) rfl hpm
    simp only [Cond.before, Cond.holds, Cond.value, hnamed, hmethM, Option.bind_some, Option.map_some] at h
    simpa using h
  have hselP : selectMethod e.platform s.vm cellB.cls mk = .method mk := selectMethod_private hmethM hpv
  have hlen' : As.length = methM.sig.parameters.length := by
    have h2 := hd.2.2
    rw [hsigM] at h2
    exact hn.trans (Option.some.inj h2).symm
  obtain ⟨vm₁, X₁, hstep₁⟩ := X.invokevirtual hx ho hl1 hnamed hmethM hstM hkP hkPi ⟨hd.1, hd.2.1⟩ (a := b) (cell := cellB) (by rw [hT]; exact hcB) (fun z h => by rw [h] at hoB; cases hoB) hselP hmethM habM hkP hkPi (g := g) hg (argsL := As) (rest := rest) hlen' hstack (by rw [hb]; exact hdg)
  obtain ⟨v, ⟨U', l2, c2, s2⟩, X', ⟨g', mk', t, L, e1, e2, hq, h1, hL, h2, h3⟩, st⟩ := hK m meth c ⟨T.setVm vm₁, locs, cells, slots⟩ { g with stack := rest } (.invokevirtual index) mk (Value.ref b :: As).toArray X₁ hg (hsize.trans hml.symm) (by rw [hb]; exact hdg) hW (X₁.named hnamed) ⟨hf.1, hf.2, hPc (T.setVm vm₁) hT X₁.warmed⟩
  dsimp only [Pt.U, Pt.locs, Pt.cells, Pt.slots] at X' e1 e2 h1 h2 h3 st
  subst h1; subst h2; subst h3
  exact ⟨v, (T.setVm vm₁).calling g' mk' (Value.ref b :: As).toArray, t, U', L, hT, X', hL, e1, e2, hq, fun target h => hstep₁ _ fun acts => by rw [doInvoke_state]; exact st.trans h⟩
end KP
section JC
variable {E : jEnv} {St : Type} {w : St → jW} {X : jX} {cc : ByteArray} {mL : Nat} {ret : Option FieldType} {own : String} {R : Room} {k n pc : Nat} {L : List (Option Value)} {st : List Value} {σ : St} {Q : Option Value → St → Prop}
theorem J_eP {y : MethodName} {cc' : ByteArray} {mL' : Nat} {ret' : Option FieldType} {R' : Room} {C : String} {T : u_T} {N index ci a : Nat} {V : Nat → Value} (As : List Value) (na r : Nat) (hr : w σ r = some (a, .inr (ci, V))) (hc : CL[ci]? = some (C, T, N)) (q1 : Cond.methodLink own index y ∈ lw_all) (q2 : Cond.sameMethod y.cls y.cls y.name y.desc ∈ lw_all) (hpm : ∀ A s, X.1 A s → va_Nw (.privateMethod y) s) (q4 : Cond.instanceMethod y ∈ lw_all) (q5 : Cond.initialized y.cls ∈ lw_all) (q6 : Cond.code y cc' mL' ret' ∈ lw_all) (hd : y.cls ≠ "java/lang/invoke/MethodHandle" ∧ y.cls ≠ "java/lang/invoke/VarHandle" ∧ (parseMethodDescriptor y.desc).map (fun d => d.parameters.length) = some na) (hX : j_X1 X.1) (hR : R'.frames + 1 ≤ R.frames ∧ 8 + (mL' + 11) + R'.locals ≤ R.locals) (hcs : k + R'.cells ≤ R.cells ∧ n + R'.slots ≤ R.slots) (hAs : As.length = na) (hst : (st.map fun v => v.category).sum ≤ 8) (d : decode cc pc = .ok (.invokevirtual index, 3)) (hJ : JE E w X.1 y (ws_ y cc' mL' ret') R' (.ref a :: As) σ (fun v σ' => J E w X cc mL ret own R (k + R'.cells) (n + R'.slots) (pc + 3) L (v.toList ++ st) σ' Q)) : J E w X cc mL ret own R k n pc L (As.reverse ++ .ref a :: st) σ Q := by
  intro p e s m args below meth c A H locs ls C0 hXs hA hk hn hP hD hS hL
  have hrecv : ∃ cell : Cell, H[a]? = some cell ∧ cell.vm.isStatics = false ∧ s.vm.findClass C = some cell.cls := by
    obtain ⟨r', h1, cell, g1, g2, g3, -⟩ := hP r _ _ hr
    exact ⟨cell, g1, by rw [g3]; rfl, by rw [g2]; exact (C0.2.2.2.2.2.2.2.1 ci _ hc).2.1⟩
  refine j_back (σ2 := σ) (k_runVP (As := As) (rest := st) ⟨C0.1, C0.2.1, C0.2.2.2.2.1, C0.2.2.2.2.2.1, C0.2.2.2.2.2.2.1⟩ (hJ H.size) (lw_meth q6) C0.2.2.2.2.2.2.1 List.mem_cons_self rfl rfl hR (C0.2.2.2.2.2.2.1 _ q1) (C0.2.2.2.2.2.2.1 _ q2) (C0.2.2.2.2.2.2.1 _ q4) (hpm A s hXs.1) (C0.2.2.2.2.2.2.1 _ q5) hd ⟨j_blind hX, hrecv, fun U hU hW => j_start hX hXs.1 hA C0.2.2.2.2.2.2.2 hP hD hS hU hW⟩ rfl hAs hL.1 rfl (lv_room hst) d hcs) hA hD hS ?_
  intro v σ1 H1 locs1 hq hP1 hD1 hz hkp hS1
  exact hq p e s m args below meth c A H1 locs1 ls C0 hXs hA hcs.1 hcs.2 hP1 ⟨hD1.1, fun r a e h => j_freeA hA hD hS _ (hD1.2 r a e h)⟩ hS1 hL
theorem JG_eV {y : MethodName} {cc' : ByteArray} {mL' : Nat} {ret' : Option FieldType} {R' : Room} {C : String} {T : u_T} {N index ci a : Nat} {V : Nat → Value} (As : List Value) (na : Nat) (hX1 : X.1 = cX E) (hr : jHas E (w σ) a (.inr (ci, V))) (hc : CL[ci]? = some (C, T, N)) (q1 : Cond.methodLink own index y ∈ lw_all) (q2 : Cond.instanceMethod y ∈ lw_all) (q3 : Cond.selects C y y ∈ lw_all) (q4 : Cond.initialized C ∈ lw_all) (q5 : Cond.code y cc' mL' ret' ∈ lw_all) (hd : y.cls = C ∧ y.cls ≠ "java/lang/invoke/MethodHandle" ∧ y.cls ≠ "java/lang/invoke/VarHandle" ∧ (parseMethodDescriptor y.desc).map (fun d => d.parameters.length) = some na) (hX : j_X1 X.1) (hR : R'.frames + 1 ≤ R.frames ∧ 8 + (mL' + 11) + R'.locals ≤ R.locals) (hcs : k + R'.cells ≤ R.cells ∧ n + R'.slots ≤ R.slots) (hAs : As.length = na) (hst : (st.map fun v => v.category).sum ≤ 8) (d : decode cc pc = .ok (.invokevirtual index, 3)) (hJ : JE E w X.1 y (ws_ y cc' mL' ret') R' (.ref a :: As) σ (fun v σ' => J E w X cc mL ret own R (k + R'.cells) (n + R'.slots) (pc + 3) L (v.toList ++ st) σ' Q)) : J E w X cc mL ret own R k n pc L (As.reverse ++ .ref a :: st) σ Q := by
  intro p e s m args below meth c A H locs ls C0 hXs hA hk hn hP hD hS hL
  have hrecv : ∃ cell : Cell, H[a]? = some cell ∧ cell.vm.isStatics = false ∧ s.vm.findClass C = some cell.cls := k_recvQ hc C0 (k_has (by rw [← hX1]; exact hXs.1) hP hS hr)
  refine j_back (σ2 := σ) (va_runV (As := As) (rest := st) ⟨C0.1, C0.2.1, C0.2.2.2.2.1, C0.2.2.2.2.2.1, C0.2.2.2.2.2.2.1⟩ (hJ H.size) (cwV na C0.2.2.2.2.2.2.1 (lw_V q1 q2 q3 q4 q5) rfl rfl rfl hd hR) ⟨j_blind hX, hrecv, fun U hU hW => j_start hX hXs.1 hA C0.2.2.2.2.2.2.2 hP hD hS hU hW⟩ rfl hAs hL.1 rfl (lv_room hst) d hcs) hA hD hS ?_
  intro v σ1 H1 locs1 hq hP1 hD1 hz hkp hS1
  exact hq p e s m args below meth c A H1 locs1 ls C0 hXs hA hcs.1 hcs.2 hP1 ⟨hD1.1, fun r a e h => j_freeA hA hD hS _ (hD1.2 r a e h)⟩ hS1 hL
theorem J_clone {σ' : Nat → St} {a N index : Nat} {f : Nat → Int32} (r r' : Nat) (hr : w σ r = some (a, .inl (E.2.2 1, N, .inl f))) (hfit : ∀ i, i < N → fits .byte (.int (f i)) = true) (q1 : Cond.methodLink own index ⟨"[B", "clone", "()Ljava/lang/Object;"⟩ ∈ lw_all) (hcl : ∀ A s, X.1 A s → va_Nw (.castable "[B" "java/lang/Cloneable") s) (hR : 1 ≤ R.frames ∧ 30 ≤ R.locals) (hst : (st.map fun v => v.category).sum ≤ 8) (hk1 : k + 1 ≤ R.cells) (hn1 : n + N ≤ R.slots) (hσ : ∀ q, w (σ' q) = j_up (w σ) r' (some (q, .inl (E.2.2 1, N, .inl f)))) (d : decode cc pc = .ok (.invokevirtual index, 3)) (kk : ∀ q, J E w X cc mL ret own R (k + 1) (n + N) (pc + 3) L (.ref q :: st) (σ' q) Q) : J E w X cc mL ret own R k n pc L (.ref a :: st) σ Q := by
  intro p e s m args below meth c A H locs ls C hX hA hk hn hP hD hS hL T hT Y
  have hts := C.2.2.2.2.2.2.1
  have hnm : s.vm.findClass "[B" = some (E.2.2 1) := k_nmB C
  obtain ⟨c0, t0', f1, f2, f3⟩ := Cond.castable_spec (va_Nw.use (A := args) rfl (hcl A s hX.1))
  cases hnm.symm.trans f1
  have hK := C.2.2.2.2.2.2.2.2 1 _ rfl
  obtain ⟨-, kA, hkA, comp, hkind⟩ := State.isArrayOf_alike Y.warmed.alike (hK.1 0 (fun _ => .null))
  obtain ⟨-, kS, hkS, compS, hkindS⟩ := hK.1 0 (fun _ => .null)
  have hc0 : H[a]? = some (vp_cell (E.2.2 1) (N, .inl f)) := hP r _ _ hr
  have hsz : (vp_cell (E.2.2 1) (N, .inl f)).slots.size = N := arrV_size _ _ _
  have hcl0 : (vp_cell (E.2.2 1) (N, .inl f)).cls = E.2.2 1 := rfl
  have hvm0 : (vp_cell (E.2.2 1) (N, .inl f)).vm = .none := rfl
  have hcellE : ({ cls := (vp_cell (E.2.2 1) (N, .inl f)).cls, slots := (vp_cell (E.2.2 1) (N, .inl f)).slots } : Cell) = vp_cell (E.2.2 1) (N, .inl f) := rfl
  obtain ⟨vm', X', st'⟩ := Y.cloneArray C.1 C.2.2.2.2.2.1 (hts _ q1) (hts _ q566) (hts _ q567) (hts _ q568) (hts _ q569) (a := a) (cell := vp_cell (E.2.2 1) (N, .inl f)) (by rw [hT]; exact hc0) (fun k h => by rw [hvm0] at h; cases h) (by rw [hvm0]; exact fun h => by cases h) (by rw [hcl0]; exact hnm) f2 (by rw [hcl0]; exact f3)
    (fun i v hv => by
      rw [hcl0]
      have hk' : T.vm.classes[E.2.2 1]? = some kA := hkA
      simpa [State.fitsSlot, State.slotType?, hk', hkind] using va_fit (ty := .byte) (F := fun j => .int (f j)) hfit i v hv)
    (g := F0 m pc ls (.ref a :: st)) rfl (hL.1.trans C.2.2.2.2.1.symm) rfl (by rw [C.2.1]; exact d) hR.1 (by show 2 * 0 + _ + 14 ≤ _; omega) hk1 (by rw [hsz]; exact hn1) (hloader := by rw [hcl0]; exact Vm.clonesLoader_of_array hkS hkindS)
  rw [hcellE, hsz] at X'
  have z1 : (H.push (vp_cell (E.2.2 1) (N, .inl f))).size = H.size + 1 := Array.size_push ..
  have e1 : (H.push (vp_cell (E.2.2 1) (N, .inl f)))[H.size]? = some (vp_cell (E.2.2 1) (N, .inl f)) := Array.getElem?_push_size
  have o1 : ∀ q : Nat, q < H.size → (H.push (vp_cell (E.2.2 1) (N, .inl f)))[q]? = H[q]? := fun q hq => by rw [Array.getElem?_push, if_neg (Nat.ne_of_lt hq)]
  obtain ⟨t, b1, b2⟩ := kk H.size p e s m args below meth c A (H.push (vp_cell (E.2.2 1) (N, .inl f))) locs ls C hX hA hk1 hn1 (by rw [hσ]; exact j_Pnew hP e1 o1) (by rw [hσ]; exact j_Dnew hP hD (hA _ hS.1)) (j_Snew hS z1 o1) hL ((T.setVm vm').pushCell (vp_cell (E.2.2 1) (N, .inl f))) (by rw [← hT]; rfl) X'
  exact ⟨t, st' t (by rw [hcellE, hT]; exact b1), b2⟩
theorem J_ldcwS {index a : Nat} {tx : String} (hX1 : X.1 = cX E) (hz : (own, index, tx, a) ∈ cSr E) (d : decode cc pc = .ok (.ldc_w index, 3)) (kk : J E w X cc mL ret own R k n (pc + 3) L (.ref a :: st) σ Q) : J E w X cc mL ret own R k n pc L st σ Q := by
  intro p e s m args below meth c A H locs ls C0 hX hA hk hn hP hD hS hL T hT Y
  have hXc : cX E A s := by rw [← hX1]; exact hX.1
  have hZ := hXc.2.2.2.2.2.2.2.1 _ hz
  obtain ⟨t, a1, b1⟩ := kk p e s m args below meth c A H locs ls C0 hX hA hk hn hP hD hS hL T hT Y
  refine ⟨t, ?_, b1⟩
  obtain ⟨k2, cf, i, a', hk2, hcf, hcp, -, hr, hev'⟩ := Cond.stringRef_spec C0.2.2.2.2.2.1 hZ.1
  cases hZ.2.symm.trans hev'
  obtain ⟨k', hk', he⟩ := Y.warmed.alike.2.2 _ _ hk2
  have hr' : k'.resolved[index]? = some (some (.string a)) := by
    rcases Y.warmed.entry hk2 hk' index with h | ⟨h, -⟩
    · rw [h]; exact hr
    · rw [hr] at h; cases h
  have dc : decode c.code (F0 m pc ls st).pc = .ok (.ldc_w index, 3) := by rw [C0.2.1]; exact d
  have hst : ∀ target, Steps p.tables e below (T.setTop { F0 m pc ls st with pc := (F0 m pc ls st).pc + 3, stack := .ref a :: (F0 m pc ls st).stack }) target → Steps p.tables e below (T.setTop (F0 m pc ls st)) target := by
    intro target hrest
    jvm_step Y.here [C0.1, dc, ldc_w.wp_string (e := e) (s := T) (f := F0 m pc ls st) Y.here.top hk' (by rw [he]; exact hcf) hcp hr']
    exact hrest
  exact hst t a1
end JC
/-! the string world: roles 0 the StringBuilder, 1 its array, 2 the String, 3 its array, 4 an array that comes -/
abbrev wI : jW → jW := fun σ => σ
def bV (v : Value) (n : Int32) (k : Nat) : Value := if k = 0 then v else if k = 3 then .int n else .int (zI 0)
def stV (v : Value) (h hz : Int32) (k : Nat) : Value := if k = 0 then v else if k = 1 then .int (zI 0) else if k = 2 then .int h else if k = 3 then .int hz else .int (zI 0)
abbrev bA (E : jEnv) (N : Nat) (f : Nat → Int32) : jE := .inl (E.2.2 1, N, .inl f)
theorem bV_v {v v' : Value} {n : Int32} : updV (bV v n) 0 v' = bV v' n := by
  funext k
  by_cases z : k = 0
  · subst z; rfl
  · simp [updV, bV, z]
theorem bV_c {v : Value} {n : Int32} : updV (bV v n) 1 (.int (zI 0)) = bV v n := by
  funext k
  by_cases z : k = 1
  · subst z; rfl
  · simp [updV, z]
theorem bV_n {v : Value} {n m : Int32} : updV (bV v n) 3 (.int m) = bV v m := by
  funext k
  by_cases z : k = 3
  · subst z; rfl
  · simp [updV, bV, z]
theorem stV_v {v v' : Value} {h hz : Int32} : updV (stV v h hz) 0 v' = stV v' h hz := by
  funext k
  by_cases z : k = 0
  · subst z; rfl
  · simp [updV, stV, z]
theorem stV_c {v : Value} {h hz : Int32} : updV (stV v h hz) 1 (.int (zI 0)) = stV v h hz := by
  funext k
  by_cases z : k = 1
  · subst z; rfl
  · simp [updV, z]
theorem stV_h {v : Value} {h hz h' : Int32} : updV (stV v h hz) 2 (.int h') = stV v h' hz := by
  funext k
  by_cases z : k = 2
  · subst z; rfl
  · simp [updV, stV, z]
theorem stV_z {v : Value} {h hz h' : Int32} : updV (stV v h hz) 3 (.int h') = stV v h h' := by
  funext k
  by_cases z : k = 3
  · subst z; rfl
  · simp [updV, stV, z]
theorem sV_st {E : jEnv} {i : Nat} : sV E i = stV (.ref (sB E i)) (zI (sHs i)) (zI 0) := by
  funext k
  unfold sV stV
  split
  · rfl
  · split
    · rfl
    · split
      · rfl
      · split <;> rfl
section SW
variable {E : jEnv} {X : jX} {cc : ByteArray} {mL : Nat} {ret : Option FieldType} {own : String} {R : Room} {k n pc : Nat} {L : List (Option Value)} {st : List Value} {σ : jW} {Q : Option Value → jW → Prop}
/-- role s takes role t's place -/
theorem J_shift (s t : Nat) (kk : J E wI X cc mL ret own R k n pc L st (j_up (j_up σ s none) t (σ s)) Q) : J E wI X cc mL ret own R k n pc L st σ Q := by
  have key : ∀ r x, j_up (j_up σ s none) t (σ s) r = some x → σ (if r = t then s else r) = some x ∧ (r ≠ t → r ≠ s) := by
    intro r x h
    by_cases z : r = t
    · simp only [j_up, if_pos z] at h ⊢
      exact ⟨h, fun q => absurd z q⟩
    · simp only [j_up, if_neg z] at h ⊢
      by_cases z2 : r = s
      · rw [if_pos z2] at h; cases h
      · rw [if_neg z2] at h; exact ⟨h, fun _ => z2⟩
  refine J_apart fun ap => J_view (fun r x h => ⟨_, (key r x h).1⟩) (fun r1 r2 a e1 e2 h1 h2 => ?_) kk
  obtain ⟨g1, n1⟩ := key r1 _ h1
  obtain ⟨g2, n2⟩ := key r2 _ h2
  have q := ap _ _ _ _ _ g1 g2
  by_cases z1 : r1 = t
  · by_cases z2 : r2 = t
    · omega
    · rw [if_pos z1, if_neg z2] at q; exact absurd q.symm (n2 z2)
  · by_cases z2 : r2 = t
    · rw [if_neg z1, if_pos z2] at q; exact absurd q (n1 z1)
    · rw [if_neg z1, if_neg z2] at q; exact q
theorem J_lose (s : Nat) (kk : J E wI X cc mL ret own R k n pc L st (j_up σ s none) Q) : J E wI X cc mL ret own R k n pc L st σ Q := by
  have key : ∀ r x, j_up σ s none r = some x → σ r = some x := by
    intro r x h
    by_cases z : r = s
    · simp only [j_up, if_pos z] at h; cases h
    · simp only [j_up, if_neg z] at h; exact h
  exact J_apart fun ap => J_view (fun r x h => ⟨r, key r x h⟩) (fun r1 r2 a e1 e2 h1 h2 => ap _ _ _ _ _ (key _ _ h1) (key _ _ h2)) kk
end SW
/-- the world with a StringBuilder at a: array va of size N, holding f, n letters -/
def sbS (E : jEnv) (σ : jW) (a va N : Nat) (n : Int32) (f : Nat → Int32) : jW := j_up (j_up (j_up σ 0 (some (a, .inr (7, bV (.ref va) n)))) 4 none) 1 (some (va, bA E N f))
theorem sbS_sbS {E : jEnv} {σ : jW} {a a' va va' N N' : Nat} {n n' : Int32} {f f' : Nat → Int32} : sbS E (sbS E σ a va N n f) a' va' N' n' f' = sbS E σ a' va' N' n' f' := by
  funext r
  simp only [sbS, j_up]
  split
  · rfl
  · split
    · rfl
    · split <;> rfl
theorem sbS_o {E : jEnv} {σ : jW} {a va N : Nat} {n : Int32} {f : Nat → Int32} {r : Nat} (h : r ≠ 0 ∧ r ≠ 1 ∧ r ≠ 4) : sbS E σ a va N n f r = σ r := by
  simp [sbS, j_up, h.1, h.2.1, h.2.2]
theorem sbS_u1 {E : jEnv} {σ : jW} {a va N : Nat} {n : Int32} {f f' : Nat → Int32} : j_up (sbS E σ a va N n f) 1 (some (va, bA E N f')) = sbS E σ a va N n f' := by
  funext r
  simp only [sbS, j_up]
  split <;> rfl
theorem sbS_u0 {E : jEnv} {σ : jW} {a va N : Nat} {n n' : Int32} {f : Nat → Int32} : j_up (sbS E σ a va N n f) 0 (some (a, .inr (7, bV (.ref va) n'))) = sbS E σ a va N n' f := by
  funext r
  simp only [sbS, j_up]
  by_cases z : r = 0
  · subst z; rfl
  · simp [z]
theorem J_sbS {E : jEnv} {X : jX} {cc : ByteArray} {mL : Nat} {ret : Option FieldType} {own : String} {R : Room} {k n pc : Nat} {L : List (Option Value)} {st : List Value} {σ : jW} {Q : Option Value → jW → Prop} {a va N : Nat} {c : Int32} {f : Nat → Int32} (h0 : σ 0 = some (a, .inr (7, bV (.ref va) c))) (h1 : σ 1 = some (va, bA E N f)) (kk : J E wI X cc mL ret own R k n pc L st (sbS E σ a va N c f) Q) : J E wI X cc mL ret own R k n pc L st σ Q := by
  have key : ∀ r x, sbS E σ a va N c f r = some x → σ r = some x := by
    intro r x h
    by_cases z1 : r = 1
    · subst z1; exact h1.trans h
    · by_cases z4 : r = 4
      · subst z4
        have h' : (none : Option (Nat × jE)) = some x := h
        cases h'
      · by_cases z0 : r = 0
        · subst z0; exact h0.trans h
        · exact (sbS_o ⟨z0, z1, z4⟩).symm.trans h
  exact J_apart fun ap => J_view (fun r x h => ⟨r, key r x h⟩) (fun r1 r2 a e1 e2 g1 g2 => ap _ _ _ _ _ (key _ _ g1) (key _ _ g2)) kk
/-- a String at a, own (roles 2, 3) or a constant: array va of n letters g -/
def jSt (E : jEnv) (σ : jW) (a va n : Nat) (g : Nat → Int32) : Prop := ∃ h hz, ((σ 2 = some (a, .inr (8, stV (.ref va) h hz)) ∧ σ 3 = some (va, bA E n g)) ∨ ∃ i, i < 10 ∧ oC E i = (a, .inr (8, stV (.ref va) h hz)) ∧ oC E (10 + i) = (va, bA E n g))
theorem jSt.g0 {E : jEnv} {σ : jW} {a va n : Nat} {g : Nat → Int32} (x : jSt E σ a va n g) : ∃ h hz, jHas E σ a (.inr (8, stV (.ref va) h hz)) := by
  obtain ⟨h, hz, x | ⟨i, hi, x, -⟩⟩ := x
  · exact ⟨h, hz, Or.inl ⟨2, x.1⟩⟩
  · exact ⟨h, hz, Or.inr ⟨i, by omega, x⟩⟩
theorem jSt.g1 {E : jEnv} {σ : jW} {a va n : Nat} {g : Nat → Int32} (x : jSt E σ a va n g) : jHas E σ va (bA E n g) := by
  obtain ⟨h, hz, x | ⟨i, hi, -, x⟩⟩ := x
  · exact Or.inl ⟨3, x.2⟩
  · exact Or.inr ⟨10 + i, by omega, x⟩
theorem jSt.up {E : jEnv} {σ σ' : jW} {a va n : Nat} {g : Nat → Int32} (x : jSt E σ a va n g) (h2 : σ' 2 = σ 2) (h3 : σ' 3 = σ 3) : jSt E σ' a va n g := by
  obtain ⟨h, hz, x | x⟩ := x
  · exact ⟨h, hz, Or.inl ⟨h2.trans x.1, h3.trans x.2⟩⟩
  · exact ⟨h, hz, Or.inr x⟩
theorem jSt.own {E : jEnv} {σ : jW} {a va n : Nat} {g : Nat → Int32} {h hz : Int32} (x : σ 2 = some (a, .inr (8, stV (.ref va) h hz))) (y : σ 3 = some (va, bA E n g)) : jSt E σ a va n g := ⟨h, hz, Or.inl ⟨x, y⟩⟩
theorem jSt.out {E : jEnv} {σ : jW} (i : Nat) (hi : i < 10) : jSt E σ (sA E i) (sB E i) (sTx i).length (fun j => zI ((sTx i).getD j 0)) := by
  refine ⟨zI (sHs i), zI 0, Or.inr ⟨i, hi, ?_, ?_⟩⟩
  · simp only [oC, if_pos hi, sV_st]
  · have h1 : ¬ 10 + i < 10 := by omega
    have h2 : 10 + i < 20 := by omega
    simp only [oC, if_neg h1, if_pos h2, Nat.add_sub_cancel_left]

