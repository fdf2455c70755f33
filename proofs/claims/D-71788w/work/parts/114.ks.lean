/-! super calls -/
set_option maxRecDepth 100000
theorem k_subUp {s : State} {a b : ClassId} {args : Array Value} {x owner : String} (ha : s.vm.findClass x = some a) (hb : s.vm.findClass owner = some b) (h : owner = x ∨ (Cond.superclass x owner).before args s = true) : s.vm.isSubclass a b = true := by
  rcases h with h | h
  · subst h
    cases ha.symm.trans hb
    simp [Vm.isSubclass, Vm.isSubclassAux]
  · obtain ⟨ps, dk, kp, hps, hdk, hkp, hsuper, -⟩ := Cond.superclass_spec ha h
    cases hps.symm.trans hb
    have hz : a < s.vm.classes.size := (Array.getElem?_eq_some_iff.mp hdk).1
    obtain ⟨z, hz⟩ := Nat.exists_eq_succ_of_ne_zero (Nat.ne_of_gt (Nat.lt_of_le_of_lt (Nat.zero_le _) hz))
    show s.vm.isSubclassAux (s.vm.classes.size + 1) _ _ = true
    rw [hz, Vm.isSubclassAux, hdk]
    simp only [hsuper]
    rw [Vm.isSubclassAux, beq_self_eq_true, Bool.true_or, Bool.or_true]

section KS
variable {p : Program} {l : Launch} {e : Env} {R : Room} {s : State} {m : MethodId} {args : Array Value} {below : List Frame} {meth : Method} {c : Code} {H : Heap} {locs : List Loc} {cells slots : Nat}
theorem k_runSU {x y : MethodName} {bytes cc : ByteArray} {maxL nL mc ms n index : Nat} {ret : Option FieldType} {ws : List Cond} {rm : Room} {Pc : Array Value → State → Prop} {Qc : Array Value → State → Outcome → State → Prop} {free : Addr → Prop} {Ts : List Cond} {own C owner : String} {cC : ClassId} {b : Addr} {As rest : List Value} {g : JFrame}
    (hat : ClassAt s C cC) (S : CallFix p m c cc nL s args Ts own) (hM : Met l y ws rm Pc Qc mc ms free) (hws : GoodIn Ts ws) (hts : ∀ w ∈ Ts, w.before args s = true) (hw : Cond.code y bytes maxL ret ∈ ws) (hrc : rm.cells = mc) (hrs : rm.slots = ms) (hR : rm.frames + 1 ≤ R.frames ∧ 8 + (maxL + 11) + rm.locals ≤ R.locals)
    (hl1 : (Cond.methodLink own index x).before args s = true) (hl2 : (Cond.sameMethod x.cls owner x.name x.desc).before args s = true) (hl3 : (Cond.superclass own x.cls).before args s = true) (hl4 : (Cond.instanceMethod y).before args s = true) (hini : (Cond.initialized y.cls).before args s = true) (hyx : y = ⟨owner, x.name, x.desc⟩) (hup : owner = x.cls ∨ (Cond.superclass x.cls owner).before args s = true) (hno : x.name ≠ "<init>") (hlen : (parseMethodDescriptor x.desc).map (fun d => d.parameters.length) = some n) (hp : PreV s H C b Pc As)
    (hg : g.method = m) (hn : As.length = n) (hsize : g.locals.size = nL) (hstack : g.stack = As.reverse ++ .ref b :: rest) (hW : 2 * g.monitorRoom + (rest.map fun v => v.category).sum ≤ 8) (hdg : decode cc g.pc = .ok (.invokespecial index, 3)) (hf : cells + mc ≤ R.cells ∧ slots + ms ≤ R.slots) :
    va_Run p l e R s m args below meth c H locs cells slots mc ms g rest (Qc (Value.ref b :: As).toArray) (free) := by
  have hcode := hts _ (hws _ hw).1
  have hK : Back l R p e below s args y 3 8 (PreOf R mc ms Pc) (PostOf Qc mc ms free) := back_of (bytes := bytes) (maxL := maxL) (ret := ret) hM hp.1 hrc hrs hR.1 hR.2 (pay_in hts hws) hw (fun a' U hW => word_at hW (Or.inl (by first | rfl | simp [Cond.onTables, Cond.keeps, Cond.steady])) hini)
  obtain ⟨hx, hb, hml, ho, -⟩ := S
  obtain ⟨-, ⟨cellB, hcB, hoB, hclB⟩, hPc⟩ := hp
  obtain ⟨hfc, kB, hkB, -⟩ := hat
  cases hfc.symm.trans hclB
  intro T hT X
  obtain ⟨mk, methM, hnamed, hmethM, hstM, habM⟩ := Cond.instanceMethod_spec hl4
  obtain ⟨methM', cM, hmethM', -, -, -, -, -, -, hsigM⟩ := Cond.code_spec hnamed hcode
  cases hmethM.symm.trans hmethM'
  obtain ⟨ps, dk, kp, hps, hdk, hkp, hsuper, -, -, hnid⟩ := Cond.superclass_spec ho hl3
  have hnn : s.methodNamed? ⟨owner, x.name, x.desc⟩ = some mk := hyx ▸ hnamed
  have hsub : s.vm.isSubclass ps mk.cls = true := k_subUp hps (findClass_of_methodNamed hnn) hup
  have hlen' : As.length = methM.sig.parameters.length := by
    rw [hyx] at hsigM
    rw [hsigM] at hlen
    exact hn.trans (Option.some.inj hlen).symm
  obtain ⟨vm₁, X₁, hstep₁⟩ := X.invokespecialUp hx ho hl1 hl2 hnn hmethM hstM habM hno hdk hnid hps hsuper hsub (a := b) (cell := cellB) (by rw [hT]; exact hcB) (fun z h => by rw [h] at hoB; cases hoB) hkB (g := g) hg (argsL := As) (rest := rest) hlen' hstack (by rw [hb]; exact hdg)
  obtain ⟨v, ⟨U', l2, c2, s2⟩, X', ⟨g', mk', t, L, e1, e2, hq, h1, hL, h2, h3⟩, st⟩ := hK m meth c ⟨T.setVm vm₁, locs, cells, slots⟩ { g with stack := rest } (.invokespecial index) mk (Value.ref b :: As).toArray X₁ hg (hsize.trans hml.symm) (by rw [hb]; exact hdg) hW (X₁.named hnamed) ⟨hf.1, hf.2, hPc (T.setVm vm₁) hT X₁.warmed⟩
  dsimp only [Pt.U, Pt.locs, Pt.cells, Pt.slots] at X' e1 e2 h1 h2 h3 st
  subst h1; subst h2; subst h3
  exact ⟨v, (T.setVm vm₁).calling g' mk' (Value.ref b :: As).toArray, t, U', L, hT, X', hL, e1, e2, hq, fun target h => hstep₁ _ (by rw [doInvoke_state]; exact st.trans h)⟩
end KS
section JC
variable {E : jEnv} {St : Type} {w : St → jW} {X : jX} {cc : ByteArray} {mL : Nat} {ret : Option FieldType} {own : String} {R : Room} {k n pc : Nat} {L : List (Option Value)} {st : List Value} {σ : St} {Q : Option Value → St → Prop}
theorem J_eSU {y : MethodName} {cc' : ByteArray} {mL' : Nat} {ret' : Option FieldType} {R' : Room} {C : String} {T : u_T} {N index ci a : Nat} {V : Nat → Value} {x : MethodName} {owner : String} (As : List Value) (na r : Nat) (hr : w σ r = some (a, .inr (ci, V))) (hc : CL[ci]? = some (C, T, N)) (q1 : Cond.methodLink own index x ∈ lw_all) (q2 : Cond.sameMethod x.cls owner x.name x.desc ∈ lw_all) (q3 : Cond.superclass own x.cls ∈ lw_all) (q4 : Cond.instanceMethod y ∈ lw_all) (q5 : Cond.initialized y.cls ∈ lw_all) (q6 : Cond.code y cc' mL' ret' ∈ lw_all) (hyx : y = ⟨owner, x.name, x.desc⟩) (hup : owner = x.cls ∨ Cond.superclass x.cls owner ∈ lw_all) (hno : x.name ≠ "<init>") (hd : (parseMethodDescriptor x.desc).map (fun d => d.parameters.length) = some na) (hX : j_X1 X.1) (hR : R'.frames + 1 ≤ R.frames ∧ 8 + (mL' + 11) + R'.locals ≤ R.locals) (hcs : k + R'.cells ≤ R.cells ∧ n + R'.slots ≤ R.slots) (hAs : As.length = na) (hst : (st.map fun v => v.category).sum ≤ 8) (d : decode cc pc = .ok (.invokespecial index, 3)) (hJ : JE E w X.1 y (ws_ y cc' mL' ret') R' (.ref a :: As) σ (fun v σ' => J E w X cc mL ret own R (k + R'.cells) (n + R'.slots) (pc + 3) L (v.toList ++ st) σ' Q)) : J E w X cc mL ret own R k n pc L (As.reverse ++ .ref a :: st) σ Q := by
  intro p e s m args below meth c A H locs ls C0 hXs hA hk hn hP hD hS hL
  have hrecv : ∃ cell : Cell, H[a]? = some cell ∧ cell.vm.isStatics = false ∧ s.vm.findClass C = some cell.cls := by
    obtain ⟨r', h1, cell, g1, g2, g3, -⟩ := hP r _ _ hr
    exact ⟨cell, g1, by rw [g3]; rfl, by rw [g2]; exact (C0.2.2.2.2.2.2.2.1 ci _ hc).2.1⟩
  refine j_back (σ2 := σ) (k_runSU (C0.2.2.2.2.2.2.2.1 ci _ hc).2 (As := As) (rest := st) ⟨C0.1, C0.2.1, C0.2.2.2.2.1, C0.2.2.2.2.2.1, C0.2.2.2.2.2.2.1⟩ (hJ H.size) (lw_meth q6) C0.2.2.2.2.2.2.1 List.mem_cons_self rfl rfl hR (C0.2.2.2.2.2.2.1 _ q1) (C0.2.2.2.2.2.2.1 _ q2) (C0.2.2.2.2.2.2.1 _ q3) (C0.2.2.2.2.2.2.1 _ q4) (C0.2.2.2.2.2.2.1 _ q5) hyx (hup.imp id (fun h => C0.2.2.2.2.2.2.1 _ h)) hno hd ⟨j_blind hX, hrecv, fun U hU hW => j_start hX hXs.1 hA C0.2.2.2.2.2.2.2 hP hD hS hU hW⟩ rfl hAs hL.1 rfl (lv_room hst) d hcs) hA hD hS ?_
  intro v σ1 H1 locs1 hq hP1 hD1 hz hkp hS1
  exact hq p e s m args below meth c A H1 locs1 ls C0 hXs hA hcs.1 hcs.2 hP1 ⟨hD1.1, fun r a e h => j_freeA hA hD hS _ (hD1.2 r a e h)⟩ hS1 hL
end JC
