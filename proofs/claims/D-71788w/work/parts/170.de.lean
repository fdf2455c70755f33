set_option maxRecDepth 100000
/-! what a native throws, no traces kept (turned from the kit's vx_vmAt) -/
set_option maxHeartbeats 1000000 in
theorem k_vmAtN {p : Program} {l : Launch} {e : Env} {R : Room} {s : State} {m₀ : MethodId} {args : Array Value} {below : List Frame} {meth : Method} {c : Code} {W : State} {locs : List Loc} {cells slots : Nat}
    (X : Stand p l e R s m₀ args below meth c W locs cells slots) (hexec : p.tables.exec = Jvm.exec) (htr : e.platform.stackTraces = false) {cls : String} {names : List String} {text : String}
    (hcls : Bundle.fit cls = true) (hnames : ∀ n ∈ names, Bundle.fit n = true) (hsoe : (cls == "java/lang/StackOverflowError") = false) (hoom : (cls == "java/lang/OutOfMemoryError") = false)
    (h : ∀ a ∈ Bundle.messageArmAtoms cls names, a.before args s = true)
    (hlocs : ∀ x ∈ locs, ∀ cell, s.heap[x.base]? = some cell → cell.vm.isStatics = false)
    (htext : (text == notModelled) = false) (hlimit : ¬ (stringBytes (stringToUtf16 text)).size > e.platform.arrayLengthLimit) (hheap : ¬ (stringBytes (stringToUtf16 text)).size * componentBytes .byte > e.platform.maxHeapBytes)
    {g : JFrame} (hg : g.method = m₀) (hsize : g.locals.size = c.maxLocals) {nf : NFrame} (hnf : nf.words = 0) (haw : nf.awaiting = false) (hnl : nf.locked = none)
    (hRframes : names.length + 5 < R.frames) (hRlocals : 2 * g.monitorRoom + (g.stack.map fun v => v.category).sum + 10240 ≤ R.locals) (hshort : 13 * names.length + 55 ≤ 10240)
    (hRcells : cells + 3 ≤ R.cells) (hRslots : slots + ((stringBytes (stringToUtf16 text)).size + 4 + 6) ≤ R.slots) (hlocks : meth.locks = false) :
    ∃ (S : State) (q : Addr) (ce : Cell), (∀ target, Steps p.tables e below ((S.setTop g).pushFrame (.throwing q)) target → Steps p.tables e below (W.setFrames (.throwNew cls (some text) none :: .native nf :: .java g :: below)) target) ∧
      Stand p l e R s m₀ args below meth c S locs (cells + 3) (slots + ((stringBytes (stringToUtf16 text)).size + 4 + 6)) ∧ S.heap[q]? = some ce ∧ s.vm.findClass cls = some ce.cls ∧ ce.vm = .none := by
  have howns : e.platform.frameOwnsMonitors = true := by rw [X.admits.platform]
  have hfin : e.platform.finalization = false := by rw [X.admits.platform]
  have hpl : e.platform.magicAccessors = ({} : Platform).magicAccessors := by rw [X.admits.platform]
  have a : ∀ x, x ∈ Bundle.messageArmAtoms cls names → x.holds args s none s [] = true := fun x hx => h x hx
  obtain ⟨T, Z0, L, -, Y⟩ := ThrowableC.of_atoms (args := args) howns hfin hpl (fun x hx => h x (by simp [Bundle.messageArmAtoms, hx]))
  obtain ⟨Z, M, LZ, LM, hnZ⟩ := Init0T.ofS_atoms (args := args) hpl L Y (fun x hx => h x (by simp [Bundle.messageArmAtoms, hx]))
  obtain ⟨P1, Ps, hlen, L1, hL, hP1m, hlink1, hlink⟩ := Bundle.chainS (args := args) hpl hnZ names cls hcls hnames (fun x hx => h x (by simp [Bundle.messageArmAtoms, hx]))
  obtain ⟨Zs, LZs, hn4, hfitv, hfitc⟩ := StringT.of_atoms (args := args) (fun x hx => h x (by simp [Bundle.messageArmAtoms, hx]))
  have hfound : s.vm.findClass cls = some P1.m.cls := findClass_of_methodNamed hP1m
  obtain ⟨c1, kX, hc1, hk, hord, -, -, hn6⟩ := Cond.instantiable_spec (a (.instantiable cls 6) (by simp [Bundle.messageArmAtoms]))
  cases Option.some.inj (hc1.symm.trans hfound)
  have hinit := Cond.initialized_spec hfound hk (a (.initialized cls) (by simp [Bundle.messageArmAtoms]))
  have hctor : kX.findMethod "<init>" "(Ljava/lang/String;)V" = some P1.m.idx := findMethod_of_methodNamed hP1m hk
  have hsel0 : selectMethod e.platform s.vm P1.m.cls T.fill0 = .method T.fill0 := by
    obtain ⟨c2, r2, m2, q1, q2, q3, q4, -⟩ := Cond.selects_spec (a (.selects cls Bundle.tFill0 Bundle.tFill0) (by simp [Bundle.messageArmAtoms]))
    cases Option.some.inj (q1.symm.trans hfound)
    cases Option.some.inj (q2.symm.trans (State.methodFound?_of_named Y.fill0 (by decide)))
    cases Option.some.inj (q3.symm.trans Y.fill0)
    rw [Launch.admits_selectMethod X.admits]; exact q4
  have hselF : selectMethod e.platform s.vm P1.m.cls T.fill = .method T.fill := by
    obtain ⟨c2, r2, m2, q1, q2, q3, q4, -⟩ := Cond.selects_spec (a (.selects cls Bundle.tFill Bundle.tFill) (by simp [Bundle.messageArmAtoms]))
    cases Option.some.inj (q1.symm.trans hfound)
    cases Option.some.inj (q2.symm.trans (State.methodFound?_of_named Y.fill (by decide)))
    cases Option.some.inj (q3.symm.trans Y.fill)
    rw [Launch.admits_selectMethod X.admits]; exact q4
  obtain ⟨cellS0, hcS0, hiss⟩ := Y.statics
  obtain ⟨u0, hu0⟩ := Cond.staticRefV Y.unassigned L.unassignedStatic L.statics hcS0 hiss (a (.isRef (.static Bundle.tN "UNASSIGNED_STACK" Bundle.steD)) (by simp [Bundle.messageArmAtoms]))
  obtain ⟨sen, hsen⟩ := Cond.staticRefV Y.sentinel L.sentinelStatic L.statics hcS0 hiss (a (.isRef (.static Bundle.tN "SUPPRESSED_SENTINEL" Bundle.listD)) (by simp [Bundle.messageArmAtoms]))
  obtain ⟨ci198, i198, fB, hk198, hg198, ha198, hsB, -, hnB, htB, hffB⟩ := Cond.ownField (t := .object "java/lang/Object") Y.found L.cls (by decide +kernel) (a (.fieldLink Bundle.tN 198 Bundle.tN "backtrace" "Ljava/lang/Object;") (by simp [Bundle.messageArmAtoms])) (a (.lays Bundle.tN Bundle.tN "backtrace" "Ljava/lang/Object;") (by simp [Bundle.messageArmAtoms])) e.platform hpl
  obtain ⟨cellS, hcS', heS, -, hkeep⟩ := X.same.2.2.2.2.2 T.aS cellS0 hcS0
  have hcellS : W.heap[T.aS]? = some cellS := hcS'
  have hout' : ∀ i, (⟨T.aS, i⟩ : Loc) ∉ locs := fun i hmem => by
    have := hlocs _ hmem cellS0 hcS0
    rw [hiss] at this; cases this
  have hknownS : cellS.vm ≠ .unknown := by
    rw [heS]; intro hu
    rw [show cellS0.vm = .unknown from hu] at hiss
    cases hiss
  have hvU : cellS.slots[T.fUnassigned.slot]? = some u0.v := by rw [hkeep _ (hout' _)]; exact hu0
  have hvSen : cellS.slots[T.fSentinel.slot]? = some sen.v := by rw [hkeep _ (hout' _)]; exact hsen
  obtain ⟨iM, hffM⟩ := Y.msg
  obtain ⟨tyC, dC, hdC, hdnC⟩ := Cond.laysAt hfound hk Y.cause (a (.lays cls Bundle.tN "cause" "Ljava/lang/Throwable;") (by simp [Bundle.messageArmAtoms]))
  obtain ⟨tyS, dS, hdS, hdnS⟩ := Cond.laysAt hfound hk Y.stack (a (.lays cls Bundle.tN "stackTrace" Bundle.steD) (by simp [Bundle.messageArmAtoms]))
  obtain ⟨tyP, dP, hdP, hdnP⟩ := Cond.laysAt hfound hk Y.supp (a (.lays cls Bundle.tN "suppressedExceptions" Bundle.listD) (by simp [Bundle.messageArmAtoms]))
  obtain ⟨tyM, dM, hdM, hdnM⟩ := Cond.laysAt hfound hk hffM (a (.lays cls Bundle.tN "detailMessage" "Ljava/lang/String;") (by simp [Bundle.messageArmAtoms]))
  obtain ⟨tyB, dB, hdB, hdnB⟩ := Cond.laysAt hfound hk hffB (a (.lays cls Bundle.tN "backtrace" "Ljava/lang/Object;") (by simp [Bundle.messageArmAtoms]))
  have bC := Cond.laysApart hdB hdC hdnB hdnC (by rw [hnB, Y.causeName]; decide)
  have bS := Cond.laysApart hdB hdS hdnB hdnS (by rw [hnB, Y.stackName]; decide)
  have bP := Cond.laysApart hdB hdP hdnB hdnP (by rw [hnB, Y.suppName]; decide)
  have hbk : ((preparedCellV T.toThrowableT (freshCell P1.m.cls kX) (W.heap.size + 2) u0 sen).withEntry W.cur).slots[fB.slot]? = some .null := by
    have := fresh_default (c := P1.m.cls) tyB
    rw [htB] at this
    simpa [preparedCellV, Cell.setSlot, Cell.withEntry, Array.getElem?_setIfInBounds, bC, bS, bP, bC.symm, bS.symm, bP.symm, defaultValue] using this
  have tkC := Takes.of_laid (v := .ref (W.heap.size + 2)) hk hord tyC (by rw [Y.causeType]; rfl)
  have tkS := Takes.of_laid (v := u0.v) hk hord tyS (by rw [Y.stackType]; exact fits_refV_array _ u0)
  have tkP := Takes.of_laid (v := sen.v) hk hord tyP (by rw [Y.suppType]; exact fits_refV_object _ sen)
  have tkM := Takes.of_laid (v := .ref (W.heap.size + 1)) hk hord tyM (by rw [Y.msgType]; rfl)
  have hskip : SkipFacts T e.platform s (fun u => u) u0 ((preparedCellV T.toThrowableT (freshCell P1.m.cls kX) (W.heap.size + 2) u0 sen).withEntry W.cur) := ⟨{ ci198 := ci198, i198 := i198, fBack := fB }, ⟨hk198, hg198, ha198, hsB⟩, hbk, fun _ _ => rfl⟩
  obtain ⟨vm', X5, h1, -⟩ := X.nativeThrowsMessageColdBareV hexec hsize hnf T L Z LZ M LM Zs LZs P1 L1 Ps hL hlink1 hlink hsoe hoom hfound hk hinit hord hctor htext hlimit hheap
    (hfitv _) (hfitc _) hsel0 hselF hcellS hknownS hvU hvSen tkC tkS tkP tkM Y.objLocals hskip (fun _ _ hA hW _ hroom _ hrest => L.nativeOff p htr hA hW hroom hrest)
    (by rw [hlen]; exact hRframes) hRlocals (by rw [hlen]; exact hshort) (by omega) (by rw [hn4, hn6]; omega)
  have b1 : (bytesOf Zs.cB (stringToUtf16 text)).slots.size = (stringBytes (stringToUtf16 text)).size := by
    rw [(Cell.writeAll_facts _ _).2.2]; simp [bytes0]
  have b2 : (stringAt Zs.cS Zs.kS Zs.fv Zs.fc (stringToUtf16 text) W.heap.size).slots.size = 4 := by simp [string0, Cell.setSlot, hn4]
  have b3 : (freshCell P1.m.cls kX).slots.size = 6 := by simp [hn6]
  have ha : W.heap.size + 2 < ((withThrown W Zs text P1.m.cls kX).setVm vm').heap.size := by
    show W.heap.size + 2 < (withThrown W Zs text P1.m.cls kX).heap.size
    rw [(withThrown_facts e.platform W Zs text P1.m.cls kX).2.2.1]; omega
  rw [b1, b2, b3] at X5
  have e9 : slots + (stringBytes (stringToUtf16 text)).size + 4 + 6 = slots + ((stringBytes (stringToUtf16 text)).size + 4 + 6) := by omega
  rw [e9] at X5
  generalize (withThrown W Zs text P1.m.cls kX) = WT at X5 h1 ha
  obtain ⟨g₁, hfrM⟩ := X5.frames_eq
  have hcurU := State.cur_lt_of_frames hfrM
  have hhere := X5.here
  refine ⟨_, W.heap.size + 2, _, fun target ht => h1.trans (Steps.throwingLeavesNative ⟨hhere.running, hhere.runnable, hhere.alone⟩ hcurU ⟨[.java g], rfl⟩ haw hnl ?_),
    X5.forget (fun y hy => ?_), heapAt_setCell_self _ ha, hfound, rfl⟩
  · rw [State.pushFrame, State.frames_setTop _ hfrM, State.setTop_of_frames _ hfrM, State.setFrames_setFrames] at ht
    exact ht
  · simp only [List.mem_cons, List.not_mem_nil, or_false] at hy
    have hge : s.heap.size ≤ W.heap.size := X.same.2.1
    rcases hy with rfl | rfl | rfl | rfl | rfl <;> exact Nat.le_trans hge (Nat.le_add_right _ 2)

section NPN
/-- a constructor of an exception that the machine makes over the frames base -/
theorem k_npIn {below : List Frame} {W : State} {base : List Frame} (h : Over W base below) (a : Addr) {m : MethodId} {meth : Method} {code : Code} (hm : W.vm.method? m = some meth) (hc : meth.code = some code) (hp : W.plainMethod m) :
    (W.setFrames (.thenThrow a :: base)).frames = .thenThrow a :: base ∧ At ((W.setFrames (.thenThrow a :: base)).pushFrame (.java (pass0J m a 0 []))) m code below ∧
    ((W.setFrames (.thenThrow a :: base)).pushFrame (.java (pass0J m a 0 []))).frames = .java (pass0J m a 0 []) :: .thenThrow a :: base := by
  obtain ⟨mid, hmid⟩ := h.above
  have f1 : (W.setFrames (.thenThrow a :: base)).frames = .thenThrow a :: base := State.frames_setFrames _ h.cur
  have c1 := State.cur_lt_of_frames f1
  refine ⟨f1, At.pushOn _ ⟨h.running, by simpa using h.runnable, by simpa using h.alone⟩ c1 ⟨.thenThrow a :: mid, by rw [f1, hmid]; rfl⟩ hm hc hp, ?_⟩
  have f2 : ((W.setFrames (.thenThrow a :: base)).pushFrame (.java (pass0J m a 0 []))).frames = .java (pass0J m a 0 []) :: (W.setFrames (.thenThrow a :: base)).frames := State.frames_setFrames _ c1
  rw [f2, f1]
/-- it returns, its cell as ce: the throw is on its way -/
theorem k_npRet {tb : Tables} [Ours tb] {e : Env} {below : List Frame} {W target : State} {base : List Frame} (h : Over W base below) (hexec : tb.exec = Jvm.exec) (a : Addr) (ce : Cell) {m : MethodId} {meth : Method} {code : Code}
    (hm : W.vm.method? m = some meth) (hc : meth.code = some code) (hp : W.plainMethod m) (hl : meth.locks = false) (h4 : decode code.code 4 = .ok (.return_, 1)) (hrest : Steps tb e below ((W.setCell a ce).setFrames (.throwing a :: base)) target) :
    Steps tb e below ((((W.setFrames (.thenThrow a :: base)).pushFrame (.java (pass0J m a 0 []))).setCell a ce).setTop (pass0J m a 4 [])) target := by
  obtain ⟨f1, hI, fI⟩ := k_npIn h a hm hc hp
  obtain ⟨mid, hmid⟩ := h.above
  have hH : HeapOnly (fun u : State => u.setCell a ce) := heapOnly_id.thenSetCell a ce
  have hB : At (((W.setFrames (.thenThrow a :: base)).pushFrame (.java (pass0J m a 0 []))).setCell a ce) m code below := hH.at_ hI
  have fH : (((W.setFrames (.thenThrow a :: base)).pushFrame (.java (pass0J m a 0 []))).setCell a ce).frames = .java (pass0J m a 0 []) :: .thenThrow a :: base := by
    have := hH.frames ((W.setFrames (.thenThrow a :: base)).pushFrame (.java (pass0J m a 0 [])))
    exact this.trans fI
  jvm_step hB [hexec, h4, Op.return_.wp_sem]
  intro acts2
  rw [ret_to (t := ((W.setFrames (.thenThrow a :: base)).pushFrame (.java (pass0J m a 0 []))).setCell a ce) (f := pass0J m a 4 []) (f₀ := pass0J m a 0 []) (below := .thenThrow a :: base) (fs := .thenThrow a :: base) (meth := meth) fH hm hl rfl rfl rfl acts2]
  have cH := State.cur_lt_of_frames fH
  have f2 : ((((W.setFrames (.thenThrow a :: base)).pushFrame (.java (pass0J m a 0 []))).setCell a ce).setFrames (.thenThrow a :: base)).frames = .thenThrow a :: base := State.frames_setFrames _ cH
  refine Steps.head ⟨hB.running, by simpa using hB.runnable, by simpa using hB.alone⟩ ⟨.thenThrow a :: mid, by rw [f2, hmid]; rfl, by simp, by simp⟩ ?_
  rw [stepThread_thenThrow f2]
  show Steps tb e below (((((W.setFrames (.thenThrow a :: base)).pushFrame (.java (pass0J m a 0 []))).setCell a ce).setFrames (.thenThrow a :: base)).setFrames (.throwing a :: base)) target
  have eF : ∀ F, (((W.setFrames (.thenThrow a :: base)).pushFrame (.java (pass0J m a 0 []))).setCell a ce).setFrames F = (W.setCell a ce).setFrames F := fun F => by
    have e1 : ∀ (u : State) F, (u.setFrames F).setCell a ce = (u.setCell a ce).setFrames F := fun _ _ => rfl
    rw [State.pushFrame, e1, e1, State.setFrames_setFrames, State.setFrames_setFrames]
  rw [State.setFrames_setFrames, eF]
  exact hrest
set_option maxHeartbeats 1000000 in
/-- NullPointerException made by the machine over any frames, no traces: its cell's slots are set, it is on its way -/
theorem k_npOver (p : Program) {e : Env} {below : List Frame} {s₀ S : State} {base : List Frame} (h : Over S base below) (hexec : p.tables.exec = Jvm.exec)
    (T : ThrowableC) (L : T.Links e.platform s₀) (Z : Init0T) (LZ : Z.Laid T.toThrowableT) (N : NpeC) (LN : N.Links T e.platform s₀) (hW : s₀.WarmedH S.vm)
    (P1 : PassC) (L1 : P1.Links0 e.platform s₀) (Ps : List PassC) (hL : ∀ P, P ∈ Ps → P.Links0 e.platform s₀) (hlink1 : P1.sup = firstOf (Z.m T.toThrowableT) (Ps.map (·.toPassT))) (hlink : PassesOn (Z.m T.toThrowableT) (Ps.map (·.toPassT)))
    {kX : Class} (hfound : s₀.vm.findClass "java/lang/NullPointerException" = some P1.m.cls) (hk : s₀.vm.classes[P1.m.cls]? = some kX) (hinit : kX.init = .initialized) (hord : kX.kind = .ordinary) (hctor : kX.findMethod "<init>" "()V" = some P1.m.idx) (hhot : e.platform.hotImplicitExceptions = false)
    (hbeyond : e.platform.stackBeyond ((((S.setFrames (.throwNew "java/lang/NullPointerException" none none :: base)).threads[S.cur]?).map (·.stackBytes)).getD 0) (S.setFrames (.throwNew "java/lang/NullPointerException" none none :: base)).frames = false)
    (hfreeW : e.platform.vmThrowRoom ≤ e.platform.stackFree ((((S.setFrames (.throwNew "java/lang/NullPointerException" none none :: base)).threads[S.cur]?).map (·.stackBytes)).getD 0) (S.setFrames (.throwNew "java/lang/NullPointerException" none none :: base)).frames)
    (hcells : S.heap.size + 1 ≤ e.platform.maxCells) (hslots : S.slotsUsed + kX.instanceTypes.size ≤ e.platform.maxSlots) {u0 sen : RefV} {cellS : Cell}
    (hsel0 : selectMethod e.platform s₀.vm P1.m.cls T.fill0 = .method T.fill0) (hcellS : S.heap[T.aS]? = some cellS) (hknownS : cellS.vm ≠ .unknown) (hvU : cellS.slots[T.fUnassigned.slot]? = some u0.v)
    (hv0 : (freshCell P1.m.cls kX).slots[N.fState.slot]? = some (.int 0)) (hneC : T.fCause.slot ≠ N.fState.slot) (hneSt : T.fStack.slot ≠ N.fState.slot) (hneP : T.fSupp.slot ≠ N.fState.slot)
    (htS : Takes s₀ (freshCell P1.m.cls kX) T.fStack u0.v) (ht1 : Takes s₀ (freshCell P1.m.cls kX) N.fState (.int 1))
    (hskip : SkipFacts T e.platform s₀ (fun u => u) u0 ((npeCell N.toNpeT (preparedCellV T.toThrowableT (freshCell P1.m.cls kX) S.heap.size u0 sen) S.cur).withEntry S.cur))
    (hnat : u0.v ≠ .null → ∀ u : State, At u T.fill T.codeFill below → s₀.WarmedH u.vm → u.heap[S.heap.size]? = some ((npeCell N.toNpeT (preparedCellV T.toThrowableT (freshCell P1.m.cls kX) S.heap.size u0 sen) S.cur).withEntry S.cur) →
      e.platform.stackFull (((u.setTop (fillJ T.fill S.heap.size 16 [])).threads[(u.setTop (fillJ T.fill S.heap.size 16 [])).cur]?).getD { frames := [] }) (u.setTop (fillJ T.fill S.heap.size 16 [])).frames (nativeFrameWords "java/lang/Throwable" "fillInStackTrace" 2) = false → ∀ t' : State,
      Steps p.tables e below (u.setTop (fillJ T.fill S.heap.size 19 [.ref S.heap.size])) t' → Steps p.tables e below (doInvoke e (u.setTop (fillJ T.fill S.heap.size 16 [])) [] T.fill0 #[.ref S.heap.size, .int 0]).1 t')
    (hselF : selectMethod e.platform s₀.vm P1.m.cls T.fill = .method N.fill) (hvSen : cellS.slots[T.fSentinel.slot]? = some sen.v) (htC : Takes s₀ (freshCell P1.m.cls kX) T.fCause (.ref S.heap.size)) (htP : Takes s₀ (freshCell P1.m.cls kX) T.fSupp sen.v) (hobjLocals : T.codeObj.maxLocals = 1)
    (hframes : base.length + Ps.length + 5 < (e.platform.stackLimits S.me).1) (hwords : (stackUse base).2 + 13 * Ps.length + 68 ≤ (e.platform.stackLimits S.me).2) :
    ∃ vm', s₀.WarmedH vm' ∧ ∀ target, Steps p.tables e below ((((S.pushCell (freshCell P1.m.cls kX)).setVm vm').setCell S.heap.size (((npeCell N.toNpeT (preparedCellV T.toThrowableT (freshCell P1.m.cls kX) S.heap.size u0 sen) S.cur).withEntry S.cur).setSlot T.fStack.slot u0.v).left.left).setFrames (.throwing S.heap.size :: base)) target →
      Steps p.tables e below (S.setFrames (.throwNew "java/lang/NullPointerException" none none :: base)) target := by
  obtain ⟨kX', hk', he'⟩ := hW.alike.2.2 _ _ hk
  have hfresh : freshCell P1.m.cls kX' = freshCell P1.m.cls kX := by
    show ({ cls := P1.m.cls, slots := kX'.instanceTypes.map defaultValue, vm := .none } : Cell) = { cls := P1.m.cls, slots := kX.instanceTypes.map defaultValue, vm := .none }
    rw [he']
  have hlt : T.aS < S.heap.size := (Array.getElem?_eq_some_iff.mp hcellS).1
  have hO : Over (S.pushCell (freshCell P1.m.cls kX)) base below := (Over.pushCell_iff _).mpr h
  have hSs : (S.pushCell (freshCell P1.m.cls kX)).heap[T.aS]? = some cellS := by
    rw [← hcellS]
    simp [State.pushCell, Array.getElem?_push, Nat.ne_of_lt hlt]
  have hmW := hW.methodAt L1.method
  have hpW := hW.plainAt (U := S.pushCell (freshCell P1.m.cls kX)) L1.plain
  obtain ⟨fN, hI, fI⟩ := k_npIn hO S.heap.size hmW L1.code hpW
  obtain ⟨vm1, hW1, st1⟩ := Steps.invokeInitCold (tb := p.tables) (s₀ := s₀) (U := ((S.pushCell (freshCell P1.m.cls kX)).setFrames (.thenThrow S.heap.size :: base)).pushFrame (.java (pass0J P1.m S.heap.size 0 []))) (f := pass0J P1.m S.heap.size 1 [.ref S.heap.size]) (args := []) (rest := []) (a := S.heap.size) hI hexec L1.at1 hW L1.links L1.right L1.notHandle L1.cls L1.file L1.pool
    L1.supClass L1.supMethod L1.supName L1.supStatic L1.supAbstract L1.supFound L1.supParams.symm rfl
  have hI1 := hI.setVm (hW.alike.symm.trans hW1.alike)
  have hlimN : e.platform.stackLimits ((S.pushCell (freshCell P1.m.cls kX)).setFrames (.thenThrow S.heap.size :: base)).me = e.platform.stackLimits S.me := by rw [State.stackLimits_setFrames]; rfl
  obtain ⟨vm2, hW2, st2⟩ := Steps.initNpe0ColdByV p (V := (((S.pushCell (freshCell P1.m.cls kX)).setFrames (.thenThrow S.heap.size :: base)).pushFrame (.java (pass0J P1.m S.heap.size 0 []))).setVm vm1) (g := pass0J P1.m S.heap.size 1 []) (c := P1.code) (self := S.heap.size) hI1 hexec T L Z LZ N LN hW1 (t := S.cur) rfl
    (Nn := fun u => u) heapOnly_id (fun _ _ => rfl) (fun _ => rfl) (fun u x y => setCell_twice _ _ _ _) (fun _ => Nat.le_refl _) (cN := ((npeCell N.toNpeT (preparedCellV T.toThrowableT (freshCell P1.m.cls kX) S.heap.size u0 sen) S.cur).withEntry S.cur)) (State.heap_pushCell_size S (freshCell P1.m.cls kX)) (by intro k hk'; cases hk') (by intro hk'; cases hk') rfl hk hsel0 hSs (Nat.ne_of_lt hlt) hknownS hvU hv0 hneC hneSt hneP htS ht1
    (fun _ hu => hu) (fun _ hu => hu) rfl rfl rfl (by simp [npeCell, preparedCellV, Cell.setSlot, Cell.withEntry]) hskip hnat hselF hvSen htC htP hobjLocals Ps hL hlink (ig := .invokespecial P1.index) (len := 3) [] (lim := e.platform.stackLimits S.me) (by show e.platform.stackLimits (((S.pushCell (freshCell P1.m.cls kX)).setFrames (.thenThrow S.heap.size :: base)).pushFrame (.java (pass0J P1.m S.heap.size 0 []))).me = _; rw [State.stackLimits_pushFrame]; exact hlimN)
    (by show (((S.pushCell (freshCell P1.m.cls kX)).setFrames (.thenThrow S.heap.size :: base)).pushFrame (.java (pass0J P1.m S.heap.size 0 []))).frames.length + _ + _ < _; rw [fI]; simp only [List.length_cons]; omega)
    (by show (stackUse (_ :: (((S.pushCell (freshCell P1.m.cls kX)).setFrames (.thenThrow S.heap.size :: base)).pushFrame (.java (pass0J P1.m S.heap.size 0 []))).frames.tail)).2 + _ + _ ≤ _
        rw [fI, List.tail_cons, stackUse_java, stackUse_light _ _ (fun f hf => by cases hf) rfl]
        show (stackUse base).2 + (1 + 11 + 2 * 0 + operandWords []) + 13 * Ps.length + 55 ≤ (e.platform.stackLimits S.me).2
        simp only [operandWords, List.foldl_nil]
        omega)
    L1.at1
  refine ⟨vm2, hW2, fun target hrest => ?_⟩
  obtain ⟨mid, hmid⟩ := h.above
  have f0 : (S.setFrames (.throwNew "java/lang/NullPointerException" none none :: base)).frames = .throwNew "java/lang/NullPointerException" none none :: base := State.frames_setFrames _ h.cur
  refine Steps.head ⟨h.running, by simpa using h.runnable, by simpa using h.alone⟩ ⟨.throwNew "java/lang/NullPointerException" none none :: mid, by rw [f0, hmid]; rfl, by simp, by simp⟩ ?_
  rw [stepThread_throwNew f0, stepThrowNew_plain (s := S.setFrames (.throwNew "java/lang/NullPointerException" none none :: base)) (c := P1.m.cls) (k := kX') (i := P1.m.idx) (by decide) (by decide) (by show S.vm.findClass _ = _; rw [hW.alike.findClass]; exact hfound) hk' (by rw [he']; exact hinit) (by rw [he']; exact hord) hhot hbeyond hfreeW (by rw [he']; exact hctor) hcells (by rw [he']; exact hslots), hfresh]
  have eN : ((S.setFrames (.throwNew "java/lang/NullPointerException" none none :: base)).pushCell (freshCell P1.m.cls kX)).setFrames (.thenThrow ((S.setFrames (.throwNew "java/lang/NullPointerException" none none :: base)).heap.size) :: base) = (S.pushCell (freshCell P1.m.cls kX)).setFrames (.thenThrow S.heap.size :: base) := by
    rw [State.pushCell_setFrames, State.setFrames_setFrames]
    rfl
  rw [eN]
  have hroom := roomAbove (pl := e.platform) (u := (S.pushCell (freshCell P1.m.cls kX)).setFrames (.thenThrow S.heap.size :: base)) (vars := 1) (pushed := [.thenThrow S.heap.size]) (base := base) (free := 13 * Ps.length + 68) (lim := e.platform.stackLimits S.me) fN hlimN
    (by simp only [List.length_cons, List.length_nil]; omega) (by omega) (by rw [stackUse_light _ _ (fun f hf => by cases hf) rfl, stackUse_nil]; show 0 + 1 + 11 ≤ _; omega)
  show Steps p.tables e below (doInvoke e ((S.pushCell (freshCell P1.m.cls kX)).setFrames (.thenThrow S.heap.size :: base)) [] P1.m #[.ref S.heap.size]).1 target
  rw [(doInvoke_java (s := (S.pushCell (freshCell P1.m.cls kX)).setFrames (.thenThrow S.heap.size :: base)) (e := e) (acts := []) (args := #[.ref S.heap.size]) (meth := P1.meth) (code := P1.code) hmW L1.code L1.locks (by rw [L1.locals]; exact hroom)).1, L1.locals]
  show Steps p.tables e below (((S.pushCell (freshCell P1.m.cls kX)).setFrames (.thenThrow S.heap.size :: base)).pushFrame (.java (pass0J P1.m S.heap.size 0 []))) target
  rw [← State.setTop_self (s := ((S.pushCell (freshCell P1.m.cls kX)).setFrames (.thenThrow S.heap.size :: base)).pushFrame (.java (pass0J P1.m S.heap.size 0 []))) (State.topJava?_of_frames fI)]
  jvm_step hI [hexec, L1.at0, Value.isRef]
  refine st1 target ?_
  rw [hlink1]
  refine st2 target ?_
  have := k_npRet (W := (S.pushCell (freshCell P1.m.cls kX)).setVm vm2) (hO.setVm (hW.alike.symm.trans hW2.alike)) hexec S.heap.size (((npeCell N.toNpeT (preparedCellV T.toThrowableT (freshCell P1.m.cls kX) S.heap.size u0 sen) S.cur).withEntry S.cur).setSlot T.fStack.slot u0.v).left.left (hW2.methodAt L1.method) L1.code (hW2.plainAt (U := (S.pushCell (freshCell P1.m.cls kX)).setVm vm2) L1.plain) L1.locks L1.at4 hrest
  exact this
set_option maxHeartbeats 1000000 in
theorem k_npeAtN {p : Program} {l : Launch} {e : Env} {R : Room} {s : State} {m₀ : MethodId} {args : Array Value} {below : List Frame} {meth : Method} {c : Code} {W : State} {locs : List Loc} {cells slots : Nat}
    (X : Stand p l e R s m₀ args below meth c W locs cells slots) (hexec : p.tables.exec = Jvm.exec) (htr : e.platform.stackTraces = false) {n : Nat}
    (h : ∀ a ∈ Bundle.npeArmAtoms n, a.before args s = true)
    (hlocs : ∀ x ∈ locs, ∀ cell, s.heap[x.base]? = some cell → cell.vm.isStatics = false)
    {g : JFrame} (hg : g.method = m₀) (hsize : g.locals.size = c.maxLocals) {nf : NFrame} (hnf : nf.words = 0) (haw : nf.awaiting = false) (hnl : nf.locked = none)
    (hRframes : 8 < R.frames) (hRlocals : 2 * g.monitorRoom + (g.stack.map fun v => v.category).sum + 10240 ≤ R.locals)
    (hRcells : cells + 1 ≤ R.cells) (hRslots : slots + n ≤ R.slots) (hlocks : meth.locks = false) :
    ∃ (S : State) (q : Addr) (ce : Cell), (∀ target, Steps p.tables e below ((S.setTop g).pushFrame (.throwing q)) target → Steps p.tables e below (W.setFrames (.throwNew "java/lang/NullPointerException" none none :: .native nf :: .java g :: below)) target) ∧
      Stand p l e R s m₀ args below meth c S locs (cells + 1) (slots + n) ∧ S.heap[q]? = some ce ∧ s.vm.findClass "java/lang/NullPointerException" = some ce.cls ∧ ce.vm = .none := by
  have howns : e.platform.frameOwnsMonitors = true := by rw [X.admits.platform]
  have hfin : e.platform.finalization = false := by rw [X.admits.platform]
  have hpl : e.platform.magicAccessors = ({} : Platform).magicAccessors := by rw [X.admits.platform]
  have hpl2 : e.platform.arrayCloneIsPublic = true := by rw [X.admits.platform]
  have a' : ∀ x, x ∈ Bundle.npeArmAtoms n → x.holds args s none s [] = true := fun x hx => h x hx
  obtain ⟨T, Z, L, LZ, Y⟩ := ThrowableC.of_atoms (args := args) howns hfin hpl (fun x hx => h x (by simp [Bundle.npeArmAtoms, hx]))
  obtain ⟨N, LN, hcN, hnNF, hordN, hffS⟩ := NpeC.of_atoms (args := args) hpl hpl2 L Y (fun x hx => h x (by simp [Bundle.npeArmAtoms, hx]))
  obtain ⟨P1, L1, hP1m, hP1s⟩ := PassC.of_atoms (args := args) (s := s) hpl (X := Bundle.nN) (Y := Bundle.rN) (by decide) (by decide) LibCode.NullPointerException.Init0.at_0 LibCode.NullPointerException.Init0.at_1 LibCode.NullPointerException.Init0.at_4 (fun x hx => h x (by simp [Bundle.npeArmAtoms, hx]))
  obtain ⟨PR, LR, hPRm, hPRs⟩ := PassC.of_atoms (args := args) (s := s) hpl (X := Bundle.rN) (Y := Bundle.eN) (by decide) (by decide) LibCode.RuntimeException.Init0.at_0 LibCode.RuntimeException.Init0.at_1 LibCode.RuntimeException.Init0.at_4 (fun x hx => h x (by simp [Bundle.npeArmAtoms, hx]))
  obtain ⟨PE, LEx, hPEm, hPEs⟩ := PassC.of_atoms (args := args) (s := s) hpl (X := Bundle.eN) (Y := Bundle.tN) (by decide) (by decide) LibCode.Exception.Init0.at_0 LibCode.Exception.Init0.at_1 LibCode.Exception.Init0.at_4 (fun x hx => h x (by simp [Bundle.npeArmAtoms, hx]))
  have hfound : s.vm.findClass Bundle.nN = some P1.m.cls := findClass_of_methodNamed hP1m
  have ecls : N.cN = P1.m.cls := Option.some.inj (hcN.symm.trans hfound)
  have hk : s.vm.classes[P1.m.cls]? = some N.kN := by rw [← ecls]; exact LN.cls
  have hinit := Cond.initialized_spec hfound hk (a' (.initialized Bundle.nN) (by simp [Bundle.npeArmAtoms]))
  have hctor : N.kN.findMethod "<init>" "()V" = some P1.m.idx := findMethod_of_methodNamed hP1m hk
  obtain ⟨c1, k1, hc1, hk1, -, -, -, hn⟩ := Cond.instantiable_spec (a' (.instantiable Bundle.nN n) (by simp [Bundle.npeArmAtoms]))
  cases Option.some.inj (hc1.symm.trans hfound)
  cases Option.some.inj (hk1.symm.trans hk)
  have hfsz : (freshCell P1.m.cls N.kN).slots.size = n := by simp [hn]
  have hlink1 : P1.sup = PR.m := Option.some.inj (hP1s.symm.trans hPRm)
  have hlinkR : PR.sup = PE.m := Option.some.inj (hPRs.symm.trans hPEm)
  have hlinkE : PE.sup = Z.m T.toThrowableT := Option.some.inj (hPEs.symm.trans Y.init0)
  have hLs : ∀ P, P ∈ [PR, PE] → P.Links0 e.platform s := fun P hP => by
    simp only [List.mem_cons, List.not_mem_nil, or_false] at hP
    rcases hP with rfl | rfl
    · exact LR
    · exact LEx
  have hsel0 : selectMethod e.platform s.vm P1.m.cls T.fill0 = .method T.fill0 := by
    obtain ⟨c2, r2, m2, q1, q2, q3, q4, -⟩ := Cond.selects_spec (a' (.selects Bundle.nN Bundle.tFill0 Bundle.tFill0) (by simp [Bundle.npeArmAtoms]))
    cases Option.some.inj (q1.symm.trans hfound)
    cases Option.some.inj (q2.symm.trans (State.methodFound?_of_named Y.fill0 (by decide)))
    cases Option.some.inj (q3.symm.trans Y.fill0)
    rw [Launch.admits_selectMethod X.admits]; exact q4
  have hselF : selectMethod e.platform s.vm P1.m.cls T.fill = .method N.fill := by
    obtain ⟨c2, r2, m2, q1, q2, q3, q4, -⟩ := Cond.selects_spec (a' (.selects Bundle.nN Bundle.tFill Bundle.nFill) (by simp [Bundle.npeArmAtoms]))
    cases Option.some.inj (q1.symm.trans hfound)
    cases Option.some.inj (q2.symm.trans (State.methodFound?_of_named Y.fill (by decide)))
    cases Option.some.inj (q3.symm.trans hnNF)
    rw [Launch.admits_selectMethod X.admits]; exact q4
  obtain ⟨cellS0, hcS0, hiss⟩ := Y.statics
  obtain ⟨u0, hu0⟩ := Cond.staticRefV Y.unassigned L.unassignedStatic L.statics hcS0 hiss (a' (.isRef (.static Bundle.tN "UNASSIGNED_STACK" Bundle.steD)) (by simp [Bundle.npeArmAtoms]))
  obtain ⟨sen, hsen⟩ := Cond.staticRefV Y.sentinel L.sentinelStatic L.statics hcS0 hiss (a' (.isRef (.static Bundle.tN "SUPPRESSED_SENTINEL" Bundle.listD)) (by simp [Bundle.npeArmAtoms]))
  obtain ⟨ci198, i198, fB, hk198, hg198, ha198, hsB, -, hnB, htB, hffB⟩ := Cond.ownField (t := .object "java/lang/Object") Y.found L.cls (by decide +kernel) (a' (.fieldLink Bundle.tN 198 Bundle.tN "backtrace" Bundle.objD) (by simp [Bundle.npeArmAtoms])) (a' (.lays Bundle.tN Bundle.tN "backtrace" Bundle.objD) (by simp [Bundle.npeArmAtoms])) e.platform hpl
  obtain ⟨cellS, hcS', heS, -, hkeep⟩ := X.same.2.2.2.2.2 T.aS cellS0 hcS0
  have hcellS : W.heap[T.aS]? = some cellS := hcS'
  have hout' : ∀ i, (⟨T.aS, i⟩ : Loc) ∉ locs := fun i hmem => by
    have := hlocs _ hmem cellS0 hcS0
    rw [hiss] at this; cases this
  have hknownS : cellS.vm ≠ .unknown := by
    rw [heS]; intro hu
    rw [show cellS0.vm = .unknown from hu] at hiss
    cases hiss
  have hvU : cellS.slots[T.fUnassigned.slot]? = some u0.v := by rw [hkeep _ (hout' _)]; exact hu0
  have hvSen : cellS.slots[T.fSentinel.slot]? = some sen.v := by rw [hkeep _ (hout' _)]; exact hsen
  obtain ⟨tyC, dC, hdC, hdnC⟩ := Cond.laysAt hfound hk Y.cause (a' (.lays Bundle.nN Bundle.tN "cause" "Ljava/lang/Throwable;") (by simp [Bundle.npeArmAtoms]))
  obtain ⟨tyS, dS, hdS, hdnS⟩ := Cond.laysAt hfound hk Y.stack (a' (.lays Bundle.nN Bundle.tN "stackTrace" Bundle.steD) (by simp [Bundle.npeArmAtoms]))
  obtain ⟨tyP, dP, hdP, hdnP⟩ := Cond.laysAt hfound hk Y.supp (a' (.lays Bundle.nN Bundle.tN "suppressedExceptions" Bundle.listD) (by simp [Bundle.npeArmAtoms]))
  obtain ⟨tyX, dX, hdX, hdnX⟩ := Cond.laysAt hfound hk hffS (a' (.lays Bundle.nN Bundle.nN "extendedMessageState" "I") (by simp [Bundle.npeArmAtoms, Bundle.npeAtoms]))
  obtain ⟨hnX, htX⟩ := State.fieldFound?_type hffS (t := .int) (by decide +kernel)
  have xC := Cond.laysApart hdC hdX hdnC hdnX (by rw [hnX, Y.causeName]; decide)
  have xS := Cond.laysApart hdS hdX hdnS hdnX (by rw [hnX, Y.stackName]; decide)
  have xP := Cond.laysApart hdP hdX hdnP hdnX (by rw [hnX, Y.suppName]; decide)
  have hv0 : (freshCell P1.m.cls N.kN).slots[N.fState.slot]? = some (.int 0) := by
    have := fresh_default (c := P1.m.cls) tyX
    rw [htX] at this; exact this
  obtain ⟨tyB, dB, hdB, hdnB⟩ := Cond.laysAt hfound hk hffB (a' (.lays Bundle.nN Bundle.tN "backtrace" Bundle.objD) (by simp [Bundle.npeArmAtoms]))
  have bC := Cond.laysApart hdB hdC hdnB hdnC (by rw [hnB, Y.causeName]; decide)
  have bS := Cond.laysApart hdB hdS hdnB hdnS (by rw [hnB, Y.stackName]; decide)
  have bP := Cond.laysApart hdB hdP hdnB hdnP (by rw [hnB, Y.suppName]; decide)
  have bX := Cond.laysApart hdB hdX hdnB hdnX (by rw [hnB, hnX]; decide)
  have hbk : ((npeCell N.toNpeT (preparedCellV T.toThrowableT (freshCell P1.m.cls N.kN) W.heap.size u0 sen) W.cur).withEntry W.cur).slots[fB.slot]? = some .null := by
    have := fresh_default (c := P1.m.cls) tyB
    rw [htB] at this
    simpa [npeCell, preparedCellV, Cell.setSlot, Cell.withEntry, Array.getElem?_setIfInBounds, bC, bS, bP, bX, bC.symm, bS.symm, bP.symm, bX.symm, defaultValue] using this
  have tkC := Takes.of_laid (v := .ref W.heap.size) hk hordN tyC (by rw [Y.causeType]; rfl)
  have tkS := Takes.of_laid (v := u0.v) hk hordN tyS (by rw [Y.stackType]; exact fits_refV_array _ u0)
  have tkP := Takes.of_laid (v := sen.v) hk hordN tyP (by rw [Y.suppType]; exact fits_refV_object _ sen)
  have tkX := Takes.of_laid (v := .int 1) hk hordN tyX (by rw [htX]; rfl)
  have hskip : SkipFacts T e.platform s (fun u => u) u0 ((npeCell N.toNpeT (preparedCellV T.toThrowableT (freshCell P1.m.cls N.kN) W.heap.size u0 sen) W.cur).withEntry W.cur) := ⟨{ ci198 := ci198, i198 := i198, fBack := fB }, ⟨hk198, hg198, ha198, hsB⟩, hbk, fun _ _ => rfl⟩
  obtain ⟨hbeyond, hfreeW⟩ := X.vmMayThrowNative hsize hnf (.throwNew "java/lang/NullPointerException" none none) (fun f hf => by cases hf) rfl hRlocals
  have hfr' : (Frame.native nf :: .java g :: below).length + [PR, PE].length + 5 < (e.platform.stackLimits W.me).1 := by have := X.framesAboveNative g nf (n := [PR, PE].length + 5) (by simpa using hRframes); omega
  have hwd' : (stackUse (.native nf :: .java g :: below)).2 + 13 * [PR, PE].length + 68 ≤ (e.platform.stackLimits W.me).2 := by have := X.stackAboveNative hsize hnf (K := 13 * [PR, PE].length + 68) (by simp only [List.length_cons, List.length_nil]; omega); omega
  obtain ⟨vm', hW', st⟩ := k_npOver p (s₀ := s) (S := W) (X.overNative g nf) hexec T L Z LZ N LN X.warmed P1 L1 [PR, PE] hLs hlink1 ⟨hlinkR, hlinkE, trivial⟩ hfound hk hinit hordN hctor (Launch.admits_hotImplicitExceptions X.admits) hbeyond hfreeW (X.cellsAbove hRcells) (X.slotsAbove (by rw [hn]; exact hRslots))
    hsel0 hcellS hknownS hvU hv0 xC xS xP tkS tkX hskip (fun _ _ hA hW _ hroom _ hrest => L.nativeOff p htr hA hW hroom hrest) hselF hvSen tkC tkP Y.objLocals hfr' hwd'
  rw [npeBareV_eq T.toThrowableT N.toNpeT W.heap.size u0 sen W.cur rfl rfl] at st
  have X2 := (X.pushed (freshCell P1.m.cls N.kN)).noted hW'
  have ha : W.heap.size < ((W.pushCell (freshCell P1.m.cls N.kN)).setVm vm').heap.size := by
    show W.heap.size < (W.pushCell (freshCell P1.m.cls N.kN)).heap.size
    rw [State.heap_size_pushCell]; omega
  have hcell : ((W.pushCell (freshCell P1.m.cls N.kN)).setVm vm').heap[W.heap.size]? = some (freshCell P1.m.cls N.kN) := State.heap_pushCell_size W (freshCell P1.m.cls N.kN)
  have X3 := ((((X2.stored hcell T.fCause.slot (.ref W.heap.size)).storedAgain ha T.fStack.slot u0.v).storedAgain ha T.fSupp.slot sen.v).storedAgain ha N.fState.slot (.int 1)).storedAgain ha T.fStack.slot u0.v
  simp only [List.append_assoc, List.cons_append, List.nil_append] at X3
  rw [hfsz] at X3
  have e7 : (((((freshCell P1.m.cls N.kN).setSlot T.fCause.slot (.ref W.heap.size)).setSlot T.fStack.slot u0.v).setSlot T.fSupp.slot sen.v).setSlot N.fState.slot (.int 1)).setSlot T.fStack.slot u0.v = npeBareV T.toThrowableT N.toNpeT (freshCell P1.m.cls N.kN) W.heap.size u0 sen := rfl
  rw [e7] at X3
  obtain ⟨g₁, hfrM⟩ := X3.frames_eq
  have hhere := X3.here
  refine ⟨_, W.heap.size, _, fun target ht => st _ (Steps.throwingLeavesNative ⟨hhere.running, hhere.runnable, hhere.alone⟩ (State.cur_lt_of_frames hfrM) ⟨[.java g], rfl⟩ haw hnl ?_), X3.forget (fun y hy => ?_), heapAt_setCell_self _ ha, hfound, rfl⟩
  · rw [State.pushFrame, State.frames_setTop _ hfrM, State.setTop_of_frames _ hfrM, State.setFrames_setFrames] at ht
    exact ht
  · simp only [List.mem_cons, List.not_mem_nil, or_false] at hy
    have hge : s.heap.size ≤ W.heap.size := X.same.2.1
    rcases hy with rfl | rfl | rfl | rfl | rfl <;> exact hge
end NPN
/-! System.arraycopy that throws -/
theorem cf_int {z : Int} (h : -10000000000 < z ∧ z < 10000000000) : (toString z).toList.length ≤ 11 := by
  cases z with
  | ofNat m =>
    have := nat_print (n := m) (by have := h.2; simp only [Int.ofNat_eq_natCast] at this; omega)
    show (toString m).toList.length ≤ 11
    omega
  | negSucc m =>
    have := nat_print (n := m.succ) (by have := h.1; rw [Int.negSucc_eq] at this; omega)
    show ("-" ++ toString m.succ).toList.length ≤ 11
    rw [String.toList_append, List.length_append]
    have h0 : "-".toList.length = 1 := by decide
    omega
theorem cf_s (s : String) : toString s = s := rfl
theorem cf_len {N0 N1 : Nat} {sp dp len : Int32} {what : String} (h0 : N0 < 10000000000) (h1 : N1 < 10000000000) (h : copyFault .int .int N0 N1 sp dp len = some what) : what.toList.length ≤ 79 := by
  have a0 := nat_print h0
  have a1 := nat_print h1
  have a2 := int32_print sp
  have a3 := int32_print dp
  have a4 := int32_print len
  have b1 := Int32.toInt_lt sp
  have b2 := Int32.le_toInt sp
  have b3 := Int32.toInt_lt dp
  have b4 := Int32.le_toInt dp
  have b5 := Int32.toInt_lt len
  have b6 := Int32.le_toInt len
  have a5 := cf_int (z := sp.toInt + len.toInt) (by omega)
  have a6 := cf_int (z := dp.toInt + len.toInt) (by omega)
  have c1 : "source index ".toList.length = 13 := by decide
  have c2 : "destination index ".toList.length = 18 := by decide
  have c3 : "last source index ".toList.length = 18 := by decide
  have c4 : "last destination index ".toList.length = 23 := by decide
  have c5 : " out of bounds for ".toList.length = 19 := by decide
  have c6 : "length ".toList.length = 7 := by decide
  have c7 : " is negative".toList.length = 12 := by decide
  have c8 : "[".toList.length = 1 := by decide
  have c9 : "]".toList.length = 1 := by decide
  have c10 : (Native.java_lang_System.arraycopy.kindName .int).toList.length = 3 := by decide
  have c11 : "".toList.length = 0 := by decide
  unfold copyFault at h
  by_cases z1 : sp < 0
  · rw [if_pos z1] at h
    cases h
    simp only [cf_s, String.toList_append, List.length_append, c1, c5, c8, c9, c10, c11]
    omega
  · rw [if_neg z1] at h
    by_cases z2 : dp < 0
    · rw [if_pos z2] at h
      cases h
      simp only [cf_s, String.toList_append, List.length_append, c2, c5, c8, c9, c10, c11]
      omega
    · rw [if_neg z2] at h
      by_cases z3 : len < 0
      · rw [if_pos z3] at h
        cases h
        simp only [cf_s, String.toList_append, List.length_append, c6, c7, c11]
        omega
      · rw [if_neg z3] at h
        by_cases z4 : sp.toInt + len.toInt > N0
        · rw [if_pos z4] at h
          cases h
          simp only [cf_s, String.toList_append, List.length_append, c3, c5, c8, c9, c10, c11]
          omega
        · rw [if_neg z4] at h
          by_cases z5 : dp.toInt + len.toInt > N1
          · rw [if_pos z5] at h
            cases h
            simp only [cf_s, String.toList_append, List.length_append, c4, c5, c8, c9, c10, c11]
            omega
          · rw [if_neg z5] at h
            cases h
theorem cf_text {what : String} (h : what.toList.length ≤ 79) : (("arraycopy: " ++ what) == notModelled) = false ∧ (stringBytes (stringToUtf16 ("arraycopy: " ++ what))).size ≤ 360 := by
  constructor
  · rw [beq_eq_false_iff_ne]
    intro g
    have h2 := congrArg (fun s => s.toList.head?) g
    have h3 : ("arraycopy: " ++ what).toList.head? = some 'a' := by
      simp only [String.toList_append]
      rfl
    have h4 : notModelled.toList.head? ≠ some 'a' := by decide +kernel
    exact h4 (h2.symm.trans h3)
  · have b1 := stringBytes_size_le (stringToUtf16 ("arraycopy: " ++ what))
    have b2 := utf16_size_le ("arraycopy: " ++ what)
    have c1 : "arraycopy: ".toList.length = 11 := by decide
    simp only [String.toList_append, List.length_append, c1] at b2
    omega
section CPY
variable {p : Program} {l : Launch} {e : Env} {R : Room} {s : State} {m : MethodId} {args : Array Value} {below : List Frame} {meth : Method} {c : Code} {H : Heap} {locs : List Loc} {cells slots : Nat} {Q : State → Prop} {cc : ByteArray} {pc : Nat} {ls : Array Slot} {rest : List Value}
/-- a native that throws with a message: over the caller's frame -/
theorem k_vmN {A : Nat → Prop} {cls text : String} {names : List String} {nb : Nat} {nf : NFrame} (hexec : p.tables.exec = Jvm.exec) (hl : l.stackTraces = false)
    (hfit : Bundle.fit cls = true ∧ (∀ n ∈ names, Bundle.fit n = true) ∧ (cls == "java/lang/StackOverflowError") = false ∧ (cls == "java/lang/OutOfMemoryError") = false)
    (hat : ∀ w ∈ vx_atM cls names, w.before args s = true) (hgood : ∀ w ∈ vx_atM cls names, vx_ot w = true)
    (hU : vx_Zq Bundle.tN "UNASSIGNED_STACK" Bundle.steD A s s.heap) (hN : vx_Zq Bundle.tN "SUPPRESSED_SENTINEL" Bundle.listD A s s.heap) (hS : va_S A s.heap H locs) (hsize : ls.size = c.maxLocals)
    (htext : (text == notModelled) = false) (hnb : (stringBytes (stringToUtf16 text)).size ≤ nb) (hnb1 : nb ≤ 1000) (hnf : nf.words = 0 ∧ nf.awaiting = false ∧ nf.locked = none)
    (hRframes : names.length + 5 < R.frames) (hRlocals : (rest.map fun v => v.category).sum + 10240 ≤ R.locals) (hshort : 13 * names.length + 55 ≤ 10240) (hRcells : cells + 3 ≤ R.cells) (hRslots : slots + (nb + 10) ≤ R.slots) (hlocks : meth.locks = false)
    (k : ∀ (H1 : Heap) (q9 : Addr) (ce : Cell), H.size ≤ H1.size → (∀ q : Nat, q < H.size → H1[q]? = H[q]?) → va_S A s.heap H1 locs → H1[q9]? = some ce → ce.vm = .none → s.vm.findClass cls = some ce.cls → vx_W p l e R s m args below meth c H1 locs (cells + 3) (slots + (nb + 10)) Q (F0 m pc ls rest) q9)
    (T : State) (hT : T.heap = H) (X : Stand p l e R s m args below meth c T locs cells slots) : ∃ t, Steps p.tables e below (T.setFrames (.throwNew cls (some text) none :: .native nf :: .java (F0 m pc ls rest) :: below)) t ∧ Q t := by
  have htr : e.platform.stackTraces = false := (show e.platform.stackTraces = l.stackTraces by rw [X.admits.platform]).trans hl
  have Y := vx_rebase X (R' := { frames := R.frames, locals := R.locals, cells := 3, slots := nb + 10 }) (Nat.le_refl _) (Nat.le_refl _) hRcells hRslots
  have hhp : ((T.setVm s.vm).setFrames (.invoking m args :: below)).heap = H := hT
  have hW0 : s.WarmedH ((T.setVm s.vm).setFrames (.invoking m args :: below)).vm := State.WarmedH.refl s
  have hat' : ∀ w ∈ vx_atM cls names, w.before args ((T.setVm s.vm).setFrames (.invoking m args :: below)) = true := fun w hw => vx_ot_at hW0 rfl (hgood w hw) (hat w hw)
  have hU' : vx_Zq Bundle.tN "UNASSIGNED_STACK" Bundle.steD A ((T.setVm s.vm).setFrames (.invoking m args :: below)) ((T.setVm s.vm).setFrames (.invoking m args :: below)).heap := by rw [hhp]; exact vx_Zq.moved hW0.alike (hU.kept hS.2.1)
  have hN' : vx_Zq Bundle.tN "SUPPRESSED_SENTINEL" Bundle.listD A ((T.setVm s.vm).setFrames (.invoking m args :: below)) ((T.setVm s.vm).setFrames (.invoking m args :: below)).heap := by rw [hhp]; exact vx_Zq.moved hW0.alike (hN.kept hS.2.1)
  obtain ⟨S, q, ce, st, Z, hce, hcl', hv⟩ := k_vmAtN Y hexec htr (cls := cls) (names := names) (text := text) hfit.1 hfit.2.1 hfit.2.2.1 hfit.2.2.2 (vx_own hat' (vx_isRefq hU'.1) (vx_isRefq hN'.1) hU'.2.word hN'.2.word) (fun x hx => nomatch hx) htext
    (by rw [Launch.admits_arrayLengthLimit X.admits]; omega) (by rw [Launch.admits_maxHeapBytes X.admits]; simp only [componentBytes]; omega)
    (g := F0 m pc ls rest) rfl hsize (nf := nf) hnf.1 hnf.2.1 hnf.2.2 hRframes (by show 2 * 0 + (rest.map fun v => v.category).sum + 10240 ≤ R.locals; omega) hshort (by show 0 + 3 ≤ 3; omega) (by show 0 + (_ + 4 + 6) ≤ nb + 10; omega) hlocks
  obtain ⟨f1, f2⟩ := vx_frame Z.same
  have f1' : H.size ≤ S.heap.size := by rw [← hT]; exact f1
  have f2' : ∀ q : Nat, q < H.size → S.heap[q]? = H[q]? := fun q hq => by
    rw [← hT]
    exact f2 q (by rw [← hT] at hq; exact hq) (fun z hz => nomatch hz)
  have X5 := vx_back9 X Y Z
  have X6 : Stand p l e R s m args below meth c S locs (cells + 3) (slots + (nb + 10)) := { X5 with same := X5.same.mono (by omega) (by omega) }
  obtain ⟨t, a1, b1⟩ := k S.heap q ce f1' f2' ⟨Nat.le_trans hS.1 f1', fun q h1 h2 => (f2' q (Nat.lt_of_lt_of_le h1 hS.1)).trans (hS.2.1 q h1 h2), hS.2.2⟩ hce hv hcl' S rfl X6
  exact ⟨t, st t a1, b1⟩
theorem k_npN {A : Nat → Prop} {nf : NFrame} (hexec : p.tables.exec = Jvm.exec) (hl : l.stackTraces = false)
    (hat : ∀ w ∈ vx_atN 8, w.before args s = true) (hgood : ∀ w ∈ vx_atN 8, vx_ot w = true)
    (hU : vx_Zq Bundle.tN "UNASSIGNED_STACK" Bundle.steD A s s.heap) (hN : vx_Zq Bundle.tN "SUPPRESSED_SENTINEL" Bundle.listD A s s.heap) (hS : va_S A s.heap H locs) (hsize : ls.size = c.maxLocals) (hnf : nf.words = 0 ∧ nf.awaiting = false ∧ nf.locked = none)
    (hRframes : 8 < R.frames) (hRlocals : (rest.map fun v => v.category).sum + 10240 ≤ R.locals) (hRcells : cells + 1 ≤ R.cells) (hRslots : slots + 8 ≤ R.slots) (hlocks : meth.locks = false)
    (k : ∀ (H1 : Heap) (q9 : Addr) (ce : Cell), H.size ≤ H1.size → (∀ q : Nat, q < H.size → H1[q]? = H[q]?) → va_S A s.heap H1 locs → H1[q9]? = some ce → ce.vm = .none → s.vm.findClass "java/lang/NullPointerException" = some ce.cls → vx_W p l e R s m args below meth c H1 locs (cells + 1) (slots + 8) Q (F0 m pc ls rest) q9)
    (T : State) (hT : T.heap = H) (X : Stand p l e R s m args below meth c T locs cells slots) : ∃ t, Steps p.tables e below (T.setFrames (.throwNew "java/lang/NullPointerException" none none :: .native nf :: .java (F0 m pc ls rest) :: below)) t ∧ Q t := by
  have htr : e.platform.stackTraces = false := (show e.platform.stackTraces = l.stackTraces by rw [X.admits.platform]).trans hl
  have Y := vx_rebase X (R' := { frames := R.frames, locals := R.locals, cells := 1, slots := 8 }) (Nat.le_refl _) (Nat.le_refl _) hRcells hRslots
  have hhp : ((T.setVm s.vm).setFrames (.invoking m args :: below)).heap = H := hT
  have hW0 : s.WarmedH ((T.setVm s.vm).setFrames (.invoking m args :: below)).vm := State.WarmedH.refl s
  have hat' : ∀ w ∈ vx_atN 8, w.before args ((T.setVm s.vm).setFrames (.invoking m args :: below)) = true := fun w hw => vx_ot_at hW0 rfl (hgood w hw) (hat w hw)
  have hU' : vx_Zq Bundle.tN "UNASSIGNED_STACK" Bundle.steD A ((T.setVm s.vm).setFrames (.invoking m args :: below)) ((T.setVm s.vm).setFrames (.invoking m args :: below)).heap := by rw [hhp]; exact vx_Zq.moved hW0.alike (hU.kept hS.2.1)
  have hN' : vx_Zq Bundle.tN "SUPPRESSED_SENTINEL" Bundle.listD A ((T.setVm s.vm).setFrames (.invoking m args :: below)) ((T.setVm s.vm).setFrames (.invoking m args :: below)).heap := by rw [hhp]; exact vx_Zq.moved hW0.alike (hN.kept hS.2.1)
  obtain ⟨S, q, ce, st, Z, hce, hcl', hv⟩ := k_npeAtN Y hexec htr (n := 8) (vx_own hat' (vx_isRefq hU'.1) (vx_isRefq hN'.1) hU'.2.word hN'.2.word) (fun x hx => nomatch hx)
    (g := F0 m pc ls rest) rfl hsize (nf := nf) hnf.1 hnf.2.1 hnf.2.2 hRframes (by show 2 * 0 + (rest.map fun v => v.category).sum + 10240 ≤ R.locals; omega) (by show 0 + 1 ≤ 1; omega) (by show 0 + 8 ≤ 8; omega) hlocks
  obtain ⟨f1, f2⟩ := vx_frame Z.same
  have f1' : H.size ≤ S.heap.size := by rw [← hT]; exact f1
  have f2' : ∀ q : Nat, q < H.size → S.heap[q]? = H[q]? := fun q hq => by
    rw [← hT]
    exact f2 q (by rw [← hT] at hq; exact hq) (fun z hz => nomatch hz)
  have X5 := vx_back9 X Y Z
  have X6 : Stand p l e R s m args below meth c S locs (cells + 1) (slots + 8) := { X5 with same := X5.same.mono (by omega) (by omega) }
  obtain ⟨t, a1, b1⟩ := k S.heap q ce f1' f2' ⟨Nat.le_trans hS.1 f1', fun q h1 h2 => (f2' q (Nat.lt_of_lt_of_le h1 hS.1)).trans (hS.2.1 q h1 h2), hS.2.2⟩ hce hv hcl' S rfl X6
  exact ⟨t, st t a1, b1⟩
/-- arraycopy throws: from the call to the note over the native's frame -/
theorem k_copyZ {own : String} {index : Nat} {cls : String} {msg : Option String} {vs : List Value} (hexec : p.tables.exec = Jvm.exec) (hb : c.code = cc) (hown : s.vm.findClass own = some m.cls)
    (hlink : (Cond.methodLink own index arraycopyName).before args s = true) (hnat : (Cond.native arraycopyName).before args s = true) (hstat : (Cond.static arraycopyName).before args s = true) (hinit : (Cond.initialized "java/lang/System").before args s = true)
    (hlen : vs.length = 5) (hcat : operandWords vs = 5) (hseen : ∀ x : Method, x.isStatic = true → x.sig.parameters = [.object "java/lang/Object", .int, .object "java/lang/Object", .int, .int] → seenByNative x vs.toArray = vs.toArray)
    (hw : ∀ vm', s.vm.Alike vm' → ∀ (T : State), T.heap = H → ∀ (fs : List Frame) (E : CtlPost), (∀ acts', E (.throwNew cls msg) acts' ((T.setVm vm').setFrames fs)) → wp (Native.java_lang_System.arraycopy.sem vs.toArray) (fun _ _ _ _ => False) E e false [] ((T.setVm vm').setFrames fs))
    (hsize : ls.size = c.maxLocals) (hR : 1 ≤ R.frames ∧ (rest.map fun v => v.category).sum + (nativeFrameWords "java/lang/System" "arraycopy" 5 + 11) ≤ R.locals) (d : decode cc pc = .ok (.invokestatic index, 3))
    (k : ∀ (T : State), T.heap = H → Stand p l e R s m args below meth c T locs cells slots → ∀ nf : NFrame, nf.words = 0 ∧ nf.awaiting = false ∧ nf.locked = none → ∃ t, Steps p.tables e below (T.setFrames (.throwNew cls msg none :: .native nf :: .java (F0 m pc ls rest) :: below)) t ∧ Q t) :
    W p l e R s m args below meth c H locs cells slots Q (F0 m pc ls (vs.reverse ++ rest)) := by
  intro T hT X
  obtain ⟨r, kS, methS, hnS, hmS, hkS, N⟩ := NativeOf.of_static hnat hstat (ps := [.object "java/lang/Object", .int, .object "java/lang/Object", .int, .int]) (ret := none) (by decide +kernel)
  have hinitS : kS.init = .initialized := Cond.initialized_spec (findClass_of_methodNamed hnS) hkS hinit
  obtain ⟨vm', X', step⟩ := X.invokestatic hexec hown hlink hnS hmS N.static hkS hinitS (by decide) (g := F0 m pc ls (vs.reverse ++ rest)) rfl (argsL := vs) (rest := rest) (by rw [N.sig]; exact hlen) rfl (by rw [hb]; exact d)
  have hA' : s.vm.Alike vm' := X'.warmed.alike
  obtain ⟨kS', N'⟩ := N.alike hA'
  obtain ⟨t, a1, b1⟩ := k (T.setVm vm') hT X' { method := r, args := seenByNative methS vs.toArray, locked := none } ⟨rfl, rfl, rfl⟩
  refine ⟨t, step t fun acts => ?_, b1⟩
  have hs : seenByNative methS vs.toArray = vs.toArray := hseen methS N.static N.sig
  obtain ⟨g₁, hfrM⟩ := X'.frames_eq
  refine Steps.nativeThrowsNote (g := F0 m pc ls rest) (row := arraycopyRow) (T := fun u => u) X'.here acts N'.cls N'.meth N'.boot N'.native N'.noCode N'.noLock (by rw [N'.className, N'.name, N'.desc]; exact arraycopy_row p)
    (by rw [N'.className, N'.name]; show e.platform.stackFull _ _ (nativeFrameWords _ _ (operandWords vs)) = false; rw [hcat]; exact X'.notFull (g := F0 m pc ls rest) hsize (vars := nativeFrameWords "java/lang/System" "arraycopy" 5) hR.1 (by have := hR.2; show 2 * 0 + (rest.map fun v => v.category).sum + (nativeFrameWords "java/lang/System" "arraycopy" 5 + 11) ≤ R.locals; omega)) (cls := cls) (msg := msg) ?_ ?_
  · intro E hE
    rw [hs, arraycopyRow_sem]
    rw [State.pushFrame, State.frames_setTop _ hfrM, State.setTop_of_frames _ hfrM, State.setFrames_setFrames] at hE ⊢
    rw [hs] at hE
    exact hw vm' hA' T hT _ E hE
  · rw [State.pushFrame, State.pushFrame, State.frames_setTop _ hfrM, State.setTop_of_frames _ hfrM, State.setFrames_setFrames, State.setFrames_setFrames, State.frames_setFrames (s := (T.setVm vm').setFrames (.java (F0 m pc ls rest) :: below)) _ (State.cur_lt_of_frames (State.frames_setFrames (.java (F0 m pc ls rest) :: below) (State.cur_lt_of_frames hfrM)))]
    exact a1
end CPY
section JZ
variable {E : jEnv} {St : Type} {w : St → jW} {X : jX} {cc : ByteArray} {mL : Nat} {ret : Option FieldType} {own : String} {R : Room} {k n pc : Nat} {L : List (Option Value)} {st : List Value} {σ : St} {Q : Option Value → St → Prop}
/-- a native's note that it throws -/
def JM (E : jEnv) {St : Type} (w : St → jW) (X : jX) (cc : ByteArray) (mL : Nat) (ret : Option FieldType) (own : String) (R : Room) (k n : Nat) (pc : Nat) (L : List (Option Value)) (st : List Value) (σ : St) (Q : Option Value → St → Prop) (cls : String) (msg : Option String) : Prop :=
  ∀ (p : Program) (e : Env) (s : State) (m : MethodId) (args : Array Value) (below : List Frame) (meth : Method) (c : Code) (A : Nat → Prop) (H : Heap) (locs : List Loc) (ls : Array Slot),
    j_cx E cc mL ret own p s m args meth c → X.1 A s ∧ j_nm X.2 s m meth → (∀ q, s.heap.size ≤ q → A q) → k ≤ R.cells → n ≤ R.slots → j_P E.2.1 (w σ) H → j_D A (w σ) → va_S A s.heap H locs → j_L ls mL L →
    ∀ T : State, T.heap = H → Stand p E.1 e R s m args below meth c T locs k n → ∀ nf : NFrame, nf.words = 0 ∧ nf.awaiting = false ∧ nf.locked = none →
      ∃ t, Steps p.tables e below (T.setFrames (.throwNew cls msg none :: .native nf :: .java (F0 m pc ls st) :: below)) t ∧ (MQ below (j_Q E w Q A) args s R.cells R.slots A) t
theorem JM_catch {y : MethodName} {hh : List (Nat × Nat × Nat × Nat)} {cls text name : String} {names : List String} {nb : Nat} {ps : List Nat} (pre : List ExceptionTableEntry) (x : ExceptionTableEntry) (suf : List ExceptionTableEntry) (hX1 : X.1 = cX E) (hX2 : X.2 = some y) (qh : Cond.codeWith y cc mL ret hh ∈ lw_all) (hp : vx_atM cls names = ps.filterMap (fun i => lw_tbl[i]?)) (hg : (vx_atM cls names).all (fun w => goodWord w || kSd w) = true)
    (hfit : Bundle.fit cls = true ∧ (∀ n ∈ names, Bundle.fit n = true) ∧ (cls == "java/lang/StackOverflowError") = false ∧ (cls == "java/lang/OutOfMemoryError") = false) (htext : (text == notModelled) = false) (hnb : (stringBytes (stringToUtf16 text)).size ≤ nb) (hnb1 : nb ≤ 1000) (hR : names.length + 5 < R.frames ∧ 8 + 10240 ≤ R.locals ∧ 13 * names.length + 55 ≤ 10240) (hst : (st.map fun v => v.category).sum ≤ 8) (hk3 : k + 3 ≤ R.cells) (hn3 : n + (nb + 10) ≤ R.slots)
    (hsplit : tableOf hh = pre ++ x :: suf) (hpass : ∀ z ∈ pre, covers z pc = false ∨ (z.catchType ≠ 0 ∧ ∃ nm : String, Cond.classLink own z.catchType nm ∈ lw_all ∧ (cls, nm) ∈ cNc)) (hx : covers x pc = true) (h0 : x.catchType ≠ 0) (qc : Cond.classLink own x.catchType name ∈ lw_all) (qk : Cond.castable cls name ∈ lw_tbl)
    (kk : ∀ q, J E w X cc mL ret own R (k + 3) (n + (nb + 10)) x.handlerPc L [.ref q] σ Q) : JM E w X cc mL ret own R k n pc L st σ Q cls (some text) := by
  intro p e s m args below meth c A H locs ls C hX hA hk hn hP hD hS hL T hT Y nf hnf
  have hts := C.2.2.2.2.2.2.1
  have hXc : cX E A s := by rw [← hX1]; exact hX.1
  refine k_vmN (A := A) (names := names) (nb := nb) C.1 hXc.2.2.2.2.2.2.2.2.2.2 hfit (k_hat hp hg hts hXc) (k_ot hg) hXc.2.2.2.2.1.1 hXc.2.2.2.2.1.2 hS (hL.1.trans C.2.2.2.2.1.symm) htext hnb hnb1 hnf hR.1 (by omega) hR.2.2 hk3 hn3 C.2.2.2.1 ?_ T hT Y
  intro H1 q9 ce hsz hold hS1 hce hv hcl T hT Y
  have htab := k_table Y (hX.2 y hX2) (hts _ qh)
  exact vx_catch C.2.2.2.2.2.1 pre x suf (htab.trans hsplit) (fun z hz => (hpass z hz).imp id (fun ⟨a1, nm, a2, a3⟩ => ⟨a1, nm, hts _ a2, hXc.2.2.2.1 _ a3⟩)) hx h0 (hts _ qc) (va_Nw.use rfl (hXc.1 _ qk rfl)) hce hv hcl (kk q9 p e s m args below meth c A H1 locs ls C hX hA hk3 hn3 (k_Pext hP hold) hD hS1 hL) T hT Y
theorem JMn_catch {y : MethodName} {hh : List (Nat × Nat × Nat × Nat)} {name : String} (pre : List ExceptionTableEntry) (x : ExceptionTableEntry) (suf : List ExceptionTableEntry) (hX1 : X.1 = cX E) (hX2 : X.2 = some y) (qh : Cond.codeWith y cc mL ret hh ∈ lw_all) (hR : 8 < R.frames ∧ 8 + 10240 ≤ R.locals) (hst : (st.map fun v => v.category).sum ≤ 8) (hk3 : k + 1 ≤ R.cells) (hn3 : n + 8 ≤ R.slots)
    (hsplit : tableOf hh = pre ++ x :: suf) (hpass : ∀ z ∈ pre, covers z pc = false) (hx : covers x pc = true) (h0 : x.catchType ≠ 0) (qc : Cond.classLink own x.catchType name ∈ lw_all) (qk : Cond.castable "java/lang/NullPointerException" name ∈ lw_tbl)
    (kk : ∀ q, J E w X cc mL ret own R (k + 1) (n + 8) x.handlerPc L [.ref q] σ Q) : JM E w X cc mL ret own R k n pc L st σ Q "java/lang/NullPointerException" none := by
  intro p e s m args below meth c A H locs ls C hX hA hk hn hP hD hS hL T hT Y nf hnf
  have hts := C.2.2.2.2.2.2.1
  have hXc : cX E A s := by rw [← hX1]; exact hX.1
  refine k_npN (A := A) C.1 hXc.2.2.2.2.2.2.2.2.2.2 (k_hat ex_npe exg_npe hts hXc) (k_ot exg_npe) hXc.2.2.2.2.1.1 hXc.2.2.2.2.1.2 hS (hL.1.trans C.2.2.2.2.1.symm) hnf hR.1 (by omega) hk3 hn3 C.2.2.2.1 ?_ T hT Y
  intro H1 q9 ce hsz hold hS1 hce hv hcl T hT Y
  have htab := k_table Y (hX.2 y hX2) (hts _ qh)
  exact vx_catch C.2.2.2.2.2.1 pre x suf (htab.trans hsplit) (fun z hz => Or.inl (hpass z hz)) hx h0 (hts _ qc) (va_Nw.use rfl (hXc.1 _ qk rfl)) hce hv hcl (kk q9 p e s m args below meth c A H1 locs ls C hX hA hk3 hn3 (k_Pext hP hold) hD hS1 hL) T hT Y
theorem J_acopyZ {a0 a N0 N1 index : Nat} {f g : Nat → Int32} {sp dp cn : Int32} (r0 r1 : Nat) (hr0 : w σ r0 = some (a0, .inl (E.2.2 0, N0, .inl f))) (hr1 : w σ r1 = some (a, .inl (E.2.2 0, N1, .inl g))) (hN : N0 ≤ 1000000 ∧ N1 ≤ 1000000) (hf : copyFault .int .int N0 N1 sp dp cn ≠ none)
    (q1 : Cond.methodLink own index arraycopyName ∈ lw_all) (q2 : Cond.native arraycopyName ∈ lw_all) (q3 : Cond.static arraycopyName ∈ lw_all) (q4 : Cond.initialized "java/lang/System" ∈ lw_all) (hR : 1 ≤ R.frames ∧ 8 + (nativeFrameWords "java/lang/System" "arraycopy" 5 + 11) ≤ R.locals) (hst : (st.map fun v => v.category).sum ≤ 8) (d : decode cc pc = .ok (.invokestatic index, 3))
    (kk : ∀ text : String, (text == notModelled) = false ∧ (stringBytes (stringToUtf16 text)).size ≤ 360 → JM E w X cc mL ret own R k n pc L st σ Q "java/lang/ArrayIndexOutOfBoundsException" (some text)) : J E w X cc mL ret own R k n pc L (.int cn :: .int dp :: .ref a :: .int sp :: .ref a0 :: st) σ Q := by
  obtain ⟨what, hwhat⟩ := Option.ne_none_iff_exists'.mp hf
  intro p e s m args below meth c A H locs ls C hX hA hk hn hP hD hS hL
  have hts := C.2.2.2.2.2.2.1
  have hc0 : H[a0]? = some (vp_cell (E.2.2 0) (N0, .inl f)) := hP r0 _ _ hr0
  have hc1 : H[a]? = some (vp_cell (E.2.2 0) (N1, .inl g)) := hP r1 _ _ hr1
  obtain ⟨-, k0, hk0, cm0, hkk0⟩ := (C.2.2.2.2.2.2.2.2 0 _ rfl).1 N0 (fun j => .int (f j))
  obtain ⟨-, k1, hk1, cm1, hkk1⟩ := (C.2.2.2.2.2.2.2.2 0 _ rfl).1 N1 (fun j => .int (g j))
  refine k_copyZ (vs := [.ref a0, .int sp, .ref a, .int dp, .int cn]) (cls := "java/lang/ArrayIndexOutOfBoundsException") (msg := some ("arraycopy: " ++ what)) C.1 C.2.1 C.2.2.2.2.2.1 (hts _ q1) (hts _ q2) (hts _ q3) (hts _ q4) rfl rfl (fun x h1 h2 => by simp [seenByNative, h1, h2, narrow]) ?_ (hL.1.trans C.2.2.2.2.1.symm) ⟨hR.1, by omega⟩ d
    (kk _ (cf_text (cf_len (by omega) (by omega) hwhat)) p e s m args below meth c A H locs ls C hX hA hk hn hP hD hS hL)
  intro vm' hal T hT fs Ec hE
  obtain ⟨k0', hk0', e0⟩ := hal.2.2 _ _ hk0
  obtain ⟨k1', hk1', e1⟩ := hal.2.2 _ _ hk1
  refine W.arraycopy_bounds (cs := vp_cell (E.2.2 0) (N0, .inl f)) (cd := vp_cell (E.2.2 0) (N1, .inl g)) (by show T.heap[a0]? = _; rw [hT]; exact hc0) (by show T.heap[a]? = _; rw [hT]; exact hc1) (fun _ h => by cases h) (fun _ h => by cases h) hk0' hk1' (by rw [e0]; exact hkk0) (by rw [e1]; exact hkk1) (by rfl) ?_ (hE _)
  show copyFault .int .int (arrV _ N0 (fun j => .int (f j))).slots.size (arrV _ N1 (fun j => .int (g j))).slots.size sp dp cn = _
  rw [arrV_size, arrV_size]
  exact hwhat
theorem J_acopyX {index : Nat} {v1 v2 : Value} {sp dp cn : Int32} (hv : (v1 = .null ∧ (v2 = .null ∨ ∃ a, v2 = .ref a)) ∨ ((∃ a, v1 = .ref a) ∧ v2 = .null))
    (q1 : Cond.methodLink own index arraycopyName ∈ lw_all) (q2 : Cond.native arraycopyName ∈ lw_all) (q3 : Cond.static arraycopyName ∈ lw_all) (q4 : Cond.initialized "java/lang/System" ∈ lw_all) (hR : 1 ≤ R.frames ∧ 8 + (nativeFrameWords "java/lang/System" "arraycopy" 5 + 11) ≤ R.locals) (hst : (st.map fun v => v.category).sum ≤ 8) (d : decode cc pc = .ok (.invokestatic index, 3))
    (kk : JM E w X cc mL ret own R k n pc L st σ Q "java/lang/NullPointerException" none) : J E w X cc mL ret own R k n pc L (.int cn :: .int dp :: v2 :: .int sp :: v1 :: st) σ Q := by
  intro p e s m args below meth c A H locs ls C hX hA hk hn hP hD hS hL
  have hts := C.2.2.2.2.2.2.1
  refine k_copyZ (vs := [v1, .int sp, v2, .int dp, .int cn]) (cls := "java/lang/NullPointerException") (msg := none) C.1 C.2.1 C.2.2.2.2.2.1 (hts _ q1) (hts _ q2) (hts _ q3) (hts _ q4) rfl ?_ (fun x h1 h2 => ?_) ?_ (hL.1.trans C.2.2.2.2.1.symm) ⟨hR.1, by omega⟩ d
    (kk p e s m args below meth c A H locs ls C hX hA hk hn hP hD hS hL)
  · rcases hv with ⟨rfl, rfl | ⟨a, rfl⟩⟩ | ⟨⟨a, rfl⟩, rfl⟩ <;> rfl
  · rcases hv with ⟨rfl, rfl | ⟨a, rfl⟩⟩ | ⟨⟨a, rfl⟩, rfl⟩ <;> simp [seenByNative, h1, h2, narrow]
  · intro vm' hal T hT fs Ec hE
    rcases hv with ⟨rfl, hv⟩ | ⟨⟨a, rfl⟩, rfl⟩
    · exact W.arraycopy_null1 sp dp cn v2 (hE _)
    · exact W.arraycopy_null2 a sp dp cn (hE _)
end JZ
abbrev jX0_copy (E : jEnv) (α : Nat → Nat) := J E (wC E α) (cX E, some yX0_copy) cX0_copy 7 (some .int) RX0 (jRx 9 12 400) 0 0
theorem c_copy_bad {E : jEnv} {α : Nat → Nat} {σ : cS} {Q : Option Value → cS → Prop} {v i u j cn : Int} (rv : zR v) (ru : zR u) (hv : ¬ (0 ≤ v ∧ v ≤ 5) ∨ ¬ (0 ≤ u ∧ u ≤ 5)) (hq : Q (some (.int (zI (-1)))) σ) : jX0_copy E α 0 [some (.ref (α 0)), some (.int (zI (v))), some (.int (zI (i))), some (.int (zI (u))), some (.int (zI (j))), some (.int (zI (cn))), none] [] σ Q := by
  refine J_iload_n dX0_copy_0 rfl ?_
  refine CC_X0_isRow (by decide) (by decide) (Nat.le_of_ble_eq_true rfl) dX0_copy_1 ?_
  refine c_isRow (by unfold zR at *; omega) (fun b1 => ?_) (fun b1 => ?_)
  · refine J_ri ?_
    refine J_if_eq_n (tgt := 14) dX0_copy_4 (by decide) (by decide) ?_
    refine J_iload_n dX0_copy_7 rfl ?_
    refine CC_X0_isRow (by decide) (by decide) (Nat.le_of_ble_eq_true rfl) dX0_copy_8 ?_
    refine c_isRow (by unfold zR at *; omega) (fun b8 => ?_) (fun b8 => ?_)
    · exfalso; omega
    · refine J_ri ?_
      refine J_if_ne_n (tgt := 16) dX0_copy_11 (by decide) (by decide) ?_
      refine J_iconst (zI (-1)) dX0_copy_14 rfl ?_
      exact J_iret rfl dX0_copy_15 (by exact hq)
  · refine J_ri ?_
    refine J_if_eq_y (tgt := 14) dX0_copy_4 (by decide) (by decide) ?_
    refine J_iconst (zI (-1)) dX0_copy_14 rfl ?_
    exact J_iret rfl dX0_copy_15 (by exact hq)
theorem c_copy_neg {E : jEnv} {α : Nat → Nat} {σ : cS} {Q : Option Value → cS → Prop} {r q : Nat} {i j cn : Int} (hr : r < 6) (hq6 : q < 6) (rc : zR cn) (hc : cn < 0) (hq : Q (some (.int (zI (-3)))) (cAr (cI σ 0 (zI 5)) 1 (upd (σ.a 1) 5 (σ.a 1 5 + zI 1)))) : jX0_copy E α 0 [some (.ref (α 0)), some (.int (zI (r : Nat))), some (.int (zI (i))), some (.int (zI (q : Nat))), some (.int (zI (j))), some (.int (zI (cn))), none] [] σ Q := by
  refine J_iload_n dX0_copy_0 rfl ?_
  refine CC_X0_isRow (by decide) (by decide) (Nat.le_of_ble_eq_true rfl) dX0_copy_1 ?_
  refine c_isRow (by unfold zR at *; omega) (fun b1 => ?_) (fun b1 => ?_)
  · refine J_ri ?_
    refine J_if_eq_n (tgt := 14) dX0_copy_4 (by decide) (by decide) ?_
    refine J_iload_n dX0_copy_7 rfl ?_
    refine CC_X0_isRow (by decide) (by decide) (Nat.le_of_ble_eq_true rfl) dX0_copy_8 ?_
    refine c_isRow (by unfold zR at *; omega) (fun b8 => ?_) (fun b8 => ?_)
    · refine J_ri ?_
      refine J_if_ne_y (tgt := 16) dX0_copy_11 (by decide) (by decide) ?_
      refine J_iload dX0_copy_16 rfl ?_
      refine J_if_ge_z (tgt := 27) dX0_copy_18 (by decide) (by unfold zR at *; omega) (fun c18 => ?_) (fun c18 => ?_)
      · exfalso; omega
      · skip
        refine J_aload_n dX0_copy_21 rfl ?_
        refine J_iconst (zI 5) dX0_copy_22 rfl ?_
        refine CC_X0_found (by decide) (by decide) (Nat.le_of_ble_eq_true rfl) dX0_copy_23 ?_
        refine c_found (m := _) (by decide) ?_
        refine J_ri ?_
        exact J_iret rfl dX0_copy_26 (by exact hq)
    · exfalso; omega
  · exfalso; omega
theorem c_copy_NN {E : jEnv} {α : Nat → Nat} {σ : cS} {Q : Option Value → cS → Prop} {rs : Nat → Int} {rd : Nat → Nat → Int32} {ts : Nat → Int} {tb : Nat → Nat → Int} {r q : Nat} {i j cn : Int} (hDt : cDt rs rd ts tb σ) (hr : r < 6) (hq6 : q < 6) (rc : zR cn) (hc : 0 ≤ cn) (hx1 : rs r = -1) (hx2 : rs q = -1) (hq : Q (some (.int (zI (-3)))) (cAr (cI σ 0 (zI 1)) 1 (upd (σ.a 1) 1 (σ.a 1 1 + zI 1)))) : jX0_copy E α 0 [some (.ref (α 0)), some (.int (zI (r : Nat))), some (.int (zI (i))), some (.int (zI (q : Nat))), some (.int (zI (j))), some (.int (zI (cn))), none] [] σ Q := by
  have x_r : σ.ro r = none := by
    rcases hDt.1 r hr with z | ⟨a, N, g, z2, z3, z4⟩
    · exact z.2
    · omega
  have x_q : σ.ro q = none := by
    rcases hDt.1 q hq6 with z | ⟨a, N, g, z2, z3, z4⟩
    · exact z.2
    · omega
  refine J_iload_n dX0_copy_0 rfl ?_
  refine CC_X0_isRow (by decide) (by decide) (Nat.le_of_ble_eq_true rfl) dX0_copy_1 ?_
  refine c_isRow (by unfold zR at *; omega) (fun b1 => ?_) (fun b1 => ?_)
  · refine J_ri ?_
    refine J_if_eq_n (tgt := 14) dX0_copy_4 (by decide) (by decide) ?_
    refine J_iload_n dX0_copy_7 rfl ?_
    refine CC_X0_isRow (by decide) (by decide) (Nat.le_of_ble_eq_true rfl) dX0_copy_8 ?_
    refine c_isRow (by unfold zR at *; omega) (fun b8 => ?_) (fun b8 => ?_)
    · refine J_ri ?_
      refine J_if_ne_y (tgt := 16) dX0_copy_11 (by decide) (by decide) ?_
      refine J_iload dX0_copy_16 rfl ?_
      refine J_if_ge_z (tgt := 27) dX0_copy_18 (by decide) (by unfold zR at *; omega) (fun c18 => ?_) (fun c18 => ?_)
      · skip
        refine J_aload_n dX0_copy_27 rfl ?_
        refine CG_rows dX0_copy_28 ?_
        refine J_iload_n dX0_copy_31 rfl ?_
        refine CA_roN x_r (by omega) (by omega) dX0_copy_32 ?_
        refine J_iload_n dX0_copy_33 rfl ?_
        refine J_aload_n dX0_copy_34 rfl ?_
        refine CG_rows dX0_copy_35 ?_
        refine J_iload_n dX0_copy_38 rfl ?_
        refine CA_roN x_q (by omega) (by omega) dX0_copy_39 ?_
        refine J_iload dX0_copy_40 rfl ?_
        refine J_iload dX0_copy_42 rfl ?_
        refine J_acopyX (Or.inl ⟨rfl, Or.inl rfl⟩) q444 q446 q445 q116 (Nat.le_of_ble_eq_true rfl |> fun h => ⟨by decide, h⟩) (Nat.le_of_ble_eq_true rfl) dX0_copy_44 ?_
        refine JMn_catch (y := yX0_copy) (hh := [(27, 48, 49, 99), (27, 48, 57, 109)]) [] ⟨27, 48, 49, 99⟩ [⟨27, 48, 57, 109⟩] rfl rfl q442 (by decide) (Nat.le_of_ble_eq_true rfl) (by decide) (by decide) rfl (fun z hz => by cases hz) rfl (by decide) q386 q408 (fun q9 => ?_)
        refine J_astore dX0_copy_49 rfl (by decide) _ rfl ?_
        refine J_aload_n dX0_copy_51 rfl ?_
        refine J_iconst (zI 1) dX0_copy_52 rfl ?_
        refine CC_X0_found (by decide) (by decide) (Nat.le_of_ble_eq_true rfl) dX0_copy_53 ?_
        refine c_found (m := _) (by decide) ?_
        refine J_ri ?_
        exact J_iret rfl dX0_copy_56 (by exact hq)
      · exfalso; omega
    · exfalso; omega
  · exfalso; omega
theorem c_copy_NS {E : jEnv} {α : Nat → Nat} {σ : cS} {Q : Option Value → cS → Prop} {rs : Nat → Int} {rd : Nat → Nat → Int32} {ts : Nat → Int} {tb : Nat → Nat → Int} {r q : Nat} {i j cn : Int} (hDt : cDt rs rd ts tb σ) (hr : r < 6) (hq6 : q < 6) (rc : zR cn) (hc : 0 ≤ cn) (hx1 : rs r = -1) (hx2 : rs q ≠ -1) (hq : Q (some (.int (zI (-3)))) (cAr (cI σ 0 (zI 1)) 1 (upd (σ.a 1) 1 (σ.a 1 1 + zI 1)))) : jX0_copy E α 0 [some (.ref (α 0)), some (.int (zI (r : Nat))), some (.int (zI (i))), some (.int (zI (q : Nat))), some (.int (zI (j))), some (.int (zI (cn))), none] [] σ Q := by
  have x_r : σ.ro r = none := by
    rcases hDt.1 r hr with z | ⟨a, N, g, z2, z3, z4⟩
    · exact z.2
    · omega
  obtain ⟨a1, N1, f1, x_q, n_q, m_q, g_q⟩ : ∃ a N f, σ.ro q = some (a, N, f) ∧ rs q = (N : Nat) ∧ N ≤ 40 ∧ ∀ i, i < N → f i = rd q i := by
    rcases hDt.1 q hq6 with z | z
    · omega
    · exact z
  refine J_iload_n dX0_copy_0 rfl ?_
  refine CC_X0_isRow (by decide) (by decide) (Nat.le_of_ble_eq_true rfl) dX0_copy_1 ?_
  refine c_isRow (by unfold zR at *; omega) (fun b1 => ?_) (fun b1 => ?_)
  · refine J_ri ?_
    refine J_if_eq_n (tgt := 14) dX0_copy_4 (by decide) (by decide) ?_
    refine J_iload_n dX0_copy_7 rfl ?_
    refine CC_X0_isRow (by decide) (by decide) (Nat.le_of_ble_eq_true rfl) dX0_copy_8 ?_
    refine c_isRow (by unfold zR at *; omega) (fun b8 => ?_) (fun b8 => ?_)
    · refine J_ri ?_
      refine J_if_ne_y (tgt := 16) dX0_copy_11 (by decide) (by decide) ?_
      refine J_iload dX0_copy_16 rfl ?_
      refine J_if_ge_z (tgt := 27) dX0_copy_18 (by decide) (by unfold zR at *; omega) (fun c18 => ?_) (fun c18 => ?_)
      · skip
        refine J_aload_n dX0_copy_27 rfl ?_
        refine CG_rows dX0_copy_28 ?_
        refine J_iload_n dX0_copy_31 rfl ?_
        refine CA_roN x_r (by omega) (by omega) dX0_copy_32 ?_
        refine J_iload_n dX0_copy_33 rfl ?_
        refine J_aload_n dX0_copy_34 rfl ?_
        refine CG_rows dX0_copy_35 ?_
        refine J_iload_n dX0_copy_38 rfl ?_
        refine CA_ro x_q (by omega) (by omega) dX0_copy_39 ?_
        refine J_iload dX0_copy_40 rfl ?_
        refine J_iload dX0_copy_42 rfl ?_
        refine J_acopyX (Or.inl ⟨rfl, Or.inr ⟨_, rfl⟩⟩) q444 q446 q445 q116 (Nat.le_of_ble_eq_true rfl |> fun h => ⟨by decide, h⟩) (Nat.le_of_ble_eq_true rfl) dX0_copy_44 ?_
        refine JMn_catch (y := yX0_copy) (hh := [(27, 48, 49, 99), (27, 48, 57, 109)]) [] ⟨27, 48, 49, 99⟩ [⟨27, 48, 57, 109⟩] rfl rfl q442 (by decide) (Nat.le_of_ble_eq_true rfl) (by decide) (by decide) rfl (fun z hz => by cases hz) rfl (by decide) q386 q408 (fun q9 => ?_)
        refine J_astore dX0_copy_49 rfl (by decide) _ rfl ?_
        refine J_aload_n dX0_copy_51 rfl ?_
        refine J_iconst (zI 1) dX0_copy_52 rfl ?_
        refine CC_X0_found (by decide) (by decide) (Nat.le_of_ble_eq_true rfl) dX0_copy_53 ?_
        refine c_found (m := _) (by decide) ?_
        refine J_ri ?_
        exact J_iret rfl dX0_copy_56 (by exact hq)
      · exfalso; omega
    · exfalso; omega
  · exfalso; omega
theorem c_copy_SN {E : jEnv} {α : Nat → Nat} {σ : cS} {Q : Option Value → cS → Prop} {rs : Nat → Int} {rd : Nat → Nat → Int32} {ts : Nat → Int} {tb : Nat → Nat → Int} {r q : Nat} {i j cn : Int} (hDt : cDt rs rd ts tb σ) (hr : r < 6) (hq6 : q < 6) (rc : zR cn) (hc : 0 ≤ cn) (hx1 : rs r ≠ -1) (hx2 : rs q = -1) (hq : Q (some (.int (zI (-3)))) (cAr (cI σ 0 (zI 1)) 1 (upd (σ.a 1) 1 (σ.a 1 1 + zI 1)))) : jX0_copy E α 0 [some (.ref (α 0)), some (.int (zI (r : Nat))), some (.int (zI (i))), some (.int (zI (q : Nat))), some (.int (zI (j))), some (.int (zI (cn))), none] [] σ Q := by
  obtain ⟨a0, N0, f0, x_r, n_r, m_r, g_r⟩ : ∃ a N f, σ.ro r = some (a, N, f) ∧ rs r = (N : Nat) ∧ N ≤ 40 ∧ ∀ i, i < N → f i = rd r i := by
    rcases hDt.1 r hr with z | z
    · omega
    · exact z
  have x_q : σ.ro q = none := by
    rcases hDt.1 q hq6 with z | ⟨a, N, g, z2, z3, z4⟩
    · exact z.2
    · omega
  refine J_iload_n dX0_copy_0 rfl ?_
  refine CC_X0_isRow (by decide) (by decide) (Nat.le_of_ble_eq_true rfl) dX0_copy_1 ?_
  refine c_isRow (by unfold zR at *; omega) (fun b1 => ?_) (fun b1 => ?_)
  · refine J_ri ?_
    refine J_if_eq_n (tgt := 14) dX0_copy_4 (by decide) (by decide) ?_
    refine J_iload_n dX0_copy_7 rfl ?_
    refine CC_X0_isRow (by decide) (by decide) (Nat.le_of_ble_eq_true rfl) dX0_copy_8 ?_
    refine c_isRow (by unfold zR at *; omega) (fun b8 => ?_) (fun b8 => ?_)
    · refine J_ri ?_
      refine J_if_ne_y (tgt := 16) dX0_copy_11 (by decide) (by decide) ?_
      refine J_iload dX0_copy_16 rfl ?_
      refine J_if_ge_z (tgt := 27) dX0_copy_18 (by decide) (by unfold zR at *; omega) (fun c18 => ?_) (fun c18 => ?_)
      · skip
        refine J_aload_n dX0_copy_27 rfl ?_
        refine CG_rows dX0_copy_28 ?_
        refine J_iload_n dX0_copy_31 rfl ?_
        refine CA_ro x_r (by omega) (by omega) dX0_copy_32 ?_
        refine J_iload_n dX0_copy_33 rfl ?_
        refine J_aload_n dX0_copy_34 rfl ?_
        refine CG_rows dX0_copy_35 ?_
        refine J_iload_n dX0_copy_38 rfl ?_
        refine CA_roN x_q (by omega) (by omega) dX0_copy_39 ?_
        refine J_iload dX0_copy_40 rfl ?_
        refine J_iload dX0_copy_42 rfl ?_
        refine J_acopyX (Or.inr ⟨⟨_, rfl⟩, rfl⟩) q444 q446 q445 q116 (Nat.le_of_ble_eq_true rfl |> fun h => ⟨by decide, h⟩) (Nat.le_of_ble_eq_true rfl) dX0_copy_44 ?_
        refine JMn_catch (y := yX0_copy) (hh := [(27, 48, 49, 99), (27, 48, 57, 109)]) [] ⟨27, 48, 49, 99⟩ [⟨27, 48, 57, 109⟩] rfl rfl q442 (by decide) (Nat.le_of_ble_eq_true rfl) (by decide) (by decide) rfl (fun z hz => by cases hz) rfl (by decide) q386 q408 (fun q9 => ?_)
        refine J_astore dX0_copy_49 rfl (by decide) _ rfl ?_
        refine J_aload_n dX0_copy_51 rfl ?_
        refine J_iconst (zI 1) dX0_copy_52 rfl ?_
        refine CC_X0_found (by decide) (by decide) (Nat.le_of_ble_eq_true rfl) dX0_copy_53 ?_
        refine c_found (m := _) (by decide) ?_
        refine J_ri ?_
        exact J_iret rfl dX0_copy_56 (by exact hq)
      · exfalso; omega
    · exfalso; omega
  · exfalso; omega
theorem c_copy_no {E : jEnv} {α : Nat → Nat} {σ : cS} {Q : Option Value → cS → Prop} {rs : Nat → Int} {rd : Nat → Nat → Int32} {ts : Nat → Int} {tb : Nat → Nat → Int} {r q : Nat} {i j cn : Int} (hDt : cDt rs rd ts tb σ) (hr : r < 6) (hq6 : q < 6) (rc : zR cn) (hc : 0 ≤ cn) (h0 : rs r = -1 ∨ rs q = -1) (hq : Q (some (.int (zI (-3)))) (cAr (cI σ 0 (zI 1)) 1 (upd (σ.a 1) 1 (σ.a 1 1 + zI 1)))) : jX0_copy E α 0 [some (.ref (α 0)), some (.int (zI (r : Nat))), some (.int (zI (i))), some (.int (zI (q : Nat))), some (.int (zI (j))), some (.int (zI (cn))), none] [] σ Q := by
  by_cases z1 : rs r = -1
  · by_cases z2 : rs q = -1
    · exact c_copy_NN hDt hr hq6 rc hc z1 z2 hq
    · exact c_copy_NS hDt hr hq6 rc hc z1 z2 hq
  · exact c_copy_SN hDt hr hq6 rc hc z1 (by omega) hq
theorem cf_some {N0 N1 : Nat} {i j cn : Int} (ri : zR i) (rj : zR j) (rc : zR cn) (ho : i < 0 ∨ j < 0 ∨ (N0 : Int) < i + cn ∨ (N1 : Int) < j + cn) : copyFault .int .int N0 N1 (zI i) (zI j) (zI cn) ≠ none := by
  unfold copyFault
  split
  · simp
  · rename_i z1
    split
    · simp
    · rename_i z2
      split
      · simp
      · rename_i z3
        split
        · simp
        · rename_i z4
          split
          · simp
          · rename_i z5
            exfalso
            rw [zI_toInt ri, zI_toInt rc] at z4
            rw [zI_toInt rj, zI_toInt rc] at z5
            have y1 : ¬ i < 0 := fun y => z1 ((zI_lt ri zR_0).mpr y)
            have y2 : ¬ j < 0 := fun y => z2 ((zI_lt rj zR_0).mpr y)
            omega
theorem cDt_copy {rs : Nat → Int} {rd : Nat → Nat → Int32} {ts : Nat → Int} {tb : Nat → Nat → Int} {σ : cS} {r q a0 N0 a1 N1 i j cn : Nat} {f0 f1 : Nat → Int32} (h : cDt rs rd ts tb σ) (hr : r < 6) (hq : q < 6) (x0 : σ.ro r = some (a0, N0, f0)) (x1 : σ.ro q = some (a1, N1, f1)) (hi : i + cn ≤ N0) (hj : j + cn ≤ N1) : cDt rs (cpR rd r i q j cn) ts tb (cRo σ q (some (a1, N1, va_cpy f0 f1 i j cn))) := by
  rcases h.1 r hr with ⟨z1, z2⟩ | ⟨a', N', f', z1, z2, z3, z4⟩
  · rw [z2] at x0; cases x0
  · rw [x0] at z1; cases z1
    rcases h.1 q hq with ⟨y1, y2⟩ | ⟨a', N', f', y1, y2, y3, y4⟩
    · rw [y2] at x1; cases x1
    · rw [x1] at y1; cases y1
      have e := cDt_ro (a := a1) (N := N1) (r := q) (f := va_cpy f0 f1 i j cn) (g := fun k => if j ≤ k ∧ k < j + cn then rd r (i + (k - j)) else rd q k) h y3 (fun k hk => by
        unfold va_cpy
        by_cases z : j ≤ k ∧ k < j + cn
        · rw [if_pos z, if_pos z]
          exact z4 _ (by omega)
        · rw [if_neg z, if_neg z]
          exact y4 k hk)
      rw [← y2, upk_same] at e
      exact e
theorem c_copy_out {E : jEnv} {α : Nat → Nat} {σ : cS} {Q : Option Value → cS → Prop} {rs : Nat → Int} {rd : Nat → Nat → Int32} {ts : Nat → Int} {tb : Nat → Nat → Int} {r q : Nat} {i j cn : Int} (hDt : cDt rs rd ts tb σ) (hr : r < 6) (hq6 : q < 6) (ri : zR i) (rj : zR j) (rc : zR cn) (hc : 0 ≤ cn) (h0 : 0 ≤ rs r ∧ 0 ≤ rs q) (ho : i < 0 ∨ j < 0 ∨ rs r < i + cn ∨ rs q < j + cn) (hq : Q (some (.int (zI (-3)))) (cAr (cI σ 0 (zI 2)) 1 (upd (σ.a 1) 2 (σ.a 1 2 + zI 1)))) : jX0_copy E α 0 [some (.ref (α 0)), some (.int (zI (r : Nat))), some (.int (zI (i))), some (.int (zI (q : Nat))), some (.int (zI (j))), some (.int (zI (cn))), none] [] σ Q := by
  obtain ⟨a0, N0, f0, x_r, n_r, m_r, g_r⟩ : ∃ a N f, σ.ro r = some (a, N, f) ∧ rs r = (N : Nat) ∧ N ≤ 40 ∧ ∀ i, i < N → f i = rd r i := by
    rcases hDt.1 r hr with z | z
    · omega
    · exact z
  obtain ⟨a1, N1, f1, x_q, n_q, m_q, g_q⟩ : ∃ a N f, σ.ro q = some (a, N, f) ∧ rs q = (N : Nat) ∧ N ≤ 40 ∧ ∀ i, i < N → f i = rd q i := by
    rcases hDt.1 q hq6 with z | z
    · omega
    · exact z
  rw [n_r, n_q] at ho
  refine J_iload_n dX0_copy_0 rfl ?_
  refine CC_X0_isRow (by decide) (by decide) (Nat.le_of_ble_eq_true rfl) dX0_copy_1 ?_
  refine c_isRow (by unfold zR at *; omega) (fun b1 => ?_) (fun b1 => ?_)
  · refine J_ri ?_
    refine J_if_eq_n (tgt := 14) dX0_copy_4 (by decide) (by decide) ?_
    refine J_iload_n dX0_copy_7 rfl ?_
    refine CC_X0_isRow (by decide) (by decide) (Nat.le_of_ble_eq_true rfl) dX0_copy_8 ?_
    refine c_isRow (by unfold zR at *; omega) (fun b8 => ?_) (fun b8 => ?_)
    · refine J_ri ?_
      refine J_if_ne_y (tgt := 16) dX0_copy_11 (by decide) (by decide) ?_
      refine J_iload dX0_copy_16 rfl ?_
      refine J_if_ge_z (tgt := 27) dX0_copy_18 (by decide) (by unfold zR at *; omega) (fun c18 => ?_) (fun c18 => ?_)
      · skip
        refine J_aload_n dX0_copy_27 rfl ?_
        refine CG_rows dX0_copy_28 ?_
        refine J_iload_n dX0_copy_31 rfl ?_
        refine CA_ro x_r (by omega) (by omega) dX0_copy_32 ?_
        refine J_iload_n dX0_copy_33 rfl ?_
        refine J_aload_n dX0_copy_34 rfl ?_
        refine CG_rows dX0_copy_35 ?_
        refine J_iload_n dX0_copy_38 rfl ?_
        refine CA_ro x_q (by omega) (by omega) dX0_copy_39 ?_
        refine J_iload dX0_copy_40 rfl ?_
        refine J_iload dX0_copy_42 rfl ?_
        refine J_acopyZ (N0 := N0) (N1 := N1) (f := f0) (g := f1) (100 + r) (100 + q) (by rw [wC_ro hr, x_r]; rfl) (by rw [wC_ro hq6, x_q]; rfl) (by omega) (cf_some ri rj rc ho) q444 q446 q445 q116 (Nat.le_of_ble_eq_true rfl |> fun h => ⟨by decide, h⟩) (Nat.le_of_ble_eq_true rfl) dX0_copy_44 (fun text htx => ?_)
        refine JM_catch (y := yX0_copy) (hh := [(27, 48, 49, 99), (27, 48, 57, 109)]) (names := ["java/lang/IndexOutOfBoundsException", "java/lang/RuntimeException", "java/lang/Exception"]) (nb := 360) [⟨27, 48, 49, 99⟩] ⟨27, 48, 57, 109⟩ [] rfl rfl q442 ex_ix exg_ix (by decide +kernel) htx.1 htx.2 (by decide) (by decide) (Nat.le_of_ble_eq_true rfl) (by decide) (by decide) rfl (fun z hz => by
          rw [List.mem_singleton] at hz
          subst hz
          exact Or.inr ⟨by decide, _, q386, by decide⟩) rfl (by decide) q443 q2137 (fun q9 => ?_)
        refine J_astore dX0_copy_57 rfl (by decide) _ rfl ?_
        refine J_aload_n dX0_copy_59 rfl ?_
        refine J_iconst (zI 2) dX0_copy_60 rfl ?_
        refine CC_X0_found (by decide) (by decide) (Nat.le_of_ble_eq_true rfl) dX0_copy_61 ?_
        refine c_found (m := _) (by decide) ?_
        refine J_ri ?_
        exact J_iret rfl dX0_copy_64 (by exact hq)
      · exfalso; omega
    · exfalso; omega
  · exfalso; omega
theorem c_copy {E : jEnv} {α : Nat → Nat} {σ : cS} {Q : Option Value → cS → Prop} {rs : Nat → Int} {rd : Nat → Nat → Int32} {ts : Nat → Int} {tb : Nat → Nat → Int} {r i q j cn : Nat} (hDt : cDt rs rd ts tb σ) (hr : r < 6) (hq6 : q < 6) (hi : ((i + cn : Nat) : Int) ≤ rs r) (hj : ((j + cn : Nat) : Int) ≤ rs q) (hq : ∀ σ1, cT [] σ σ1 → cDt rs (cpR rd r i q j cn) ts tb σ1 → Q (some (.int (zI 1))) σ1) : jX0_copy E α 0 [some (.ref (α 0)), some (.int (zI (r : Nat))), some (.int (zI (i : Nat))), some (.int (zI (q : Nat))), some (.int (zI (j : Nat))), some (.int (zI (cn : Nat))), none] [] σ Q := by
  obtain ⟨a0, N0, f0, x_r, n_r, m_r, g_r⟩ : ∃ a N f, σ.ro r = some (a, N, f) ∧ rs r = (N : Nat) ∧ N ≤ 40 ∧ ∀ i, i < N → f i = rd r i := by
    rcases hDt.1 r hr with z | z
    · omega
    · exact z
  obtain ⟨a1, N1, f1, x_q, n_q, m_q, g_q⟩ : ∃ a N f, σ.ro q = some (a, N, f) ∧ rs q = (N : Nat) ∧ N ≤ 40 ∧ ∀ i, i < N → f i = rd q i := by
    rcases hDt.1 q hq6 with z | z
    · omega
    · exact z
  refine J_iload_n dX0_copy_0 rfl ?_
  refine CC_X0_isRow (by decide) (by decide) (Nat.le_of_ble_eq_true rfl) dX0_copy_1 ?_
  refine c_isRow (by unfold zR at *; omega) (fun b1 => ?_) (fun b1 => ?_)
  · refine J_ri ?_
    refine J_if_eq_n (tgt := 14) dX0_copy_4 (by decide) (by decide) ?_
    refine J_iload_n dX0_copy_7 rfl ?_
    refine CC_X0_isRow (by decide) (by decide) (Nat.le_of_ble_eq_true rfl) dX0_copy_8 ?_
    refine c_isRow (by unfold zR at *; omega) (fun b8 => ?_) (fun b8 => ?_)
    · refine J_ri ?_
      refine J_if_ne_y (tgt := 16) dX0_copy_11 (by decide) (by decide) ?_
      refine J_iload dX0_copy_16 rfl ?_
      refine J_if_ge_z (tgt := 27) dX0_copy_18 (by decide) (by unfold zR; omega) (fun c18 => ?_) (fun c18 => ?_)
      · skip
        refine J_aload_n dX0_copy_27 rfl ?_
        refine CG_rows dX0_copy_28 ?_
        refine J_iload_n dX0_copy_31 rfl ?_
        refine CA_ro x_r (by omega) (by omega) dX0_copy_32 ?_
        refine J_iload_n dX0_copy_33 rfl ?_
        refine J_aload_n dX0_copy_34 rfl ?_
        refine CG_rows dX0_copy_35 ?_
        refine J_iload_n dX0_copy_38 rfl ?_
        refine CA_ro x_q (by omega) (by omega) dX0_copy_39 ?_
        refine J_iload dX0_copy_40 rfl ?_
        refine J_iload dX0_copy_42 rfl ?_
        refine J_acopy (σ' := cRo σ q (some (a1, N1, va_cpy f0 f1 i j cn))) (N0 := N0) (N1 := N1) (f := f0) (g := f1) (ty := .int) 0 (100 + r) (100 + q) (by rw [wC_ro hr, x_r]; rfl) (by rw [wC_ro hq6, x_q]; rfl) rfl rfl (fun _ _ => rfl) (by omega) (by omega) (by omega) q444 q446 q445 q116 (Nat.le_of_ble_eq_true rfl |> fun h => ⟨by decide, h⟩) (Nat.le_of_ble_eq_true rfl) (wC_Ro hq6 x_q _) dX0_copy_44 ?_
        refine J_iconst (zI 1) dX0_copy_47 rfl ?_
        exact J_iret rfl dX0_copy_48 (by exact hq _ cT.refl.ro (cDt_copy hDt hr hq6 x_r x_q (by omega) (by omega)))
      · exfalso; omega
    · exfalso; omega
  · exfalso; omega
