set_option maxRecDepth 100000
/-! a cast that fails: its text; mark -/
def ccH (b : Bool) : String := (if b then "module java.base" else "unnamed module") ++ " of loader " ++ "'bootstrap'"
def ccM (x y z : String) : String := "class " ++ x ++ " cannot be cast to class " ++ y ++ " (" ++ z ++ ")"
def ccT (x y : String) : List String := [true, false].flatMap fun a => ccM (dotted x) (dotted y) (dotted x ++ " and " ++ dotted y ++ " are in " ++ ccH a) :: [true, false].map fun b => ccM (dotted x) (dotted y) (dotted x ++ " is in " ++ ccH a ++ "; " ++ dotted y ++ " is in " ++ ccH b)
theorem cc_home {vm : Vm} {k : Class} (hm : (vm.modules.all fun m => m.loader.isSome || m.name == "java.base" || !(castPackages_1.any fun p => m.packages.contains p)) = true) (hl : k.loader = none) (hp : packageOf k.name = "") : ∃ b, vm.home k = ccH b := by
  unfold Vm.home
  rw [hl]
  cases hf : vm.moduleOf k with
  | none => exact ⟨false, rfl⟩
  | some m =>
    have hn : m.name = "java.base" := by
      unfold Vm.moduleOf at hf
      split at hf
      · have := List.find?_some hf
        simpa using this
      · have h1 := List.find?_some hf
        have h2 := List.mem_of_find?_eq_some hf
        have h3 := List.all_eq_true.mp hm m h2
        rw [hl, hp] at h1
        rw [Bool.and_eq_true] at h1
        obtain ⟨a1, a2⟩ := h1
        have a3 : m.loader = none := by simpa using a1
        rw [a3] at h3
        have a4 : (castPackages_1.any fun p => m.packages.contains p) = true := List.any_eq_true.mpr ⟨"", by decide, a2⟩
        rw [a4] at h3
        simpa using h3
    refine ⟨true, ?_⟩
    show ("module " ++ m.name) ++ _ ++ _ = _
    rw [hn]
    rfl
theorem cc_text {vm : Vm} {a b : Class} {x y : String} (hm : (vm.modules.all fun m => m.loader.isSome || m.name == "java.base" || !(castPackages_1.any fun p => m.packages.contains p)) = true) (ha : a.name = x ∧ a.hidden = none ∧ a.loader = none) (hb : b.name = y ∧ b.hidden = none ∧ b.loader = none) (hx : packageOf x = "") (hy : packageOf y = "") : Op.checkcast.message vm a b ∈ ccT x y := by
  have ea : a.shown = dotted x := by unfold Class.shown; rw [ha.2.1, ha.1]
  have eb : b.shown = dotted y := by unfold Class.shown; rw [hb.2.1, hb.1]
  obtain ⟨ba, h1⟩ := cc_home hm ha.2.2 (by rw [ha.1]; exact hx)
  obtain ⟨bb, h2⟩ := cc_home hm hb.2.2 (by rw [hb.1]; exact hy)
  unfold Op.checkcast.message Vm.homes
  rw [ea, eb, h1, h2]
  split
  · cases ba
    · exact List.mem_of_getElem? (i := 3) rfl
    · exact List.mem_of_getElem? (i := 0) rfl
  · cases ba <;> cases bb
    · exact List.mem_of_getElem? (i := 5) rfl
    · exact List.mem_of_getElem? (i := 4) rfl
    · exact List.mem_of_getElem? (i := 2) rfl
    · exact List.mem_of_getElem? (i := 1) rfl
theorem cc_class {vm : Vm} {name : String} {c : ClassId} (h : vm.findClass name = some c) : ∃ k, vm.classes[c]? = some k ∧ k.name = name ∧ k.hidden = none ∧ k.loader = none := by
  obtain ⟨hlt, hp, _⟩ := Array.findIdx?_eq_some_iff_getElem.mp h
  refine ⟨vm.classes[c], by simp [hlt], ?_⟩
  simp only [Bool.and_eq_true, beq_iff_eq] at hp
  exact ⟨hp.1.1.1, Option.isNone_iff_eq_none.mp hp.1.1.2, Option.isNone_iff_eq_none.mp hp.2⟩
section CC5
variable {p : Program} {l : Launch} {e : Env} {R : Room} {s : State} {m : MethodId} {args : Array Value} {below : List Frame} {meth : Method} {c : Code} {T : State} {locs : List Loc} {cells slots : Nat}
theorem k_castNo (X : Stand p l e R s m args below meth c T locs cells slots) (hexec : p.tables.exec = Jvm.exec)
    {own name C : String} {index : Nat} (hown : s.vm.findClass own = some m.cls) (hlink : (Cond.classLink own index name).before args s = true) (hmod : modulesRight_1 s = true) (hx : packageOf C = "") (hy : packageOf name = "")
    {a : Addr} {cell : Cell} {cT : ClassId} (hcell : T.heap[a]? = some cell) (hobj : cell.vm.isStatics = false) (hC : s.vm.findClass C = some cell.cls) (hcT : s.vm.findClass name = some cT) (hasg : s.vm.assignable cell.cls cT = false)
    {g : JFrame} (hg : g.method = m) {rest : List Value} (hstack : g.stack = .ref a :: rest) (hdg : decode c.code g.pc = .ok (.checkcast index, 3)) :
    ∃ vm', Stand p l e R s m args below meth c (T.setVm vm') locs cells slots ∧ ∃ text ∈ ccT C name,
      ∀ target, Steps p.tables e below (((T.setVm vm').setTop g).pushFrame (.throwNew "java/lang/ClassCastException" (some text) none)) target → Steps p.tables e below (T.setTop g) target := by
  have hpl : e.platform.magicAccessors = ({} : Platform).magicAccessors := by rw [X.admits.platform]
  obtain ⟨c', hc', hcl⟩ := Cond.classLink_spec hown hlink e.platform hpl
  cases hcT.symm.trans hc'
  obtain ⟨dk, _, _, kt, hd, _, _, _, _, hkt, _, hopen⟩ := hcl.here
  have hcl₀ := X.warmed.classLinks hcl
  have hW' : s.WarmedH (T.vm.noted m.cls index (.cls cT)) := X.warmed.noted hd hopen (State.rightAt_cls hcl)
  obtain ⟨ks', hks', n1, n2, n3⟩ := cc_class (vm := T.vm.noted m.cls index (.cls cT)) (by rw [hW'.alike.findClass]; exact hC)
  obtain ⟨kt', hkt', n4, n5, n6⟩ := cc_class (vm := T.vm.noted m.cls index (.cls cT)) (by rw [hW'.alike.findClass]; exact hcT)
  have hmod' := k_mod (U := T.setVm (T.vm.noted m.cls index (.cls cT))) ((congrArg (fun v => v.modules) hW'.alike.1).symm) hmod
  refine ⟨_, X.noted hW', _, cc_text (vm := T.vm.noted m.cls index (.cls cT)) hmod' ⟨n1, n2, n3⟩ ⟨n4, n5, n6⟩ hx hy, fun target hrest => ?_⟩
  subst hg
  jvm_step X.here [hexec, hdg, Op.checkcast.wp_cold (e := e) (s := T) (f := g) X.here.top hstack (resolveClass_links e.toSetting hcl₀) hcl₀.ready,
    Op.checkcast.wp_ready (e := e) (s := T.setVm (T.vm.noted g.method.cls index (.cls cT))) (f := g) X.here.top hcl₀.ready hstack]
  refine ⟨cell, hcell, VmData.noStatics_of hobj, ks', hks', kt', hkt', ?_⟩
  have h1 : (T.vm.noted g.method.cls index (Resolved.cls cT)).assignable cell.cls cT = false := by rw [hW'.alike.assignable]; exact hasg
  simp only [h1]
  exact hrest
end CC5
def JNc (E : jEnv) {St : Type} (w : St → jW) (X : jX) (cc : ByteArray) (mL : Nat) (ret : Option FieldType) (own : String) (R : Room) (k n : Nat) (pc : Nat) (L : List (Option Value)) (st : List Value) (σ : St) (Q : Option Value → St → Prop) (C T : String) : Prop := ∀ text ∈ ccT C T, JN E w X cc mL ret own R k n pc L st σ Q "java/lang/ClassCastException" text
section CC6
variable {E : jEnv} {St : Type} {w : St → jW} {X : jX} {cc : ByteArray} {mL : Nat} {ret : Option FieldType} {own : String} {R : Room} {k n pc : Nat} {L : List (Option Value)} {st : List Value} {σ : St} {Q : Option Value → St → Prop}
theorem J_castN {a ci index N : Nat} {V : Nat → Value} {C nm : String} {T : u_T} (r : Nat) (hr : w σ r = some (a, .inr (ci, V))) (hc : CL[ci]? = some (C, T, N)) (hX1 : X.1 = cX E) (q1 : Cond.classLink own index nm ∈ lw_all) (q2 : (C, nm) ∈ cNc) (hx : packageOf C = "") (hy : packageOf nm = "") (d : decode cc pc = .ok (.checkcast index, 3)) (kk : JNc E w X cc mL ret own R k n pc L (.ref a :: st) σ Q C nm) : J E w X cc mL ret own R k n pc L (.ref a :: st) σ Q := by
  intro p e s m args below meth c A H locs ls C0 hX hA hk hn hP hD hS hL T0 hT Y
  have hXc : cX E A s := by rw [← hX1]; exact hX.1
  obtain ⟨cell, g1, g2, g3⟩ : ∃ cell : Cell, H[a]? = some cell ∧ cell.vm.isStatics = false ∧ s.vm.findClass C = some cell.cls := by
    obtain ⟨r', h1, cell, g1, g2, g3, -⟩ := hP r _ _ hr
    exact ⟨cell, g1, by rw [g3]; rfl, by rw [g2]; exact (C0.2.2.2.2.2.2.2.1 ci _ hc).2.1⟩
  obtain ⟨c0, t0, f1, f2, f3⟩ := hXc.2.2.2.1 _ q2
  cases g3.symm.trans f1
  obtain ⟨vm', X', text, ht, step⟩ := k_castNo Y C0.1 C0.2.2.2.2.2.1 (C0.2.2.2.2.2.2.1 _ q1) hXc.2.2.2.2.2.2.2.2.2.1 hx hy (by rw [hT]; exact g1) g2 g3 f2 f3 (g := F0 m pc ls (.ref a :: st)) rfl rfl (by rw [C0.2.1]; exact d)
  obtain ⟨t, a1, b1⟩ := kk text ht p e s m args below meth c A H locs ls C0 hX hA hk hn hP hD hS hL (T0.setVm vm') hT X'
  exact ⟨t, step t a1, b1⟩
theorem J_castY {a ci index N : Nat} {V : Nat → Value} {C nm : String} {T : u_T} (r : Nat) (hr : w σ r = some (a, .inr (ci, V))) (hc : CL[ci]? = some (C, T, N)) (hX1 : X.1 = cX E) (q1 : Cond.classLink own index nm ∈ lw_all) (q2 : Cond.castable C nm ∈ lw_tbl) (d : decode cc pc = .ok (.checkcast index, 3)) (kk : J E w X cc mL ret own R k n (pc + 3) L (.ref a :: st) σ Q) : J E w X cc mL ret own R k n pc L (.ref a :: st) σ Q := by
  intro p e s m args below meth c A H locs ls C0 hX hA hk hn hP hD hS hL
  have hXc : cX E A s := by rw [← hX1]; exact hX.1
  have hrecv : ∃ cell : Cell, H[a]? = some cell ∧ cell.vm.isStatics = false ∧ s.vm.findClass C = some cell.cls := by
    obtain ⟨r', h1, cell, g1, g2, g3, -⟩ := hP r _ _ hr
    exact ⟨cell, g1, by rw [g3]; rfl, by rw [g2]; exact (C0.2.2.2.2.2.2.2.1 ci _ hc).2.1⟩
  exact va_castY C0.1 C0.2.1 C0.2.2.2.2.2.1 (C0.2.2.2.2.2.2.1 _ q1) (hXc.1 _ q2 rfl) hrecv d (kk p e s m args below meth c A H locs ls C0 hX hA hk hn hP hD hS hL)
theorem J_castS {a ci index N : Nat} {V : Nat → Value} {C : String} {T : u_T} (r : Nat) (hr : w σ r = some (a, .inr (ci, V))) (hc : CL[ci]? = some (C, T, N)) (q1 : Cond.classLink own index C ∈ lw_all) (d : decode cc pc = .ok (.checkcast index, 3)) (kk : J E w X cc mL ret own R k n (pc + 3) L (.ref a :: st) σ Q) : J E w X cc mL ret own R k n pc L (.ref a :: st) σ Q := by
  intro p e s m args below meth c A H locs ls C0 hX hA hk hn hP hD hS hL T0 hT Y
  obtain ⟨cell, g1, g2, g3⟩ : ∃ cell : Cell, H[a]? = some cell ∧ cell.vm.isStatics = false ∧ s.vm.findClass C = some cell.cls := by
    obtain ⟨r', h1, cell, g1, g2, g3, -⟩ := hP r _ _ hr
    exact ⟨cell, g1, by rw [g3]; rfl, by rw [g2]; exact (C0.2.2.2.2.2.2.2.1 ci _ hc).2.1⟩
  obtain ⟨vm', X', st⟩ := Y.checkcastYes C0.1 C0.2.2.2.2.2.1 (C0.2.2.2.2.2.2.1 _ q1) (by rw [hT]; exact g1) g2 g3 (va_asg _ _) (g := F0 m pc ls (.ref a :: st)) rfl rfl (by rw [C0.2.1]; exact d)
  obtain ⟨t, a1, b1⟩ := kk p e s m args below meth c A H locs ls C0 hX hA hk hn hP hD hS hL (T0.setVm vm') hT X'
  exact ⟨t, st t a1, b1⟩
end CC6
theorem cc_nm (x y z : String) : (ccM x y z == notModelled) = false := by
  rw [beq_eq_false_iff_ne]
  intro h
  have h2 := congrArg (fun s => s.toList.head?) h
  have h3 : (ccM x y z).toList.head? = some 'c' := by
    unfold ccM
    simp only [String.toList_append]
    rfl
  have h4 : notModelled.toList.head? ≠ some 'c' := by decide +kernel
  exact h4 (h2.symm.trans h3)
theorem ccM_l {x y z : String} : (ccM x y z).toList.length = 34 + x.toList.length + y.toList.length + z.toList.length := by
  unfold ccM
  simp only [String.toList_append, List.length_append]
  have e1 : "class ".toList.length = 6 := by decide
  have e2 : " cannot be cast to class ".toList.length = 25 := by decide
  have e3 : " (".toList.length = 2 := by decide
  have e4 : ")".toList.length = 1 := by decide
  rw [e1, e2, e3, e4]
  omega
theorem ccH_l (b : Bool) : (ccH b).toList.length ≤ 40 := by
  cases b <;> decide
theorem cc_mem {x y text : String} (ht : text ∈ ccT x y) : ∃ z, text = ccM (dotted x) (dotted y) z ∧ z.toList.length ≤ 100 + (dotted x).toList.length + (dotted y).toList.length := by
  have e1 : " and ".toList.length = 5 := by decide
  have e2 : " are in ".toList.length = 8 := by decide
  have e3 : " is in ".toList.length = 7 := by decide
  have e4 : "; ".toList.length = 2 := by decide
  simp only [ccT, List.mem_flatMap, List.mem_cons, List.mem_map] at ht
  obtain ⟨a, -, h | ⟨b, -, h⟩⟩ := ht
  · refine ⟨_, h, ?_⟩
    have := ccH_l a
    simp only [String.toList_append, List.length_append, e1, e2]
    omega
  · refine ⟨_, h.symm, ?_⟩
    have := ccH_l a
    have := ccH_l b
    simp only [String.toList_append, List.length_append, e3, e4]
    omega
theorem cc_ok {x y text : String} (h1 : (dotted x).toList.length ≤ 24) (h2 : (dotted y).toList.length ≤ 24) (ht : text ∈ ccT x y) : (text == notModelled) = false ∧ (stringBytes (stringToUtf16 text)).size ≤ 960 := by
  have b1 := stringBytes_size_le (stringToUtf16 text)
  have b2 := utf16_size_le text
  obtain ⟨z, hz, hl⟩ := cc_mem ht
  rw [hz, ccM_l] at b2
  rw [hz] at b1 ⊢
  exact ⟨cc_nm _ _ _, by omega⟩
theorem fr_w {E : jEnv} {α : Nat → Nat} {σ : cS} {many : Nat} {wide high bl : Int} {G : Nat → Nat → Int} {ad : Nat → Nat} {c : Nat → Nat → Int} (hS : cSh many wide high bl G ad c σ) (hO : shOK many wide high bl G) {f : Nat} (hf : f < many) {q : Nat} (hk : G f 0 = q) : wC E α σ (120 + f) = some (ad f, .inr (2 + q, fV (G f) (c f))) := by
  rw [hS.w hf hO.1]
  unfold fC
  rw [hk]
  rfl

abbrev jX0_mark (E : jEnv) (α : Nat → Nat) := J E (wC E α) (cX E, some yX0_mark) cX0_mark 5 (some .int) RX0 (jRx 9 12 1100) 0 0
theorem c_mark_bad {E : jEnv} {α : Nat → Nat} {σ : cS} {Q : Option Value → cS → Prop} {many : Nat} {wide high bl : Int} {G : Nat → Nat → Int} {ad : Nat → Nat} {c : Nat → Nat → Int} {v u : Int} (hS : cSh many wide high bl G ad c σ) (hO : shOK many wide high bl G) (rv : zR v) (ru : zR u) (hv : ¬ (0 ≤ v ∧ v < many) ∨ ¬ (1 ≤ u ∧ u ≤ 3)) (hq : Q (some (.int (zI (-1)))) σ) : jX0_mark E α 0 [some (.ref (α 0)), some (.int (zI (v))), some (.int (zI (u))), none, none] [] σ Q := by
  refine J_aload_n dX0_mark_0 rfl ?_
  refine J_iload_n dX0_mark_1 rfl ?_
  refine CC_X0_isFrame (by decide) (by decide) (Nat.le_of_ble_eq_true rfl) dX0_mark_2 ?_
  refine c_isFrame hS hO (by unfold zR at *; omega) (fun b2 => ?_) (fun b2 => ?_)
  · refine J_ri ?_
    refine J_if_eq_n (tgt := 17) dX0_mark_5 (by decide) (by decide) ?_
    refine J_iload_n dX0_mark_8 rfl ?_
    refine J_iconst (zI 1) dX0_mark_9 rfl ?_
    refine J_iconst (zI 3) dX0_mark_10 rfl ?_
    refine PX0_isIn (by unfold zR at *; omega) (by unfold zR at *; omega) (by unfold zR at *; omega) (by decide) (by decide) (Nat.le_of_ble_eq_true rfl) dX0_mark_11 (fun b11 => ?_) (fun b11 => ?_)
    · exfalso; omega
    · skip
      refine J_if_ne_n (tgt := 19) dX0_mark_14 (by decide) (by decide) ?_
      refine J_iconst (zI (-1)) dX0_mark_17 rfl ?_
      exact J_iret rfl dX0_mark_18 (by exact hq)
  · refine J_ri ?_
    refine J_if_eq_y (tgt := 17) dX0_mark_5 (by decide) (by decide) ?_
    refine J_iconst (zI (-1)) dX0_mark_17 rfl ?_
    exact J_iret rfl dX0_mark_18 (by exact hq)
theorem c_mark10 {E : jEnv} {α : Nat → Nat} {σ : cS} {Q : Option Value → cS → Prop} {many : Nat} {wide high bl : Int} {G : Nat → Nat → Int} {ad : Nat → Nat} {c : Nat → Nat → Int} {f : Nat} (hS : cSh many wide high bl G ad c σ) (hO : shOK many wide high bl G) (hf : f < many) (hk : G f 0 = 0) (hq : Q (some (.int (zI (-3)))) (cAr (cI σ 0 (zI 3)) 1 (upd (σ.a 1) 3 (σ.a 1 3 + zI 1)))) : jX0_mark E α 0 [some (.ref (α 0)), some (.int (zI (f : Nat))), some (.int (zI 1)), none, none] [] σ Q := by
  have hO8 := hO.s
  have := mAc_b hO hf
  have := mDn_b hO hf
  refine J_aload_n dX0_mark_0 rfl ?_
  refine J_iload_n dX0_mark_1 rfl ?_
  refine CC_X0_isFrame (by decide) (by decide) (Nat.le_of_ble_eq_true rfl) dX0_mark_2 ?_
  refine c_isFrame hS hO (by unfold zR at *; omega) (fun b2 => ?_) (fun b2 => ?_)
  · refine J_ri ?_
    refine J_if_eq_n (tgt := 17) dX0_mark_5 (by decide) (by decide) ?_
    refine J_iload_n dX0_mark_8 rfl ?_
    refine J_iconst (zI 1) dX0_mark_9 rfl ?_
    refine J_iconst (zI 3) dX0_mark_10 rfl ?_
    refine PX0_isIn (by unfold zR; omega) (by unfold zR; omega) (by unfold zR; omega) (by decide) (by decide) (Nat.le_of_ble_eq_true rfl) dX0_mark_11 (fun b11 => ?_) (fun b11 => ?_)
    · skip
      refine J_if_ne_y (tgt := 19) dX0_mark_14 (by decide) (by decide) ?_
      refine J_aload_n dX0_mark_19 rfl ?_
      refine CG_frames dX0_mark_20 ?_
      refine J_iload_n dX0_mark_23 rfl ?_
      refine CA_fr (hS.2.2.2.2 _ hf) (by omega) (by have := hO.1; omega) dX0_mark_24 ?_
      refine J_astore_n dX0_mark_25 rfl (by decide) _ rfl ?_
      refine J_iload_n dX0_mark_26 rfl ?_
      refine J_lookup (tgt := 52) (25) dX0_mark_27 (by decide) (by decide) (by decide) ?_
      refine J_aload_n dX0_mark_52 rfl ?_
      refine J_castN (C := "FrameSheets$Frame") (nm := "FrameSheets$Icon") (120 + f) (fr_w hS hO hf hk (q := 0)) rfl rfl q796 (by decide) (by decide +kernel) (by decide +kernel) dX0_mark_53 (fun text ht => ?_)
      have htx := ht
      refine JN_catch (y := yX0_mark) (hh := [(26, 83, 84, 310)]) (names := ["java/lang/RuntimeException", "java/lang/Exception"]) (nb := 960) [] ⟨26, 83, 84, 310⟩ [] rfl rfl q1163 ex_cc exg_cc (by decide +kernel) (cc_ok (x := "FrameSheets$Frame") (y := "FrameSheets$Icon") (by decide +kernel) (by decide +kernel) htx).1 (cc_ok (x := "FrameSheets$Frame") (y := "FrameSheets$Icon") (by decide +kernel) (by decide +kernel) htx).2 (by decide) (by decide) (Nat.le_of_ble_eq_true rfl) (by decide) (by decide) rfl (fun z hz => by cases hz) rfl (by decide) q1164 q1176 (fun q9 => ?_)
      refine J_astore dX0_mark_84 rfl (by decide) _ rfl ?_
      refine J_aload_n dX0_mark_86 rfl ?_
      refine J_iconst (zI 3) dX0_mark_87 rfl ?_
      refine CC_X0_found (by decide) (by decide) (Nat.le_of_ble_eq_true rfl) dX0_mark_88 ?_
      refine c_found (m := _) (by decide) ?_
      refine J_ri ?_
      exact J_iret rfl dX0_mark_91 (by exact hq)
    · exfalso; omega
  · exfalso; omega
theorem mark_1_1 {bl : Int} {G : Nat → Nat → Int} {f : Nat} (hk : G f 0 = 1) : mMark bl G f 1 = ((if mAc G f < mDn G f then mDn G f else mAc G f) - (if mAc G f < mDn G f then mAc G f else mDn G f)) := by
  unfold mMark
  rw [if_pos rfl]
  omega
theorem c_mark11 {E : jEnv} {α : Nat → Nat} {σ : cS} {Q : Option Value → cS → Prop} {many : Nat} {wide high bl : Int} {G : Nat → Nat → Int} {ad : Nat → Nat} {c : Nat → Nat → Int} {f : Nat} (hS : cSh many wide high bl G ad c σ) (hO : shOK many wide high bl G) (hf : f < many) (hk : G f 0 = 1) (hq : Q (some (.int (zI (mMark bl G f 1)))) σ) : jX0_mark E α 0 [some (.ref (α 0)), some (.int (zI (f : Nat))), some (.int (zI 1)), none, none] [] σ Q := by
  have hO8 := hO.s
  have := mAc_b hO hf
  have := mDn_b hO hf
  refine J_aload_n dX0_mark_0 rfl ?_
  refine J_iload_n dX0_mark_1 rfl ?_
  refine CC_X0_isFrame (by decide) (by decide) (Nat.le_of_ble_eq_true rfl) dX0_mark_2 ?_
  refine c_isFrame hS hO (by unfold zR at *; omega) (fun b2 => ?_) (fun b2 => ?_)
  · refine J_ri ?_
    refine J_if_eq_n (tgt := 17) dX0_mark_5 (by decide) (by decide) ?_
    refine J_iload_n dX0_mark_8 rfl ?_
    refine J_iconst (zI 1) dX0_mark_9 rfl ?_
    refine J_iconst (zI 3) dX0_mark_10 rfl ?_
    refine PX0_isIn (by unfold zR; omega) (by unfold zR; omega) (by unfold zR; omega) (by decide) (by decide) (Nat.le_of_ble_eq_true rfl) dX0_mark_11 (fun b11 => ?_) (fun b11 => ?_)
    · skip
      refine J_if_ne_y (tgt := 19) dX0_mark_14 (by decide) (by decide) ?_
      refine J_aload_n dX0_mark_19 rfl ?_
      refine CG_frames dX0_mark_20 ?_
      refine J_iload_n dX0_mark_23 rfl ?_
      refine CA_fr (hS.2.2.2.2 _ hf) (by omega) (by have := hO.1; omega) dX0_mark_24 ?_
      refine J_astore_n dX0_mark_25 rfl (by decide) _ rfl ?_
      refine J_iload_n dX0_mark_26 rfl ?_
      refine J_lookup (tgt := 52) (25) dX0_mark_27 (by decide) (by decide) (by decide) ?_
      refine J_aload_n dX0_mark_52 rfl ?_
      refine J_castS (C := "FrameSheets$Icon") (120 + f) (fr_w hS hO hf hk (q := 1)) rfl q796 dX0_mark_53 ?_
      refine VX4_longer G f (c := (c f))  (hS.w hf hO.1) (hO.k hf) (by omega) (by omega) q1178 (by decide) (by decide) (Nat.le_of_ble_eq_true rfl) dX0_mark_56 ?_
      refine J_goto (tgt := 83) dX0_mark_59 (by decide) ?_
      refine J_iret rfl dX0_mark_83 ?_
      rw [show mMark bl G f 1 = _ from mark_1_1 (by omega)] at hq
      exact hq
    · exfalso; omega
  · exfalso; omega
theorem c_mark12 {E : jEnv} {α : Nat → Nat} {σ : cS} {Q : Option Value → cS → Prop} {many : Nat} {wide high bl : Int} {G : Nat → Nat → Int} {ad : Nat → Nat} {c : Nat → Nat → Int} {f : Nat} (hS : cSh many wide high bl G ad c σ) (hO : shOK many wide high bl G) (hf : f < many) (hk : G f 0 = 2) (hq : Q (some (.int (zI (-3)))) (cAr (cI σ 0 (zI 3)) 1 (upd (σ.a 1) 3 (σ.a 1 3 + zI 1)))) : jX0_mark E α 0 [some (.ref (α 0)), some (.int (zI (f : Nat))), some (.int (zI 1)), none, none] [] σ Q := by
  have hO8 := hO.s
  have := mAc_b hO hf
  have := mDn_b hO hf
  refine J_aload_n dX0_mark_0 rfl ?_
  refine J_iload_n dX0_mark_1 rfl ?_
  refine CC_X0_isFrame (by decide) (by decide) (Nat.le_of_ble_eq_true rfl) dX0_mark_2 ?_
  refine c_isFrame hS hO (by unfold zR at *; omega) (fun b2 => ?_) (fun b2 => ?_)
  · refine J_ri ?_
    refine J_if_eq_n (tgt := 17) dX0_mark_5 (by decide) (by decide) ?_
    refine J_iload_n dX0_mark_8 rfl ?_
    refine J_iconst (zI 1) dX0_mark_9 rfl ?_
    refine J_iconst (zI 3) dX0_mark_10 rfl ?_
    refine PX0_isIn (by unfold zR; omega) (by unfold zR; omega) (by unfold zR; omega) (by decide) (by decide) (Nat.le_of_ble_eq_true rfl) dX0_mark_11 (fun b11 => ?_) (fun b11 => ?_)
    · skip
      refine J_if_ne_y (tgt := 19) dX0_mark_14 (by decide) (by decide) ?_
      refine J_aload_n dX0_mark_19 rfl ?_
      refine CG_frames dX0_mark_20 ?_
      refine J_iload_n dX0_mark_23 rfl ?_
      refine CA_fr (hS.2.2.2.2 _ hf) (by omega) (by have := hO.1; omega) dX0_mark_24 ?_
      refine J_astore_n dX0_mark_25 rfl (by decide) _ rfl ?_
      refine J_iload_n dX0_mark_26 rfl ?_
      refine J_lookup (tgt := 52) (25) dX0_mark_27 (by decide) (by decide) (by decide) ?_
      refine J_aload_n dX0_mark_52 rfl ?_
      refine J_castN (C := "FrameSheets$Border") (nm := "FrameSheets$Icon") (120 + f) (fr_w hS hO hf hk (q := 2)) rfl rfl q796 (by decide) (by decide +kernel) (by decide +kernel) dX0_mark_53 (fun text ht => ?_)
      have htx := ht
      refine JN_catch (y := yX0_mark) (hh := [(26, 83, 84, 310)]) (names := ["java/lang/RuntimeException", "java/lang/Exception"]) (nb := 960) [] ⟨26, 83, 84, 310⟩ [] rfl rfl q1163 ex_cc exg_cc (by decide +kernel) (cc_ok (x := "FrameSheets$Border") (y := "FrameSheets$Icon") (by decide +kernel) (by decide +kernel) htx).1 (cc_ok (x := "FrameSheets$Border") (y := "FrameSheets$Icon") (by decide +kernel) (by decide +kernel) htx).2 (by decide) (by decide) (Nat.le_of_ble_eq_true rfl) (by decide) (by decide) rfl (fun z hz => by cases hz) rfl (by decide) q1164 q1176 (fun q9 => ?_)
      refine J_astore dX0_mark_84 rfl (by decide) _ rfl ?_
      refine J_aload_n dX0_mark_86 rfl ?_
      refine J_iconst (zI 3) dX0_mark_87 rfl ?_
      refine CC_X0_found (by decide) (by decide) (Nat.le_of_ble_eq_true rfl) dX0_mark_88 ?_
      refine c_found (m := _) (by decide) ?_
      refine J_ri ?_
      exact J_iret rfl dX0_mark_91 (by exact hq)
    · exfalso; omega
  · exfalso; omega
theorem mark_1_3 {bl : Int} {G : Nat → Nat → Int} {f : Nat} (hk : G f 0 = 3) : mMark bl G f 1 = ((if mAc G f < mDn G f then mDn G f else mAc G f) - (if mAc G f < mDn G f then mAc G f else mDn G f)) := by
  unfold mMark
  rw [if_pos rfl]
  omega
theorem c_mark13 {E : jEnv} {α : Nat → Nat} {σ : cS} {Q : Option Value → cS → Prop} {many : Nat} {wide high bl : Int} {G : Nat → Nat → Int} {ad : Nat → Nat} {c : Nat → Nat → Int} {f : Nat} (hS : cSh many wide high bl G ad c σ) (hO : shOK many wide high bl G) (hf : f < many) (hk : G f 0 = 3) (hq : Q (some (.int (zI (mMark bl G f 1)))) σ) : jX0_mark E α 0 [some (.ref (α 0)), some (.int (zI (f : Nat))), some (.int (zI 1)), none, none] [] σ Q := by
  have hO8 := hO.s
  have := mAc_b hO hf
  have := mDn_b hO hf
  refine J_aload_n dX0_mark_0 rfl ?_
  refine J_iload_n dX0_mark_1 rfl ?_
  refine CC_X0_isFrame (by decide) (by decide) (Nat.le_of_ble_eq_true rfl) dX0_mark_2 ?_
  refine c_isFrame hS hO (by unfold zR at *; omega) (fun b2 => ?_) (fun b2 => ?_)
  · refine J_ri ?_
    refine J_if_eq_n (tgt := 17) dX0_mark_5 (by decide) (by decide) ?_
    refine J_iload_n dX0_mark_8 rfl ?_
    refine J_iconst (zI 1) dX0_mark_9 rfl ?_
    refine J_iconst (zI 3) dX0_mark_10 rfl ?_
    refine PX0_isIn (by unfold zR; omega) (by unfold zR; omega) (by unfold zR; omega) (by decide) (by decide) (Nat.le_of_ble_eq_true rfl) dX0_mark_11 (fun b11 => ?_) (fun b11 => ?_)
    · skip
      refine J_if_ne_y (tgt := 19) dX0_mark_14 (by decide) (by decide) ?_
      refine J_aload_n dX0_mark_19 rfl ?_
      refine CG_frames dX0_mark_20 ?_
      refine J_iload_n dX0_mark_23 rfl ?_
      refine CA_fr (hS.2.2.2.2 _ hf) (by omega) (by have := hO.1; omega) dX0_mark_24 ?_
      refine J_astore_n dX0_mark_25 rfl (by decide) _ rfl ?_
      refine J_iload_n dX0_mark_26 rfl ?_
      refine J_lookup (tgt := 52) (25) dX0_mark_27 (by decide) (by decide) (by decide) ?_
      refine J_aload_n dX0_mark_52 rfl ?_
      refine J_castY (C := "FrameSheets$Logo") (nm := "FrameSheets$Icon") (120 + f) (fr_w hS hO hf hk (q := 3)) rfl rfl q796 q2138 dX0_mark_53 ?_
      refine VX4_longer G f (c := (c f))  (hS.w hf hO.1) (hO.k hf) (by omega) (by omega) q1178 (by decide) (by decide) (Nat.le_of_ble_eq_true rfl) dX0_mark_56 ?_
      refine J_goto (tgt := 83) dX0_mark_59 (by decide) ?_
      refine J_iret rfl dX0_mark_83 ?_
      rw [show mMark bl G f 1 = _ from mark_1_3 (by omega)] at hq
      exact hq
    · exfalso; omega
  · exfalso; omega
theorem c_mark20 {E : jEnv} {α : Nat → Nat} {σ : cS} {Q : Option Value → cS → Prop} {many : Nat} {wide high bl : Int} {G : Nat → Nat → Int} {ad : Nat → Nat} {c : Nat → Nat → Int} {f : Nat} (hS : cSh many wide high bl G ad c σ) (hO : shOK many wide high bl G) (hf : f < many) (hk : G f 0 = 0) (hq : Q (some (.int (zI (-3)))) (cAr (cI σ 0 (zI 3)) 1 (upd (σ.a 1) 3 (σ.a 1 3 + zI 1)))) : jX0_mark E α 0 [some (.ref (α 0)), some (.int (zI (f : Nat))), some (.int (zI 2)), none, none] [] σ Q := by
  have hO8 := hO.s
  have := mAc_b hO hf
  have := mDn_b hO hf
  refine J_aload_n dX0_mark_0 rfl ?_
  refine J_iload_n dX0_mark_1 rfl ?_
  refine CC_X0_isFrame (by decide) (by decide) (Nat.le_of_ble_eq_true rfl) dX0_mark_2 ?_
  refine c_isFrame hS hO (by unfold zR at *; omega) (fun b2 => ?_) (fun b2 => ?_)
  · refine J_ri ?_
    refine J_if_eq_n (tgt := 17) dX0_mark_5 (by decide) (by decide) ?_
    refine J_iload_n dX0_mark_8 rfl ?_
    refine J_iconst (zI 1) dX0_mark_9 rfl ?_
    refine J_iconst (zI 3) dX0_mark_10 rfl ?_
    refine PX0_isIn (by unfold zR; omega) (by unfold zR; omega) (by unfold zR; omega) (by decide) (by decide) (Nat.le_of_ble_eq_true rfl) dX0_mark_11 (fun b11 => ?_) (fun b11 => ?_)
    · skip
      refine J_if_ne_y (tgt := 19) dX0_mark_14 (by decide) (by decide) ?_
      refine J_aload_n dX0_mark_19 rfl ?_
      refine CG_frames dX0_mark_20 ?_
      refine J_iload_n dX0_mark_23 rfl ?_
      refine CA_fr (hS.2.2.2.2 _ hf) (by omega) (by have := hO.1; omega) dX0_mark_24 ?_
      refine J_astore_n dX0_mark_25 rfl (by decide) _ rfl ?_
      refine J_iload_n dX0_mark_26 rfl ?_
      refine J_lookup (tgt := 62) (35) dX0_mark_27 (by decide) (by decide) (by decide) ?_
      refine J_aload_n dX0_mark_62 rfl ?_
      refine J_castN (C := "FrameSheets$Frame") (nm := "FrameSheets$Border") (120 + f) (fr_w hS hO hf hk (q := 0)) rfl rfl q844 (by decide) (by decide +kernel) (by decide +kernel) dX0_mark_63 (fun text ht => ?_)
      have htx := ht
      refine JN_catch (y := yX0_mark) (hh := [(26, 83, 84, 310)]) (names := ["java/lang/RuntimeException", "java/lang/Exception"]) (nb := 960) [] ⟨26, 83, 84, 310⟩ [] rfl rfl q1163 ex_cc exg_cc (by decide +kernel) (cc_ok (x := "FrameSheets$Frame") (y := "FrameSheets$Border") (by decide +kernel) (by decide +kernel) htx).1 (cc_ok (x := "FrameSheets$Frame") (y := "FrameSheets$Border") (by decide +kernel) (by decide +kernel) htx).2 (by decide) (by decide) (Nat.le_of_ble_eq_true rfl) (by decide) (by decide) rfl (fun z hz => by cases hz) rfl (by decide) q1164 q1176 (fun q9 => ?_)
      refine J_astore dX0_mark_84 rfl (by decide) _ rfl ?_
      refine J_aload_n dX0_mark_86 rfl ?_
      refine J_iconst (zI 3) dX0_mark_87 rfl ?_
      refine CC_X0_found (by decide) (by decide) (Nat.le_of_ble_eq_true rfl) dX0_mark_88 ?_
      refine c_found (m := _) (by decide) ?_
      refine J_ri ?_
      exact J_iret rfl dX0_mark_91 (by exact hq)
    · exfalso; omega
  · exfalso; omega
theorem c_mark21 {E : jEnv} {α : Nat → Nat} {σ : cS} {Q : Option Value → cS → Prop} {many : Nat} {wide high bl : Int} {G : Nat → Nat → Int} {ad : Nat → Nat} {c : Nat → Nat → Int} {f : Nat} (hS : cSh many wide high bl G ad c σ) (hO : shOK many wide high bl G) (hf : f < many) (hk : G f 0 = 1) (hq : Q (some (.int (zI (-3)))) (cAr (cI σ 0 (zI 3)) 1 (upd (σ.a 1) 3 (σ.a 1 3 + zI 1)))) : jX0_mark E α 0 [some (.ref (α 0)), some (.int (zI (f : Nat))), some (.int (zI 2)), none, none] [] σ Q := by
  have hO8 := hO.s
  have := mAc_b hO hf
  have := mDn_b hO hf
  refine J_aload_n dX0_mark_0 rfl ?_
  refine J_iload_n dX0_mark_1 rfl ?_
  refine CC_X0_isFrame (by decide) (by decide) (Nat.le_of_ble_eq_true rfl) dX0_mark_2 ?_
  refine c_isFrame hS hO (by unfold zR at *; omega) (fun b2 => ?_) (fun b2 => ?_)
  · refine J_ri ?_
    refine J_if_eq_n (tgt := 17) dX0_mark_5 (by decide) (by decide) ?_
    refine J_iload_n dX0_mark_8 rfl ?_
    refine J_iconst (zI 1) dX0_mark_9 rfl ?_
    refine J_iconst (zI 3) dX0_mark_10 rfl ?_
    refine PX0_isIn (by unfold zR; omega) (by unfold zR; omega) (by unfold zR; omega) (by decide) (by decide) (Nat.le_of_ble_eq_true rfl) dX0_mark_11 (fun b11 => ?_) (fun b11 => ?_)
    · skip
      refine J_if_ne_y (tgt := 19) dX0_mark_14 (by decide) (by decide) ?_
      refine J_aload_n dX0_mark_19 rfl ?_
      refine CG_frames dX0_mark_20 ?_
      refine J_iload_n dX0_mark_23 rfl ?_
      refine CA_fr (hS.2.2.2.2 _ hf) (by omega) (by have := hO.1; omega) dX0_mark_24 ?_
      refine J_astore_n dX0_mark_25 rfl (by decide) _ rfl ?_
      refine J_iload_n dX0_mark_26 rfl ?_
      refine J_lookup (tgt := 62) (35) dX0_mark_27 (by decide) (by decide) (by decide) ?_
      refine J_aload_n dX0_mark_62 rfl ?_
      refine J_castN (C := "FrameSheets$Icon") (nm := "FrameSheets$Border") (120 + f) (fr_w hS hO hf hk (q := 1)) rfl rfl q844 (by decide) (by decide +kernel) (by decide +kernel) dX0_mark_63 (fun text ht => ?_)
      have htx := ht
      refine JN_catch (y := yX0_mark) (hh := [(26, 83, 84, 310)]) (names := ["java/lang/RuntimeException", "java/lang/Exception"]) (nb := 960) [] ⟨26, 83, 84, 310⟩ [] rfl rfl q1163 ex_cc exg_cc (by decide +kernel) (cc_ok (x := "FrameSheets$Icon") (y := "FrameSheets$Border") (by decide +kernel) (by decide +kernel) htx).1 (cc_ok (x := "FrameSheets$Icon") (y := "FrameSheets$Border") (by decide +kernel) (by decide +kernel) htx).2 (by decide) (by decide) (Nat.le_of_ble_eq_true rfl) (by decide) (by decide) rfl (fun z hz => by cases hz) rfl (by decide) q1164 q1176 (fun q9 => ?_)
      refine J_astore dX0_mark_84 rfl (by decide) _ rfl ?_
      refine J_aload_n dX0_mark_86 rfl ?_
      refine J_iconst (zI 3) dX0_mark_87 rfl ?_
      refine CC_X0_found (by decide) (by decide) (Nat.le_of_ble_eq_true rfl) dX0_mark_88 ?_
      refine c_found (m := _) (by decide) ?_
      refine J_ri ?_
      exact J_iret rfl dX0_mark_91 (by exact hq)
    · exfalso; omega
  · exfalso; omega
theorem mark_2_2 {bl : Int} {G : Nat → Nat → Int} {f : Nat} (hk : G f 0 = 2) : mMark bl G f 2 = (mNX bl G f 0 * mNY bl G f 0 - mAc G f * mDn G f) := by
  unfold mMark
  rw [if_neg (by decide), if_pos rfl]
theorem c_mark22 {E : jEnv} {α : Nat → Nat} {σ : cS} {Q : Option Value → cS → Prop} {many : Nat} {wide high bl : Int} {G : Nat → Nat → Int} {ad : Nat → Nat} {c : Nat → Nat → Int} {f : Nat} (hS : cSh many wide high bl G ad c σ) (hO : shOK many wide high bl G) (hf : f < many) (hk : G f 0 = 2) (hq : Q (some (.int (zI (mMark bl G f 2)))) σ) : jX0_mark E α 0 [some (.ref (α 0)), some (.int (zI (f : Nat))), some (.int (zI 2)), none, none] [] σ Q := by
  have hO8 := hO.s
  have := mAc_b hO hf
  have := mDn_b hO hf
  refine J_aload_n dX0_mark_0 rfl ?_
  refine J_iload_n dX0_mark_1 rfl ?_
  refine CC_X0_isFrame (by decide) (by decide) (Nat.le_of_ble_eq_true rfl) dX0_mark_2 ?_
  refine c_isFrame hS hO (by unfold zR at *; omega) (fun b2 => ?_) (fun b2 => ?_)
  · refine J_ri ?_
    refine J_if_eq_n (tgt := 17) dX0_mark_5 (by decide) (by decide) ?_
    refine J_iload_n dX0_mark_8 rfl ?_
    refine J_iconst (zI 1) dX0_mark_9 rfl ?_
    refine J_iconst (zI 3) dX0_mark_10 rfl ?_
    refine PX0_isIn (by unfold zR; omega) (by unfold zR; omega) (by unfold zR; omega) (by decide) (by decide) (Nat.le_of_ble_eq_true rfl) dX0_mark_11 (fun b11 => ?_) (fun b11 => ?_)
    · skip
      refine J_if_ne_y (tgt := 19) dX0_mark_14 (by decide) (by decide) ?_
      refine J_aload_n dX0_mark_19 rfl ?_
      refine CG_frames dX0_mark_20 ?_
      refine J_iload_n dX0_mark_23 rfl ?_
      refine CA_fr (hS.2.2.2.2 _ hf) (by omega) (by have := hO.1; omega) dX0_mark_24 ?_
      refine J_astore_n dX0_mark_25 rfl (by decide) _ rfl ?_
      refine J_iload_n dX0_mark_26 rfl ?_
      refine J_lookup (tgt := 62) (35) dX0_mark_27 (by decide) (by decide) (by decide) ?_
      refine J_aload_n dX0_mark_62 rfl ?_
      refine J_castS (C := "FrameSheets$Border") (120 + f) (fr_w hS hO hf hk (q := 2)) rfl q844 dX0_mark_63 ?_
      refine J_aload_n dX0_mark_66 rfl ?_
      refine CG_bleed dX0_mark_67 ?_
      refine J_top (zI (bl)) hS.2.2.2.1 ?_
      refine VX5_edges G f (c := (c f))  (hS.w hf hO.1) (hO.k hf) (by omega) q1196 (by decide) (by decide) (Nat.le_of_ble_eq_true rfl) dX0_mark_70 ?_
      refine J_goto (tgt := 83) dX0_mark_73 (by decide) ?_
      refine J_iret rfl dX0_mark_83 ?_
      rw [show mMark bl G f 2 = _ from mark_2_2 (by omega)] at hq
      exact hq
    · exfalso; omega
  · exfalso; omega
theorem c_mark23 {E : jEnv} {α : Nat → Nat} {σ : cS} {Q : Option Value → cS → Prop} {many : Nat} {wide high bl : Int} {G : Nat → Nat → Int} {ad : Nat → Nat} {c : Nat → Nat → Int} {f : Nat} (hS : cSh many wide high bl G ad c σ) (hO : shOK many wide high bl G) (hf : f < many) (hk : G f 0 = 3) (hq : Q (some (.int (zI (-3)))) (cAr (cI σ 0 (zI 3)) 1 (upd (σ.a 1) 3 (σ.a 1 3 + zI 1)))) : jX0_mark E α 0 [some (.ref (α 0)), some (.int (zI (f : Nat))), some (.int (zI 2)), none, none] [] σ Q := by
  have hO8 := hO.s
  have := mAc_b hO hf
  have := mDn_b hO hf
  refine J_aload_n dX0_mark_0 rfl ?_
  refine J_iload_n dX0_mark_1 rfl ?_
  refine CC_X0_isFrame (by decide) (by decide) (Nat.le_of_ble_eq_true rfl) dX0_mark_2 ?_
  refine c_isFrame hS hO (by unfold zR at *; omega) (fun b2 => ?_) (fun b2 => ?_)
  · refine J_ri ?_
    refine J_if_eq_n (tgt := 17) dX0_mark_5 (by decide) (by decide) ?_
    refine J_iload_n dX0_mark_8 rfl ?_
    refine J_iconst (zI 1) dX0_mark_9 rfl ?_
    refine J_iconst (zI 3) dX0_mark_10 rfl ?_
    refine PX0_isIn (by unfold zR; omega) (by unfold zR; omega) (by unfold zR; omega) (by decide) (by decide) (Nat.le_of_ble_eq_true rfl) dX0_mark_11 (fun b11 => ?_) (fun b11 => ?_)
    · skip
      refine J_if_ne_y (tgt := 19) dX0_mark_14 (by decide) (by decide) ?_
      refine J_aload_n dX0_mark_19 rfl ?_
      refine CG_frames dX0_mark_20 ?_
      refine J_iload_n dX0_mark_23 rfl ?_
      refine CA_fr (hS.2.2.2.2 _ hf) (by omega) (by have := hO.1; omega) dX0_mark_24 ?_
      refine J_astore_n dX0_mark_25 rfl (by decide) _ rfl ?_
      refine J_iload_n dX0_mark_26 rfl ?_
      refine J_lookup (tgt := 62) (35) dX0_mark_27 (by decide) (by decide) (by decide) ?_
      refine J_aload_n dX0_mark_62 rfl ?_
      refine J_castN (C := "FrameSheets$Logo") (nm := "FrameSheets$Border") (120 + f) (fr_w hS hO hf hk (q := 3)) rfl rfl q844 (by decide) (by decide +kernel) (by decide +kernel) dX0_mark_63 (fun text ht => ?_)
      have htx := ht
      refine JN_catch (y := yX0_mark) (hh := [(26, 83, 84, 310)]) (names := ["java/lang/RuntimeException", "java/lang/Exception"]) (nb := 960) [] ⟨26, 83, 84, 310⟩ [] rfl rfl q1163 ex_cc exg_cc (by decide +kernel) (cc_ok (x := "FrameSheets$Logo") (y := "FrameSheets$Border") (by decide +kernel) (by decide +kernel) htx).1 (cc_ok (x := "FrameSheets$Logo") (y := "FrameSheets$Border") (by decide +kernel) (by decide +kernel) htx).2 (by decide) (by decide) (Nat.le_of_ble_eq_true rfl) (by decide) (by decide) rfl (fun z hz => by cases hz) rfl (by decide) q1164 q1176 (fun q9 => ?_)
      refine J_astore dX0_mark_84 rfl (by decide) _ rfl ?_
      refine J_aload_n dX0_mark_86 rfl ?_
      refine J_iconst (zI 3) dX0_mark_87 rfl ?_
      refine CC_X0_found (by decide) (by decide) (Nat.le_of_ble_eq_true rfl) dX0_mark_88 ?_
      refine c_found (m := _) (by decide) ?_
      refine J_ri ?_
      exact J_iret rfl dX0_mark_91 (by exact hq)
    · exfalso; omega
  · exfalso; omega
theorem c_mark30 {E : jEnv} {α : Nat → Nat} {σ : cS} {Q : Option Value → cS → Prop} {many : Nat} {wide high bl : Int} {G : Nat → Nat → Int} {ad : Nat → Nat} {c : Nat → Nat → Int} {f : Nat} (hS : cSh many wide high bl G ad c σ) (hO : shOK many wide high bl G) (hf : f < many) (hk : G f 0 = 0) (hq : Q (some (.int (zI (-3)))) (cAr (cI σ 0 (zI 3)) 1 (upd (σ.a 1) 3 (σ.a 1 3 + zI 1)))) : jX0_mark E α 0 [some (.ref (α 0)), some (.int (zI (f : Nat))), some (.int (zI 3)), none, none] [] σ Q := by
  have hO8 := hO.s
  have := mAc_b hO hf
  have := mDn_b hO hf
  refine J_aload_n dX0_mark_0 rfl ?_
  refine J_iload_n dX0_mark_1 rfl ?_
  refine CC_X0_isFrame (by decide) (by decide) (Nat.le_of_ble_eq_true rfl) dX0_mark_2 ?_
  refine c_isFrame hS hO (by unfold zR at *; omega) (fun b2 => ?_) (fun b2 => ?_)
  · refine J_ri ?_
    refine J_if_eq_n (tgt := 17) dX0_mark_5 (by decide) (by decide) ?_
    refine J_iload_n dX0_mark_8 rfl ?_
    refine J_iconst (zI 1) dX0_mark_9 rfl ?_
    refine J_iconst (zI 3) dX0_mark_10 rfl ?_
    refine PX0_isIn (by unfold zR; omega) (by unfold zR; omega) (by unfold zR; omega) (by decide) (by decide) (Nat.le_of_ble_eq_true rfl) dX0_mark_11 (fun b11 => ?_) (fun b11 => ?_)
    · skip
      refine J_if_ne_y (tgt := 19) dX0_mark_14 (by decide) (by decide) ?_
      refine J_aload_n dX0_mark_19 rfl ?_
      refine CG_frames dX0_mark_20 ?_
      refine J_iload_n dX0_mark_23 rfl ?_
      refine CA_fr (hS.2.2.2.2 _ hf) (by omega) (by have := hO.1; omega) dX0_mark_24 ?_
      refine J_astore_n dX0_mark_25 rfl (by decide) _ rfl ?_
      refine J_iload_n dX0_mark_26 rfl ?_
      refine J_lookup (tgt := 76) (49) dX0_mark_27 (by decide) (by decide) (by decide) ?_
      refine J_aload_n dX0_mark_76 rfl ?_
      refine J_castN (C := "FrameSheets$Frame") (nm := "FrameSheets$Logo") (120 + f) (fr_w hS hO hf hk (q := 0)) rfl rfl q861 (by decide) (by decide +kernel) (by decide +kernel) dX0_mark_77 (fun text ht => ?_)
      have htx := ht
      refine JN_catch (y := yX0_mark) (hh := [(26, 83, 84, 310)]) (names := ["java/lang/RuntimeException", "java/lang/Exception"]) (nb := 960) [] ⟨26, 83, 84, 310⟩ [] rfl rfl q1163 ex_cc exg_cc (by decide +kernel) (cc_ok (x := "FrameSheets$Frame") (y := "FrameSheets$Logo") (by decide +kernel) (by decide +kernel) htx).1 (cc_ok (x := "FrameSheets$Frame") (y := "FrameSheets$Logo") (by decide +kernel) (by decide +kernel) htx).2 (by decide) (by decide) (Nat.le_of_ble_eq_true rfl) (by decide) (by decide) rfl (fun z hz => by cases hz) rfl (by decide) q1164 q1176 (fun q9 => ?_)
      refine J_astore dX0_mark_84 rfl (by decide) _ rfl ?_
      refine J_aload_n dX0_mark_86 rfl ?_
      refine J_iconst (zI 3) dX0_mark_87 rfl ?_
      refine CC_X0_found (by decide) (by decide) (Nat.le_of_ble_eq_true rfl) dX0_mark_88 ?_
      refine c_found (m := _) (by decide) ?_
      refine J_ri ?_
      exact J_iret rfl dX0_mark_91 (by exact hq)
    · exfalso; omega
  · exfalso; omega
theorem c_mark31 {E : jEnv} {α : Nat → Nat} {σ : cS} {Q : Option Value → cS → Prop} {many : Nat} {wide high bl : Int} {G : Nat → Nat → Int} {ad : Nat → Nat} {c : Nat → Nat → Int} {f : Nat} (hS : cSh many wide high bl G ad c σ) (hO : shOK many wide high bl G) (hf : f < many) (hk : G f 0 = 1) (hq : Q (some (.int (zI (-3)))) (cAr (cI σ 0 (zI 3)) 1 (upd (σ.a 1) 3 (σ.a 1 3 + zI 1)))) : jX0_mark E α 0 [some (.ref (α 0)), some (.int (zI (f : Nat))), some (.int (zI 3)), none, none] [] σ Q := by
  have hO8 := hO.s
  have := mAc_b hO hf
  have := mDn_b hO hf
  refine J_aload_n dX0_mark_0 rfl ?_
  refine J_iload_n dX0_mark_1 rfl ?_
  refine CC_X0_isFrame (by decide) (by decide) (Nat.le_of_ble_eq_true rfl) dX0_mark_2 ?_
  refine c_isFrame hS hO (by unfold zR at *; omega) (fun b2 => ?_) (fun b2 => ?_)
  · refine J_ri ?_
    refine J_if_eq_n (tgt := 17) dX0_mark_5 (by decide) (by decide) ?_
    refine J_iload_n dX0_mark_8 rfl ?_
    refine J_iconst (zI 1) dX0_mark_9 rfl ?_
    refine J_iconst (zI 3) dX0_mark_10 rfl ?_
    refine PX0_isIn (by unfold zR; omega) (by unfold zR; omega) (by unfold zR; omega) (by decide) (by decide) (Nat.le_of_ble_eq_true rfl) dX0_mark_11 (fun b11 => ?_) (fun b11 => ?_)
    · skip
      refine J_if_ne_y (tgt := 19) dX0_mark_14 (by decide) (by decide) ?_
      refine J_aload_n dX0_mark_19 rfl ?_
      refine CG_frames dX0_mark_20 ?_
      refine J_iload_n dX0_mark_23 rfl ?_
      refine CA_fr (hS.2.2.2.2 _ hf) (by omega) (by have := hO.1; omega) dX0_mark_24 ?_
      refine J_astore_n dX0_mark_25 rfl (by decide) _ rfl ?_
      refine J_iload_n dX0_mark_26 rfl ?_
      refine J_lookup (tgt := 76) (49) dX0_mark_27 (by decide) (by decide) (by decide) ?_
      refine J_aload_n dX0_mark_76 rfl ?_
      refine J_castN (C := "FrameSheets$Icon") (nm := "FrameSheets$Logo") (120 + f) (fr_w hS hO hf hk (q := 1)) rfl rfl q861 (by decide) (by decide +kernel) (by decide +kernel) dX0_mark_77 (fun text ht => ?_)
      have htx := ht
      refine JN_catch (y := yX0_mark) (hh := [(26, 83, 84, 310)]) (names := ["java/lang/RuntimeException", "java/lang/Exception"]) (nb := 960) [] ⟨26, 83, 84, 310⟩ [] rfl rfl q1163 ex_cc exg_cc (by decide +kernel) (cc_ok (x := "FrameSheets$Icon") (y := "FrameSheets$Logo") (by decide +kernel) (by decide +kernel) htx).1 (cc_ok (x := "FrameSheets$Icon") (y := "FrameSheets$Logo") (by decide +kernel) (by decide +kernel) htx).2 (by decide) (by decide) (Nat.le_of_ble_eq_true rfl) (by decide) (by decide) rfl (fun z hz => by cases hz) rfl (by decide) q1164 q1176 (fun q9 => ?_)
      refine J_astore dX0_mark_84 rfl (by decide) _ rfl ?_
      refine J_aload_n dX0_mark_86 rfl ?_
      refine J_iconst (zI 3) dX0_mark_87 rfl ?_
      refine CC_X0_found (by decide) (by decide) (Nat.le_of_ble_eq_true rfl) dX0_mark_88 ?_
      refine c_found (m := _) (by decide) ?_
      refine J_ri ?_
      exact J_iret rfl dX0_mark_91 (by exact hq)
    · exfalso; omega
  · exfalso; omega
theorem c_mark32 {E : jEnv} {α : Nat → Nat} {σ : cS} {Q : Option Value → cS → Prop} {many : Nat} {wide high bl : Int} {G : Nat → Nat → Int} {ad : Nat → Nat} {c : Nat → Nat → Int} {f : Nat} (hS : cSh many wide high bl G ad c σ) (hO : shOK many wide high bl G) (hf : f < many) (hk : G f 0 = 2) (hq : Q (some (.int (zI (-3)))) (cAr (cI σ 0 (zI 3)) 1 (upd (σ.a 1) 3 (σ.a 1 3 + zI 1)))) : jX0_mark E α 0 [some (.ref (α 0)), some (.int (zI (f : Nat))), some (.int (zI 3)), none, none] [] σ Q := by
  have hO8 := hO.s
  have := mAc_b hO hf
  have := mDn_b hO hf
  refine J_aload_n dX0_mark_0 rfl ?_
  refine J_iload_n dX0_mark_1 rfl ?_
  refine CC_X0_isFrame (by decide) (by decide) (Nat.le_of_ble_eq_true rfl) dX0_mark_2 ?_
  refine c_isFrame hS hO (by unfold zR at *; omega) (fun b2 => ?_) (fun b2 => ?_)
  · refine J_ri ?_
    refine J_if_eq_n (tgt := 17) dX0_mark_5 (by decide) (by decide) ?_
    refine J_iload_n dX0_mark_8 rfl ?_
    refine J_iconst (zI 1) dX0_mark_9 rfl ?_
    refine J_iconst (zI 3) dX0_mark_10 rfl ?_
    refine PX0_isIn (by unfold zR; omega) (by unfold zR; omega) (by unfold zR; omega) (by decide) (by decide) (Nat.le_of_ble_eq_true rfl) dX0_mark_11 (fun b11 => ?_) (fun b11 => ?_)
    · skip
      refine J_if_ne_y (tgt := 19) dX0_mark_14 (by decide) (by decide) ?_
      refine J_aload_n dX0_mark_19 rfl ?_
      refine CG_frames dX0_mark_20 ?_
      refine J_iload_n dX0_mark_23 rfl ?_
      refine CA_fr (hS.2.2.2.2 _ hf) (by omega) (by have := hO.1; omega) dX0_mark_24 ?_
      refine J_astore_n dX0_mark_25 rfl (by decide) _ rfl ?_
      refine J_iload_n dX0_mark_26 rfl ?_
      refine J_lookup (tgt := 76) (49) dX0_mark_27 (by decide) (by decide) (by decide) ?_
      refine J_aload_n dX0_mark_76 rfl ?_
      refine J_castN (C := "FrameSheets$Border") (nm := "FrameSheets$Logo") (120 + f) (fr_w hS hO hf hk (q := 2)) rfl rfl q861 (by decide) (by decide +kernel) (by decide +kernel) dX0_mark_77 (fun text ht => ?_)
      have htx := ht
      refine JN_catch (y := yX0_mark) (hh := [(26, 83, 84, 310)]) (names := ["java/lang/RuntimeException", "java/lang/Exception"]) (nb := 960) [] ⟨26, 83, 84, 310⟩ [] rfl rfl q1163 ex_cc exg_cc (by decide +kernel) (cc_ok (x := "FrameSheets$Border") (y := "FrameSheets$Logo") (by decide +kernel) (by decide +kernel) htx).1 (cc_ok (x := "FrameSheets$Border") (y := "FrameSheets$Logo") (by decide +kernel) (by decide +kernel) htx).2 (by decide) (by decide) (Nat.le_of_ble_eq_true rfl) (by decide) (by decide) rfl (fun z hz => by cases hz) rfl (by decide) q1164 q1176 (fun q9 => ?_)
      refine J_astore dX0_mark_84 rfl (by decide) _ rfl ?_
      refine J_aload_n dX0_mark_86 rfl ?_
      refine J_iconst (zI 3) dX0_mark_87 rfl ?_
      refine CC_X0_found (by decide) (by decide) (Nat.le_of_ble_eq_true rfl) dX0_mark_88 ?_
      refine c_found (m := _) (by decide) ?_
      refine J_ri ?_
      exact J_iret rfl dX0_mark_91 (by exact hq)
    · exfalso; omega
  · exfalso; omega
theorem mark_3_3 {bl : Int} {G : Nat → Nat → Int} {f : Nat} (hk : G f 0 = 3) : mMark bl G f 3 = (mAc G f * mDn G f - (G f 1 - G f 3 - G f 5) * (G f 2 - G f 4 - G f 6)) := by
  unfold mMark
  rw [if_neg (by decide), if_neg (by decide)]
  unfold mAc mDn
  rw [if_pos hk, if_pos hk]
theorem c_mark33 {E : jEnv} {α : Nat → Nat} {σ : cS} {Q : Option Value → cS → Prop} {many : Nat} {wide high bl : Int} {G : Nat → Nat → Int} {ad : Nat → Nat} {c : Nat → Nat → Int} {f : Nat} (hS : cSh many wide high bl G ad c σ) (hO : shOK many wide high bl G) (hf : f < many) (hk : G f 0 = 3) (hq : Q (some (.int (zI (mMark bl G f 3)))) σ) : jX0_mark E α 0 [some (.ref (α 0)), some (.int (zI (f : Nat))), some (.int (zI 3)), none, none] [] σ Q := by
  have hO8 := hO.s
  have := mAc_b hO hf
  have := mDn_b hO hf
  refine J_aload_n dX0_mark_0 rfl ?_
  refine J_iload_n dX0_mark_1 rfl ?_
  refine CC_X0_isFrame (by decide) (by decide) (Nat.le_of_ble_eq_true rfl) dX0_mark_2 ?_
  refine c_isFrame hS hO (by unfold zR at *; omega) (fun b2 => ?_) (fun b2 => ?_)
  · refine J_ri ?_
    refine J_if_eq_n (tgt := 17) dX0_mark_5 (by decide) (by decide) ?_
    refine J_iload_n dX0_mark_8 rfl ?_
    refine J_iconst (zI 1) dX0_mark_9 rfl ?_
    refine J_iconst (zI 3) dX0_mark_10 rfl ?_
    refine PX0_isIn (by unfold zR; omega) (by unfold zR; omega) (by unfold zR; omega) (by decide) (by decide) (Nat.le_of_ble_eq_true rfl) dX0_mark_11 (fun b11 => ?_) (fun b11 => ?_)
    · skip
      refine J_if_ne_y (tgt := 19) dX0_mark_14 (by decide) (by decide) ?_
      refine J_aload_n dX0_mark_19 rfl ?_
      refine CG_frames dX0_mark_20 ?_
      refine J_iload_n dX0_mark_23 rfl ?_
      refine CA_fr (hS.2.2.2.2 _ hf) (by omega) (by have := hO.1; omega) dX0_mark_24 ?_
      refine J_astore_n dX0_mark_25 rfl (by decide) _ rfl ?_
      refine J_iload_n dX0_mark_26 rfl ?_
      refine J_lookup (tgt := 76) (49) dX0_mark_27 (by decide) (by decide) (by decide) ?_
      refine J_aload_n dX0_mark_76 rfl ?_
      refine J_castS (C := "FrameSheets$Logo") (120 + f) (fr_w hS hO hf hk (q := 3)) rfl q861 dX0_mark_77 ?_
      refine VX6_trims G f (c := (c f))  (hS.w hf hO.1) (hO.k hf) (by omega) q1212 (by decide) (by decide) (Nat.le_of_ble_eq_true rfl) dX0_mark_80 ?_
      refine J_iret rfl dX0_mark_83 ?_
      rw [show mMark bl G f 3 = _ from mark_3_3 (by omega)] at hq
      exact hq
    · exfalso; omega
  · exfalso; omega
theorem c_mark {E : jEnv} {α : Nat → Nat} {σ : cS} {Q : Option Value → cS → Prop} {many : Nat} {wide high bl : Int} {G : Nat → Nat → Int} {ad : Nat → Nat} {c : Nat → Nat → Int} {f : Nat} {u : Int} (hS : cSh many wide high bl G ad c σ) (hO : shOK many wide high bl G) (hf : f < many) (hu : 1 ≤ u ∧ u ≤ 3) (q0 : G f 0 ≠ u → ¬ (G f 0 = 3 ∧ u = 1) → Q (some (.int (zI (-3)))) (cAr (cI σ 0 (zI 3)) 1 (upd (σ.a 1) 3 (σ.a 1 3 + zI 1)))) (q1 : G f 0 = u ∨ (G f 0 = 3 ∧ u = 1) → Q (some (.int (zI (mMark bl G f u)))) σ) : jX0_mark E α 0 [some (.ref (α 0)), some (.int (zI (f : Nat))), some (.int (zI (u))), none, none] [] σ Q := by
  have hk := hO.k hf
  rcases (show u = 1 ∨ u = 2 ∨ u = 3 by omega) with rfl | rfl | rfl <;> rcases (show G f 0 = 0 ∨ G f 0 = 1 ∨ G f 0 = 2 ∨ G f 0 = 3 by omega) with h | h | h | h
  · exact c_mark10 hS hO hf h (q0 (by omega) (by omega))
  · exact c_mark11 hS hO hf h (q1 (by omega))
  · exact c_mark12 hS hO hf h (q0 (by omega) (by omega))
  · exact c_mark13 hS hO hf h (q1 (by omega))
  · exact c_mark20 hS hO hf h (q0 (by omega) (by omega))
  · exact c_mark21 hS hO hf h (q0 (by omega) (by omega))
  · exact c_mark22 hS hO hf h (q1 (by omega))
  · exact c_mark23 hS hO hf h (q0 (by omega) (by omega))
  · exact c_mark30 hS hO hf h (q0 (by omega) (by omega))
  · exact c_mark31 hS hO hf h (q0 (by omega) (by omega))
  · exact c_mark32 hS hO hf h (q0 (by omega) (by omega))
  · exact c_mark33 hS hO hf h (q1 (by omega))
