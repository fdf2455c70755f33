set_option maxRecDepth 100000
/-! strings: clone, casts, comparing references, returns of small ints -/
section JP
variable {E : jEnv} {St : Type} {w : St → jW} {X : jX} {cc : ByteArray} {mL : Nat} {ret : Option FieldType} {own : String} {R : Room} {k n pc : Nat} {L : List (Option Value)} {st : List Value} {σ : St} {Q : Option Value → St → Prop}
theorem J_nret {v : Int32} {ty : FieldType} (hret : ret = some ty) (d : decode cc pc = .ok (.ireturn, 1)) (hz : narrow ty (.int v) = .int v) (hq : Q (some (.int v)) σ) : J E w X cc mL ret own R k n pc L [(.int v)] σ Q := by
  intro p e s m args below meth c A H locs ls C hX hA hk hn hP hD hS hL
  have hr := C.2.2.1
  have hlocks := C.2.2.2.1
  subst hret
  refine W.widen hk hn ?_
  exact W.zret C.1 C.2.1 hr hz (fun t ht hW => ⟨⟨(some (.int v)), σ, rfl, hq, by rw [ht]; exact hP, hD⟩, hS.F ht⟩) hS.2.2 d
/-- an own cell and an outside one are two -/
theorem JO_acmp {a b : Nat} {x : jE} {off : Int} {tgt : Nat} (r i : Nat) (hX1 : X.1 = cX E) (hr : w σ r = some (a, x)) (hi : i < 22) (hb : (oC E i).1 = b) (d : decode cc pc = .ok (.if_acmp .ne off, 3)) (ht : (pc : Int) + off = (tgt : Int)) (kk : J E w X cc mL ret own R k n tgt L st σ Q) : J E w X cc mL ret own R k n pc L (.ref b :: .ref a :: st) σ Q := by
  intro p e s m args below meth c A H locs ls C hX hA hk hn hP hD hS hL
  have h1 := (k_out (i := i) (by rw [← hX1]; exact hX.1) hS hi).2
  rw [hb] at h1
  have hne : ¬ (some a : Option Nat) = some b := fun q => h1 ((Option.some.inj q) ▸ hD.2 r _ _ hr)
  exact lv_acmp_ne (rx := some a) (ry := some b) C.1 C.2.1 d ht (fun _ => kk p e s m args below meth c A H locs ls C hX hA hk hn hP hD hS hL) (fun q => absurd q hne)
theorem k_recvO {s : State} {H : Heap} {args : Array Value} {m : MethodId} {p : Program} {meth : Method} {c : Code} {ci N a : Nat} {C0 : String} {T : u_T} {V : Nat → Value} (hc : CL[ci]? = some (C0, T, N)) (C : j_cx E cc mL ret own p s m args meth c) (h : j_at E.2.1 a (.inr (ci, V)) H) : ∃ cell : Cell, H[a]? = some cell ∧ cell.vm.isStatics = false ∧ s.vm.findClass C0 = some cell.cls := by
  obtain ⟨r', h1, cell, g1, g2, g3, -⟩ := h
  exact ⟨cell, g1, by rw [g3]; rfl, by rw [g2]; exact (C.2.2.2.2.2.2.2.1 ci _ hc).2.1⟩
theorem k_recvQ {s : State} {H : Heap} {args : Array Value} {m : MethodId} {p : Program} {meth : Method} {c : Code} {ci N a : Nat} {C0 : String} {T : u_T} {V : Nat → Value} (hc : CL[ci]? = some (C0, T, N)) (C : j_cx E cc mL ret own p s m args meth c) (h : j_ao E.2.1 a (.inr (ci, V)) H) : ∃ cell : Cell, H[a]? = some cell ∧ cell.vm.isStatics = false ∧ s.vm.findClass C0 = some cell.cls := by
  obtain ⟨cell, g1, g2, g3, r', h1, g4, -⟩ := h
  exact ⟨cell, g1, g3, by rw [g4]; exact (C.2.2.2.2.2.2.2.1 ci _ hc).2.1⟩
theorem JO_inst {a ci index N : Nat} {V : Nat → Value} {C : String} {T : u_T} (i : Nat) (hX1 : X.1 = cX E) (hi : i < 22) (hr : oC E i = (a, .inr (ci, V))) (hc : CL[ci]? = some (C, T, N)) (q1 : Cond.classLink own index C ∈ lw_all) (d : decode cc pc = .ok (.instanceof index, 3)) (kk : J E w X cc mL ret own R k n (pc + 3) L (.int (zI 1) :: st) σ Q) : J E w X cc mL ret own R k n pc L (.ref a :: st) σ Q := by
  intro p e s m args below meth c A H locs ls C0 hX hA hk hn hP hD hS hL
  have ho := (k_out (i := i) (by rw [← hX1]; exact hX.1) hS hi).1
  rw [hr] at ho
  exact va_instE C0.1 C0.2.1 C0.2.2.2.2.2.1 (C0.2.2.2.2.2.2.1 _ q1) (k_recvQ hc C0 ho) d (kk p e s m args below meth c A H locs ls C0 hX hA hk hn hP hD hS hL)
theorem JO_cast {a ci index N : Nat} {V : Nat → Value} {C : String} {T : u_T} (i : Nat) (hX1 : X.1 = cX E) (hi : i < 22) (hr : oC E i = (a, .inr (ci, V))) (hc : CL[ci]? = some (C, T, N)) (q1 : Cond.classLink own index C ∈ lw_all) (d : decode cc pc = .ok (.checkcast index, 3)) (kk : J E w X cc mL ret own R k n (pc + 3) L (.ref a :: st) σ Q) : J E w X cc mL ret own R k n pc L (.ref a :: st) σ Q := by
  intro p e s m args below meth c A H locs ls C0 hX hA hk hn hP hD hS hL
  have ho := (k_out (i := i) (by rw [← hX1]; exact hX.1) hS hi).1
  rw [hr] at ho
  exact va_castE C0.1 C0.2.1 C0.2.2.2.2.2.1 (C0.2.2.2.2.2.2.1 _ q1) (k_recvQ hc C0 ho) d (kk p e s m args below meth c A H locs ls C0 hX hA hk hn hP hD hS hL)
theorem k_nmB {s : State} {args : Array Value} {m : MethodId} {p : Program} {meth : Method} {c : Code} (C : j_cx E cc mL ret own p s m args meth c) : s.vm.findClass "[B" = some (E.2.2 1) := va_nm_byte (C.2.2.2.2.2.2.2.2 1 _ rfl).2
theorem J_castB {a index N : Nat} {f : Nat → Int32} (r : Nat) (hr : w σ r = some (a, .inl (E.2.2 1, N, .inl f))) (q1 : Cond.classLink own index "[B" ∈ lw_all) (d : decode cc pc = .ok (.checkcast index, 3)) (kk : J E w X cc mL ret own R k n (pc + 3) L (.ref a :: st) σ Q) : J E w X cc mL ret own R k n pc L (.ref a :: st) σ Q := by
  intro p e s m args below meth c A H locs ls C hX hA hk hn hP hD hS hL
  have hq : va_P E.2.1 CL [(a, .inl (E.2.2 1, N, .inl f))] H := fun i q hi => by
    cases i with
    | zero => cases hi; exact hP r _ _ hr
    | succ i => simp at hi
  exact va_castA C.1 C.2.1 C.2.2.2.2.2.1 (C.2.2.2.2.2.2.1 _ q1) hq 0 rfl (k_nmB C) d (kk p e s m args below meth c A H locs ls C hX hA hk hn hP hD hS hL)
end JP
