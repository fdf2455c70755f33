set_option maxRecDepth 100000
/-! strings: rows over cells that stand outside, statics, constants -/
theorem k_out {E : jEnv} {A : Nat → Prop} {s : State} {H : Heap} {locs : List Loc} {i : Nat} (h : cX E A s) (hS : va_S A s.heap H locs) (hi : i < 22) : j_ao E.2.1 (oC E i).1 (oC E i).2 H ∧ ¬ A (oC E i).1 := by
  obtain ⟨h1, h2⟩ := h.2.2.2.2.2.2.2.2.1 i hi
  exact ⟨h1.kept (hS.2.1 _ h1.lt h2), h2⟩
theorem k_aoB {E : jEnv} {s : State} {a N t0 : Nat} {ty : FieldType} {f : Nat → Int32} {H : Heap} (hK : va_K E.2.1 CL (j_tys E.2.2) s) (ht : (j_tys E.2.2)[t0]? = some (E.2.2 t0, ty)) (h : j_ao E.2.1 a (.inl (E.2.2 t0, N, .inl f)) H) : ∃ cell : Cell, H[a]? = some cell ∧ cell.vm ≠ .unknown ∧ cell.vm.isStatics = false ∧ cell.cls = E.2.2 t0 ∧ s.isArrayOf cell ty ∧ cell.slots.size = N ∧ ∀ j, j < N → cell.slots[j]? = some (.int (f j)) := by
  obtain ⟨cell, h1, h2, h3, h4, h5⟩ := h
  have h4 : cell.cls = E.2.2 t0 := h4
  have h5 : cell.slots = (arrV (E.2.2 t0) N (fun j => .int (f j))).slots := h5
  obtain ⟨-, k0, hk0, cm0, hkk0⟩ := (hK.2 t0 _ ht).1 N (fun j => .int (f j))
  refine ⟨cell, h1, h2, h3, h4, ⟨(fun z hz => by rw [hz] at h3; cases h3), k0, (by rw [h4]; exact hk0), cm0, hkk0⟩, by rw [h5, arrV_size], fun j hj => by rw [h5, arrV_read _ _ hj]⟩
section JO
variable {E : jEnv} {St : Type} {w : St → jW} {X : jX} {cc : ByteArray} {mL : Nat} {ret : Option FieldType} {own : String} {R : Room} {k n pc : Nat} {L : List (Option Value)} {st : List Value} {σ : St} {Q : Option Value → St → Prop}
theorem JO_get {index ci a N : Nat} {C ref : String} {T : u_T} {V : Nat → Value} (i f : Nat) (hX1 : X.1 = cX E) (hi : i < 22) (hr : oC E i = (a, .inr (ci, V))) (hc : CL[ci]? = some (C, T, N)) (hin : ∀ w ∈ u_ws C T N, w ∈ lw_all) (hf : f < N) (q : Cond.fieldLink own index ref (T f).2.1 (T f).2.2.1 ∈ lw_all) (href : (T f).1 = ref) (d : decode cc pc = .ok (.getfield index, 3)) (kk : J E w X cc mL ret own R k n (pc + 3) L (V f :: st) σ Q) : J E w X cc mL ret own R k n pc L (.ref a :: st) σ Q := by
  intro p e s m args below meth c A H locs ls C hX hA hk hn hP hD hS hL
  have ho := (k_out (i := i) (by rw [← hX1]; exact hX.1) hS hi).1
  rw [hr] at ho
  obtain ⟨cell, q1, q3, q3', r', h1, q2, q4⟩ := ho
  have hr' : r' = (_, T, N) := Option.some.inj (h1.symm.trans hc)
  subst hr'
  obtain ⟨hSl, hfc, kC, hkC, hkind⟩ := C.2.2.2.2.2.2.2.1 ci _ hc
  obtain ⟨cf, kf, fi, fd, hi, hsl⟩ := hSl f hf
  subst href
  refine W.getf C.1 C.2.1 C.2.2.2.2.2.1 (C.2.2.2.2.2.2.1 _ q) hi (u_facts hfc hkC (u_lays C.2.2.2.2.2.2.1 hin hf) hi).1 q1 q3 (v := V f) ?_ rfl rfl d (kk p e s m args below meth c A H locs ls C hX hA hk hn hP hD hS hL)
  rw [hsl, q4 f hf]
theorem JO_bald {a : Nat} {f : Nat → Int32} {N : Nat} {i : Int32} (o : Nat) (hX1 : X.1 = cX E) (ho : o < 22) (hr : oC E o = (a, .inl (E.2.2 1, N, .inl f))) (hin : vp_in i N) (d : decode cc pc = .ok (.baload, 1)) (kk : J E w X cc mL ret own R k n (pc + 1) L (.int (f i.toNatClampNeg) :: st) σ Q) : J E w X cc mL ret own R k n pc L (.int i :: .ref a :: st) σ Q := by
  intro p e s m args below meth c A H locs ls C hX hA hk hn hP hD hS hL
  have h1 := (k_out (i := o) (by rw [← hX1]; exact hX.1) hS ho).1
  rw [hr] at h1
  obtain ⟨cell, g1, g2, g3, g4, g5, g6, g7⟩ := k_aoB (t0 := 1) (ty := .byte) C.2.2.2.2.2.2.2 rfl h1
  have hlt : i.toNatClampNeg < N := Nat.not_le.mp fun q => hin (Or.inr q)
  exact W.bald (v := .int (f i.toNatClampNeg)) C.1 C.2.1 g1 g5 g2 (by rw [g6]; exact hin) (g7 _ hlt) rfl rfl d (kk p e s m args below meth c A H locs ls C hX hA hk hn hP hD hS hL)
theorem JO_alen {a N : Nat} {f : Nat → Int32} (o : Nat) (v : Int32) (hX1 : X.1 = cX E) (ho : o < 22) (hr : oC E o = (a, .inl (E.2.2 1, N, .inl f))) (hv : Int32.ofNat N = v) (d : decode cc pc = .ok (.arraylength, 1)) (kk : J E w X cc mL ret own R k n (pc + 1) L (.int v :: st) σ Q) : J E w X cc mL ret own R k n pc L (.ref a :: st) σ Q := by
  intro p e s m args below meth c A H locs ls C hX hA hk hn hP hD hS hL
  have h1 := (k_out (i := o) (by rw [← hX1]; exact hX.1) hS ho).1
  rw [hr] at h1
  obtain ⟨cell, g1, g2, g3, g4, g5, g6, g7⟩ := k_aoB (t0 := 1) (ty := .byte) C.2.2.2.2.2.2.2 rfl h1
  subst hv
  exact W.alen (n := Int32.ofNat N) C.1 C.2.1 g1 g5 (by rw [g6] <;> rfl) rfl rfl d (kk p e s m args below meth c A H locs ls C hX hA hk hn hP hD hS hL)
theorem J_gets {C nm ds : String} {v : Value} {index : Nat} (hX1 : X.1 = cX E) (hz : (C, nm, ds, v) ∈ cZs E) (q : Cond.fieldLink own index C nm ds ∈ lw_all) (d : decode cc pc = .ok (.getstatic index, 3)) (kk : J E w X cc mL ret own R k n (pc + 3) L (v :: st) σ Q) : J E w X cc mL ret own R k n pc L st σ Q := by
  intro p e s m args below meth c A H locs ls C0 hX hA hk hn hP hD hS hL
  have hXc : cX E A s := by rw [← hX1]; exact hX.1
  exact va_gets C0.1 C0.2.1 (hXc.2.2.2.2.2.2.1 _ hz) hS C0.2.2.2.2.2.1 (C0.2.2.2.2.2.2.1 _ q) (fun _ h => h) d (kk p e s m args below meth c A H locs ls C0 hX hA hk hn hP hD hS hL)
theorem J_ldcS {index a : Nat} {tx : String} (hX1 : X.1 = cX E) (hz : (own, index, tx, a) ∈ cSr E) (d : decode cc pc = .ok (.ldc index, 2)) (kk : J E w X cc mL ret own R k n (pc + 2) L (.ref a :: st) σ Q) : J E w X cc mL ret own R k n pc L st σ Q := by
  intro p e s m args below meth c A H locs ls C0 hX hA hk hn hP hD hS hL
  have hXc : cX E A s := by rw [← hX1]; exact hX.1
  exact va_ldcS C0.1 C0.2.1 C0.2.2.2.2.2.1 (hXc.2.2.2.2.2.2.2.1 _ hz) d (kk p e s m args below meth c A H locs ls C0 hX hA hk hn hP hD hS hL)
end JO
