/-! J: rows for cells that come, arrays of references, nest mates -/
set_option maxRecDepth 100000
theorem j_at.lt {D : va_G} {a : Nat} {e : jE} {H : Heap} (h : j_at D a e H) : a < H.size := by
  cases e with
  | inl x => exact (Array.getElem?_eq_some_iff.mp h).1
  | inr o =>
    obtain ⟨r, -, cell, q1, -⟩ := h
    exact (Array.getElem?_eq_some_iff.mp q1).1
theorem j_Pnew {D : va_G} {w : jW} {r : Nat} {e : jE} {H H1 : Heap} (hP : j_P D w H) (he : j_at D H.size e H1) (oq : ∀ q : Nat, q < H.size → H1[q]? = H[q]?) : j_P D (j_up w r (some (H.size, e))) H1 := by
  intro r' a' e' h
  by_cases z : r' = r
  · subst z
    simp only [j_up, if_pos] at h
    cases h
    exact he
  · simp only [j_up, if_neg z] at h
    have h2 := hP r' a' e' h
    have h3 := oq a' h2.lt
    cases e' with
    | inl x => exact h3.trans h2
    | inr o =>
      obtain ⟨r2, h4, h5⟩ := h2
      exact ⟨r2, h4, h5.kept h3⟩
theorem j_Dnew {D : va_G} {A : Nat → Prop} {w : jW} {r : Nat} {e : jE} {H : Heap} (hP : j_P D w H) (hD : j_D A w) (hA : A H.size) : j_D A (j_up w r (some (H.size, e))) := by
  refine ⟨fun r1 r2 a' e1 e2 h1 h2 => ?_, fun r1 a' e1 h1 => ?_⟩
  · by_cases z1 : r1 = r
    · by_cases z2 : r2 = r
      · omega
      · simp only [j_up, if_pos z1] at h1
        simp only [j_up, if_neg z2] at h2
        cases h1
        have := (hP _ _ _ h2).lt
        omega
    · by_cases z2 : r2 = r
      · simp only [j_up, if_neg z1] at h1
        simp only [j_up, if_pos z2] at h2
        cases h2
        have := (hP _ _ _ h1).lt
        omega
      · simp only [j_up, if_neg z1] at h1
        simp only [j_up, if_neg z2] at h2
        exact hD.1 r1 r2 a' e1 e2 h1 h2
  · by_cases z1 : r1 = r
    · simp only [j_up, if_pos z1] at h1
      cases h1
      exact hA
    · simp only [j_up, if_neg z1] at h1
      exact hD.2 r1 a' e1 h1
theorem j_Snew {A : Nat → Prop} {H0 H H1 : Heap} {locs : List Loc} (hS : va_S A H0 H locs) (z1 : H1.size = H.size + 1) (o1 : ∀ q : Nat, q < H.size → H1[q]? = H[q]?) : va_S A H0 H1 locs := ⟨Nat.le_trans hS.1 (by omega), fun x h1 h2 => (o1 x (Nat.lt_of_lt_of_le h1 hS.1)).trans (hS.2.1 x h1 h2), hS.2.2⟩
section JK
variable {E : jEnv} {St : Type} {w : St → jW} {X : jX} {cc : ByteArray} {mL : Nat} {ret : Option FieldType} {own : String} {R : Room} {k n pc : Nat} {L : List (Option Value)} {st : List Value} {σ : St} {Q : Option Value → St → Prop}
/-- the world under another reading: roles dropped or renamed -/
theorem J_view {σ' : St} (h : ∀ r x, w σ' r = some x → ∃ r', w σ r' = some x) (hi : ∀ r1 r2 a e1 e2, w σ' r1 = some (a, e1) → w σ' r2 = some (a, e2) → r1 = r2) (kk : J E w X cc mL ret own R k n pc L st σ' Q) : J E w X cc mL ret own R k n pc L st σ Q := by
  intro p e s m args below meth c A H locs ls C hX hA hk hn hP hD hS hL
  refine kk p e s m args below meth c A H locs ls C hX hA hk hn (fun r a e h1 => ?_) ⟨hi, fun r a e h1 => ?_⟩ hS hL
  · obtain ⟨r', h2⟩ := h r _ h1
    exact hP r' a e h2
  · obtain ⟨r', h2⟩ := h r _ h1
    exact hD.2 r' a e h2
/-- addresses in the world are apart -/
theorem J_apart (kk : (∀ r1 r2 a e1 e2, w σ r1 = some (a, e1) → w σ r2 = some (a, e2) → r1 = r2) → J E w X cc mL ret own R k n pc L st σ Q) : J E w X cc mL ret own R k n pc L st σ Q := by
  intro p e s m args below meth c A H locs ls C hX hA hk hn hP hD hS hL
  exact kk hD.1 p e s m args below meth c A H locs ls C hX hA hk hn hP hD hS hL
theorem J_new {σ' : Nat → St} {index ci N : Nat} {C : String} {T : u_T} {fs : Nat → Value} (r : Nat) (ty : Nat → FieldType) (hc : CL[ci]? = some (C, T, N)) (hin : ∀ w ∈ u_ws C T N, w ∈ lw_all) (hty : ∀ k, k < N → parseFieldDescriptor (T k).2.2.1 = some (ty k)) (q1 : Cond.classLink own index C ∈ lw_all) (q2 : Cond.instantiable C N ∈ lw_all) (q3 : Cond.initialized C ∈ lw_all) (hfs : ∀ j, j < N → defaultValue (ty j) = fs j) (hk1 : k + 1 ≤ R.cells) (hn1 : n + N ≤ R.slots) (hσ : ∀ a, w (σ' a) = j_up (w σ) r (some (a, .inr (ci, fs)))) (d : decode cc pc = .ok (.new index, 3)) (kk : ∀ a, J E w X cc mL ret own R (k + 1) (n + N) (pc + 3) L (.ref a :: st) (σ' a) Q) : J E w X cc mL ret own R k n pc L st σ Q := by
  intro p e s m args below meth c A H locs ls C0 hX hA hk hn hP hD hS hL
  have hts := C0.2.2.2.2.2.2.1
  have hKn := C0.2.2.2.2.2.2.2.1 ci _ hc
  refine W.newcK C0.1 C0.2.1 C0.2.2.2.2.2.1 (hts _ q1) (hts _ q2) (hts _ q3) rfl d hk1 hn1 hKn.2.1 rfl fun H1 kC hkC e1 z1 o1 => ?_
  refine kk H.size p e s m args below meth c A H1 locs ls C0 hX hA hk1 hn1 ?_ ?_ (j_Snew hS z1 o1) hL
  · rw [hσ]
    exact j_Pnew hP ⟨_, hc, (u_born ty hts hin hKn hkC e1 hty).to hfs⟩ o1
  · rw [hσ]
    exact j_Dnew hP hD (hA _ hS.1)
theorem J_newa_int {σ' : Nat → St} {z : Int} (r N : Nat) (q : Cond.arrayClass .int ∈ lw_all) (hz : z = N) (hN : N ≤ 100000) (hk1 : k + 1 ≤ R.cells) (hn1 : n + N ≤ R.slots) (hσ : ∀ a, w (σ' a) = j_up (w σ) r (some (a, .inl (E.2.2 0, N, .inl (fun _ => zI 0))))) (d : decode cc pc = .ok (.newarray .int, 2)) (kk : ∀ a, J E w X cc mL ret own R (k + 1) (n + N) (pc + 2) L (.ref a :: st) (σ' a) Q) : J E w X cc mL ret own R k n pc L (.int (zI z) :: st) σ Q := by
  intro p e s m args below meth c A H locs ls C0 hX hA hk hn hP hD hS hL
  subst hz
  have hts := C0.2.2.2.2.2.2.1
  refine va_newaK (atype := .int) (N := N) (H := H) C0.1 C0.2.1 (hts _ q) rfl d rfl ?_ ?_ (by show N * _ ≤ _; simp only [newarray.typeOf, componentBytes]; omega) hk1 hn1 rfl fun H1 cA e1 z1 o1 hAr hNm => ?_
  · rw [zI_nI]; exact fun h => absurd (Int32.lt_iff_toInt_lt.mp h) (by rw [show ((0 : Int32).toInt) = 0 from rfl, ← zI_nI, zI_toInt (by unfold zR; omega)]; omega)
  · rw [zI_nI]; exact nI_clamp (by omega)
  have hcA : cA = E.2.2 0 := Option.some.inj (hNm.symm.trans (C0.2.2.2.2.2.2.2.2 0 _ rfl).2)
  subst hcA
  refine kk H.size p e s m args below meth c A H1 locs ls C0 hX hA hk1 hn1 ?_ ?_ (j_Snew hS z1 o1) hL
  · rw [hσ]
    refine j_Pnew hP ?_ o1
    show H1[H.size]? = some (vp_cell _ _)
    rw [vp_cell_i]
    exact e1
  · rw [hσ]
    exact j_Dnew hP hD (hA _ hS.1)
theorem J_newa_byte {σ' : Nat → St} {z : Int} (r N : Nat) (q : Cond.arrayClass .byte ∈ lw_all) (hz : z = N) (hN : N ≤ 100000) (hk1 : k + 1 ≤ R.cells) (hn1 : n + N ≤ R.slots) (hσ : ∀ a, w (σ' a) = j_up (w σ) r (some (a, .inl (E.2.2 1, N, .inl (fun _ => zI 0))))) (d : decode cc pc = .ok (.newarray .byte, 2)) (kk : ∀ a, J E w X cc mL ret own R (k + 1) (n + N) (pc + 2) L (.ref a :: st) (σ' a) Q) : J E w X cc mL ret own R k n pc L (.int (zI z) :: st) σ Q := by
  intro p e s m args below meth c A H locs ls C0 hX hA hk hn hP hD hS hL
  subst hz
  have hts := C0.2.2.2.2.2.2.1
  refine va_newaK (atype := .byte) (N := N) (H := H) C0.1 C0.2.1 (hts _ q) rfl d rfl ?_ ?_ (by show N * _ ≤ _; simp only [newarray.typeOf, componentBytes]; omega) hk1 hn1 rfl fun H1 cA e1 z1 o1 hAr hNm => ?_
  · rw [zI_nI]; exact fun h => absurd (Int32.lt_iff_toInt_lt.mp h) (by rw [show ((0 : Int32).toInt) = 0 from rfl, ← zI_nI, zI_toInt (by unfold zR; omega)]; omega)
  · rw [zI_nI]; exact nI_clamp (by omega)
  have hcA : cA = E.2.2 1 := Option.some.inj (hNm.symm.trans (C0.2.2.2.2.2.2.2.2 1 _ rfl).2)
  subst hcA
  refine kk H.size p e s m args below meth c A H1 locs ls C0 hX hA hk1 hn1 ?_ ?_ (j_Snew hS z1 o1) hL
  · rw [hσ]
    refine j_Pnew hP ?_ o1
    show H1[H.size]? = some (vp_cell _ _)
    rw [vp_cell_i]
    exact e1
  · rw [hσ]
    exact j_Dnew hP hD (hA _ hS.1)
theorem J_newa_boolean {σ' : Nat → St} {z : Int} (r N : Nat) (q : Cond.arrayClass .boolean ∈ lw_all) (hz : z = N) (hN : N ≤ 100000) (hk1 : k + 1 ≤ R.cells) (hn1 : n + N ≤ R.slots) (hσ : ∀ a, w (σ' a) = j_up (w σ) r (some (a, .inl (E.2.2 2, N, .inl (fun _ => zI 0))))) (d : decode cc pc = .ok (.newarray .boolean, 2)) (kk : ∀ a, J E w X cc mL ret own R (k + 1) (n + N) (pc + 2) L (.ref a :: st) (σ' a) Q) : J E w X cc mL ret own R k n pc L (.int (zI z) :: st) σ Q := by
  intro p e s m args below meth c A H locs ls C0 hX hA hk hn hP hD hS hL
  subst hz
  have hts := C0.2.2.2.2.2.2.1
  refine va_newaK (atype := .boolean) (N := N) (H := H) C0.1 C0.2.1 (hts _ q) rfl d rfl ?_ ?_ (by show N * _ ≤ _; simp only [newarray.typeOf, componentBytes]; omega) hk1 hn1 rfl fun H1 cA e1 z1 o1 hAr hNm => ?_
  · rw [zI_nI]; exact fun h => absurd (Int32.lt_iff_toInt_lt.mp h) (by rw [show ((0 : Int32).toInt) = 0 from rfl, ← zI_nI, zI_toInt (by unfold zR; omega)]; omega)
  · rw [zI_nI]; exact nI_clamp (by omega)
  have hcA : cA = E.2.2 2 := Option.some.inj (hNm.symm.trans (C0.2.2.2.2.2.2.2.2 2 _ rfl).2)
  subst hcA
  refine kk H.size p e s m args below meth c A H1 locs ls C0 hX hA hk1 hn1 ?_ ?_ (j_Snew hS z1 o1) hL
  · rw [hσ]
    refine j_Pnew hP ?_ o1
    show H1[H.size]? = some (vp_cell _ _)
    rw [vp_cell_i]
    exact e1
  · rw [hσ]
    exact j_Dnew hP hD (hA _ hS.1)
theorem J_aald {a N t0 : Nat} {cA : ClassId} {ty : FieldType} {f : Nat → Option Nat} {i : Int32} (r : Nat) (hr : w σ r = some (a, .inl (cA, N, .inr (.inr (.inr (.inr f)))))) (ht : (j_tys E.2.2)[t0]? = some (cA, ty)) (hty : ty.isReference = true) (hin : vp_in i N) (d : decode cc pc = .ok (.aaload, 1)) (kk : J E w X cc mL ret own R k n (pc + 1) L (va_rf (f i.toNatClampNeg) :: st) σ Q) : J E w X cc mL ret own R k n pc L (.int i :: .ref a :: st) σ Q := by
  intro p e s m args below meth c A H locs ls C hX hA hk hn hP hD hS hL
  have hlt : i.toNatClampNeg < N := Nat.not_le.mp fun q => hin (Or.inr q)
  exact W.aald (v := va_rf (f i.toNatClampNeg)) (ty := ty) C.1 C.2.1 (hP r _ _ hr) ((C.2.2.2.2.2.2.2.2 t0 _ ht).1 N (fun j => va_rf (f j))) hty (fun q => by cases q) (by show ¬ (i < 0 ∨ (arrV _ _ _).slots.size ≤ _); rw [arrV_size]; exact hin) (by show (arrV _ _ _).slots[_]? = _; rw [arrV_read _ _ hlt]) rfl rfl d (kk p e s m args below meth c A H locs ls C hX hA hk hn hP hD hS hL)
/-- a reference to an object into an array of references -/
theorem J_aast {σ' : St} {a v N t0 ci : Nat} {cA : ClassId} {C : String} {f : Nat → Option Nat} {i : Int32} {T : u_T} {N1 : Nat} {C1 : String} {V : Nat → Value} (r rv : Nat) (hr : w σ r = some (a, .inl (cA, N, .inr (.inr (.inr (.inr f)))))) (ht : (j_tys E.2.2)[t0]? = some (cA, .object C)) (hrv : w σ rv = some (v, .inr (ci, V))) (hc : CL[ci]? = some (C1, T, N1)) (hX1 : C1 = C ∨ ∀ A s, X.1 A s → va_Nw (.castable C1 C) s) (hin : vp_in i N) (hσ : w σ' = j_up (w σ) r (some (a, .inl (cA, N, .inr (.inr (.inr (.inr (va_up f i.toNatClampNeg (some v))))))))) (d : decode cc pc = .ok (.aastore, 1)) (kk : J E w X cc mL ret own R k n (pc + 1) L st σ' Q) : J E w X cc mL ret own R k n pc L (.ref v :: .int i :: .ref a :: st) σ Q := by
  intro p e s m args below meth c A H locs ls C0 hX hA hk hn hP hD hS hL
  have hlt : i.toNatClampNeg < N := Nat.not_le.mp fun q => hin (Or.inr q)
  have h0 : ¬ i < 0 := fun q => hin (Or.inl q)
  obtain ⟨r', hr', cellV, g1, g2, g3, -⟩ := hP rv _ _ hrv
  have hcls := (C0.2.2.2.2.2.2.2.1 ci _ hc).2
  obtain ⟨kA, comp, k1, k2, k3, -⟩ := (C0.2.2.2.2.2.2.2.2 t0 _ ht).2
  obtain ⟨kC, hkC, hkind⟩ := hcls.2
  have hass : s.vm.assignable (E.2.1.1 ci) comp = true ∧ ∃ kc, s.vm.classes[comp]? = some kc := by
    rcases hX1 with h | h
    · subst h
      have : comp = E.2.1.1 ci := Option.some.inj (k3.symm.trans hcls.1)
      subst this
      exact ⟨va_assign hcls, kC, hkC⟩
    · obtain ⟨c0, t1, f1, f2, f3⟩ := Cond.castable_spec (va_Nw.use (A := args) rfl (h A s hX.1))
      cases hcls.1.symm.trans f1
      cases k3.symm.trans f2
      refine ⟨f3, ?_⟩
      cases hz : s.vm.classes[comp]? with
      | some kc => exact ⟨kc, rfl⟩
      | none =>
        exfalso
        have hne : (E.2.1.1 ci == comp) = false := by
          apply Bool.eq_false_iff.mpr
          intro h
          have := eq_of_beq h
          rw [this] at hkC
          exact absurd (hkC.symm.trans hz) (by simp)
        simp [Vm.assignable, Vm.assignableAux, hne, hz] at f3
  obtain ⟨hass, kc, hkc⟩ := hass
  refine W.aast C0.1 C0.2.1 (hP r _ _ hr) (fun q h => by cases h) (fun h => by cases h) k1 k2 rfl hkc ⟨h0, by show _ < (arrV _ _ _).slots.size; rw [arrV_size]; exact hlt⟩ g1 (fun q h => by rw [g3] at h; cases h) (by rw [g2]; exact hkC) (by rw [g2]; exact hass) rfl rfl d fun H1 e1 z oq => ?_
  refine kk p e s m args below meth c A H1 _ ls C0 hX hA hk hn ?_ (by rw [hσ]; exact j_Dset hD hr) (hS.put z oq (hD.2 r _ _ hr)) hL
  rw [hσ]
  refine j_Pset hP hD hr ?_ oq
  show H1[a]? = some (vp_cell _ _)
  rw [e1]
  rw [vp_cell_q, vp_cell_q, arrV_store]
  congr 2
  funext q
  by_cases hq : q = i.toNatClampNeg
  · subst hq
    simp [updV, va_up, va_rf]
  · simp [updV, va_up, hq]
/-- null into an array of references -/
theorem J_aastN {σ' : St} {a N t0 : Nat} {cA : ClassId} {C : String} {f : Nat → Option Nat} {i : Int32} (r : Nat) (hr : w σ r = some (a, .inl (cA, N, .inr (.inr (.inr (.inr f)))))) (ht : (j_tys E.2.2)[t0]? = some (cA, .object C)) (hin : vp_in i N) (hσ : w σ' = j_up (w σ) r (some (a, .inl (cA, N, .inr (.inr (.inr (.inr (va_up f i.toNatClampNeg none)))))))) (d : decode cc pc = .ok (.aastore, 1)) (kk : J E w X cc mL ret own R k n (pc + 1) L st σ' Q) : J E w X cc mL ret own R k n pc L (.null :: .int i :: .ref a :: st) σ Q := by
  intro p e s m args below meth c A H locs ls C0 hX hA hk hn hP hD hS hL
  refine va_WaastN (C := C) C0.1 C0.2.1 (hP r _ _ hr) ((C0.2.2.2.2.2.2.2.2 t0 _ ht).1 N (fun j => va_rf (f j))) (fun h => by cases h) (by show ¬ (i < 0 ∨ (arrV _ _ _).slots.size ≤ _); rw [arrV_size]; exact hin) rfl rfl d fun H1 e1 z oq => ?_
  refine kk p e s m args below meth c A H1 _ ls C0 hX hA hk hn ?_ (by rw [hσ]; exact j_Dset hD hr) (hS.put z oq (hD.2 r _ _ hr)) hL
  rw [hσ]
  refine j_Pset hP hD hr ?_ oq
  show H1[a]? = some (vp_cell _ _)
  rw [e1]
  rw [vp_cell_q, vp_cell_q, arrV_store]
  congr 2
  funext q
  by_cases hq : q = i.toNatClampNeg
  · subst hq
    simp [updV, va_up, va_rf]
  · simp [updV, va_up, hq]
theorem j_asg (vm : Vm) (c : ClassId) : vm.assignable c c = true := by
  show vm.assignableAux (255 + 1) c c = true
  rw [Vm.assignableAux, beq_self_eq_true, Bool.true_or]
theorem j_over {s : State} {args : Array Value} {t : FieldType} (h : (Cond.arrayOver (.array t)).before args s = true) : ∃ (comp : ClassId) (c : ClassId) (kk : Class), s.vm.findClass (FieldType.array t).toString = some comp ∧ s.vm.classes[c]? = some kk ∧ kk.kind = .array comp (.array t) ∧ s.vm.findClass ("[" ++ (FieldType.array t).toString) = some c := by
  simp only [Cond.before, Cond.holds, Cond.value, beq_iff_eq, Option.bind_eq_some_iff, Option.map_eq_some_iff] at h
  obtain ⟨comp, h1, c, h2, kk, h3, h4⟩ := h
  obtain ⟨hl, hp, -⟩ := Array.findIdx?_eq_some_iff_getElem.mp h2
  rw [(Array.getElem?_eq_some_iff.mp h3).2] at hp
  cases hz : kk.kind <;> rw [hz] at h4 hp <;> simp at h4 hp
  exact ⟨comp, c, kk, h1, h3, by rw [hz, hp, h4.1], h4.2⟩
/-- an array into an array of arrays -/
theorem J_aastI {σ' : St} {a v N : Nat} {f : Nat → Option Nat} {i : Int32} {x : vp_A} (r rv : Nat) (hr : w σ r = some (a, .inl (E.2.2 3, N, .inr (.inr (.inr (.inr f)))))) (hrv : w σ rv = some (v, .inl (E.2.2 0, x))) (hX1 : ∀ A s, X.1 A s → va_Nw (.arrayOver (.array .int)) s) (hin : vp_in i N) (hσ : w σ' = j_up (w σ) r (some (a, .inl (E.2.2 3, N, .inr (.inr (.inr (.inr (va_up f i.toNatClampNeg (some v))))))))) (d : decode cc pc = .ok (.aastore, 1)) (kk : J E w X cc mL ret own R k n (pc + 1) L st σ' Q) : J E w X cc mL ret own R k n pc L (.ref v :: .int i :: .ref a :: st) σ Q := by
  intro p e s m args below meth c A H locs ls C0 hX hA hk hn hP hD hS hL
  have hlt : i.toNatClampNeg < N := Nat.not_le.mp fun q => hin (Or.inr q)
  have h0 : ¬ i < 0 := fun q => hin (Or.inl q)
  have g1 : H[v]? = some (vp_cell (E.2.2 0) x) := hP rv _ _ hrv
  have gc : (vp_cell (E.2.2 0) x).cls = E.2.2 0 ∧ (vp_cell (E.2.2 0) x).vm = .none := by
    obtain ⟨n1, x1⟩ := x
    rcases x1 with x1 | x1 | x1 | x1 | x1 <;> exact ⟨rfl, rfl⟩
  obtain ⟨comp, cA, kA, o1, o2, o3, o4⟩ := j_over (hX1 A s hX.1)
  have e1 : cA = E.2.2 3 := Option.some.inj (o4.symm.trans (C0.2.2.2.2.2.2.2.2 3 _ rfl).2)
  have e2 : comp = E.2.2 0 := Option.some.inj (o1.symm.trans (C0.2.2.2.2.2.2.2.2 0 _ rfl).2)
  subst e1
  subst e2
  obtain ⟨-, kv, hkv, -⟩ := (C0.2.2.2.2.2.2.2.2 0 _ rfl).1 0 (fun _ => .null)
  refine W.aast C0.1 C0.2.1 (hP r _ _ hr) (fun q h => by cases h) (fun h => by cases h) o2 o3 rfl hkv ⟨h0, by show _ < (arrV _ _ _).slots.size; rw [arrV_size]; exact hlt⟩ g1 (fun q h => by rw [gc.2] at h; cases h) (by rw [gc.1]; exact hkv) (by rw [gc.1]; exact j_asg _ _) rfl rfl d fun H1 e1 z oq => ?_
  refine kk p e s m args below meth c A H1 _ ls C0 hX hA hk hn ?_ (by rw [hσ]; exact j_Dset hD hr) (hS.put z oq (hD.2 r _ _ hr)) hL
  rw [hσ]
  refine j_Pset hP hD hr ?_ oq
  show H1[a]? = some (vp_cell _ _)
  rw [e1]
  rw [vp_cell_q, vp_cell_q, arrV_store]
  congr 2
  funext q
  by_cases hq : q = i.toNatClampNeg
  · subst hq
    simp [updV, va_up, va_rf]
  · simp [updV, va_up, hq]
/-- an array into an array of arrays -/
theorem J_aastB {σ' : St} {a v N : Nat} {f : Nat → Option Nat} {i : Int32} {x : vp_A} (r rv : Nat) (hr : w σ r = some (a, .inl (E.2.2 4, N, .inr (.inr (.inr (.inr f)))))) (hrv : w σ rv = some (v, .inl (E.2.2 1, x))) (hX1 : ∀ A s, X.1 A s → va_Nw (.arrayOver (.array .byte)) s) (hin : vp_in i N) (hσ : w σ' = j_up (w σ) r (some (a, .inl (E.2.2 4, N, .inr (.inr (.inr (.inr (va_up f i.toNatClampNeg (some v))))))))) (d : decode cc pc = .ok (.aastore, 1)) (kk : J E w X cc mL ret own R k n (pc + 1) L st σ' Q) : J E w X cc mL ret own R k n pc L (.ref v :: .int i :: .ref a :: st) σ Q := by
  intro p e s m args below meth c A H locs ls C0 hX hA hk hn hP hD hS hL
  have hlt : i.toNatClampNeg < N := Nat.not_le.mp fun q => hin (Or.inr q)
  have h0 : ¬ i < 0 := fun q => hin (Or.inl q)
  have g1 : H[v]? = some (vp_cell (E.2.2 1) x) := hP rv _ _ hrv
  have gc : (vp_cell (E.2.2 1) x).cls = E.2.2 1 ∧ (vp_cell (E.2.2 1) x).vm = .none := by
    obtain ⟨n1, x1⟩ := x
    rcases x1 with x1 | x1 | x1 | x1 | x1 <;> exact ⟨rfl, rfl⟩
  obtain ⟨comp, cA, kA, o1, o2, o3, o4⟩ := j_over (hX1 A s hX.1)
  have e1 : cA = E.2.2 4 := Option.some.inj (o4.symm.trans (C0.2.2.2.2.2.2.2.2 4 _ rfl).2)
  have e2 : comp = E.2.2 1 := Option.some.inj (o1.symm.trans (C0.2.2.2.2.2.2.2.2 1 _ rfl).2)
  subst e1
  subst e2
  obtain ⟨-, kv, hkv, -⟩ := (C0.2.2.2.2.2.2.2.2 1 _ rfl).1 0 (fun _ => .null)
  refine W.aast C0.1 C0.2.1 (hP r _ _ hr) (fun q h => by cases h) (fun h => by cases h) o2 o3 rfl hkv ⟨h0, by show _ < (arrV _ _ _).slots.size; rw [arrV_size]; exact hlt⟩ g1 (fun q h => by rw [gc.2] at h; cases h) (by rw [gc.1]; exact hkv) (by rw [gc.1]; exact j_asg _ _) rfl rfl d fun H1 e1 z oq => ?_
  refine kk p e s m args below meth c A H1 _ ls C0 hX hA hk hn ?_ (by rw [hσ]; exact j_Dset hD hr) (hS.put z oq (hD.2 r _ _ hr)) hL
  rw [hσ]
  refine j_Pset hP hD hr ?_ oq
  show H1[a]? = some (vp_cell _ _)
  rw [e1]
  rw [vp_cell_q, vp_cell_q, arrV_store]
  congr 2
  funext q
  by_cases hq : q = i.toNatClampNeg
  · subst hq
    simp [updV, va_up, va_rf]
  · simp [updV, va_up, hq]
theorem J_anewI {σ' : Nat → St} {z : Int} {index : Nat} (r N : Nat) (q : Cond.classLink own index (FieldType.array .int).toString ∈ lw_all) (hX1 : ∀ A s, X.1 A s → va_Nw (.arrayOver (.array .int)) s) (hz : z = N) (hN : N ≤ 100000) (hk1 : k + 1 ≤ R.cells) (hn1 : n + N ≤ R.slots) (hσ : ∀ a, w (σ' a) = j_up (w σ) r (some (a, .inl (E.2.2 3, N, .inr (.inr (.inr (.inr (fun _ => none)))))))) (d : decode cc pc = .ok (.anewarray index, 3)) (kk : ∀ a, J E w X cc mL ret own R (k + 1) (n + N) (pc + 3) L (.ref a :: st) (σ' a) Q) : J E w X cc mL ret own R k n pc L (.int (zI z) :: st) σ Q := by
  intro p e s m args below meth c A H locs ls C0 hX hA hk hn hP hD hS hL
  subst hz
  have hts := C0.2.2.2.2.2.2.1
  have hcl : (zI (N : Int)).toNatClampNeg = N := by rw [zI_nI]; exact nI_clamp (by omega)
  have hn0 : ¬ zI (N : Int) < 0 := by
    rw [zI_nI]
    exact fun h => absurd (Int32.lt_iff_toInt_lt.mp h) (by rw [show ((0 : Int32).toInt) = 0 from rfl, ← zI_nI, zI_toInt (by unfold zR; omega)]; omega)
  refine W.anewA (t := .int) C0.1 C0.2.1 C0.2.2.2.2.2.1 (hts _ q) (hX1 A s hX.1) rfl d rfl hn0 (by rw [hcl]; omega) hk1 (by rw [hcl]; exact hn1) fun cA kA comp f1 f2 f3 f4 => ?_
  have hcA : cA = E.2.2 3 := Option.some.inj (f1.symm.trans (C0.2.2.2.2.2.2.2.2 3 _ rfl).2)
  subst hcA
  generalize hH1 : H.push ({ cls := E.2.2 3, slots := Array.replicate (zI (N : Int)).toNatClampNeg .null, vm := .none } : Cell) = H1
  have z1 : H1.size = H.size + 1 := by rw [← hH1, Array.size_push]
  have e1 : H1[H.size]? = some (arrV (E.2.2 3) N (fun _ => .null)) := by rw [← hH1, Array.getElem?_push_size, ← arrV_new, hcl]
  have o1 : ∀ q : Nat, q < H.size → H1[q]? = H[q]? := fun q hq => by rw [← hH1, Array.getElem?_push, if_neg (Nat.ne_of_lt hq)]
  rw [hcl]
  refine kk H.size p e s m args below meth c A H1 locs ls C0 hX hA hk1 hn1 ?_ ?_ (j_Snew hS z1 o1) hL
  · rw [hσ]
    refine j_Pnew hP ?_ o1
    show H1[H.size]? = some (vp_cell _ _)
    rw [vp_cell_q]
    exact e1
  · rw [hσ]
    exact j_Dnew hP hD (hA _ hS.1)
theorem J_anewB {σ' : Nat → St} {z : Int} {index : Nat} (r N : Nat) (q : Cond.classLink own index (FieldType.array .byte).toString ∈ lw_all) (hX1 : ∀ A s, X.1 A s → va_Nw (.arrayOver (.array .byte)) s) (hz : z = N) (hN : N ≤ 100000) (hk1 : k + 1 ≤ R.cells) (hn1 : n + N ≤ R.slots) (hσ : ∀ a, w (σ' a) = j_up (w σ) r (some (a, .inl (E.2.2 4, N, .inr (.inr (.inr (.inr (fun _ => none)))))))) (d : decode cc pc = .ok (.anewarray index, 3)) (kk : ∀ a, J E w X cc mL ret own R (k + 1) (n + N) (pc + 3) L (.ref a :: st) (σ' a) Q) : J E w X cc mL ret own R k n pc L (.int (zI z) :: st) σ Q := by
  intro p e s m args below meth c A H locs ls C0 hX hA hk hn hP hD hS hL
  subst hz
  have hts := C0.2.2.2.2.2.2.1
  have hcl : (zI (N : Int)).toNatClampNeg = N := by rw [zI_nI]; exact nI_clamp (by omega)
  have hn0 : ¬ zI (N : Int) < 0 := by
    rw [zI_nI]
    exact fun h => absurd (Int32.lt_iff_toInt_lt.mp h) (by rw [show ((0 : Int32).toInt) = 0 from rfl, ← zI_nI, zI_toInt (by unfold zR; omega)]; omega)
  refine W.anewA (t := .byte) C0.1 C0.2.1 C0.2.2.2.2.2.1 (hts _ q) (hX1 A s hX.1) rfl d rfl hn0 (by rw [hcl]; omega) hk1 (by rw [hcl]; exact hn1) fun cA kA comp f1 f2 f3 f4 => ?_
  have hcA : cA = E.2.2 4 := Option.some.inj (f1.symm.trans (C0.2.2.2.2.2.2.2.2 4 _ rfl).2)
  subst hcA
  generalize hH1 : H.push ({ cls := E.2.2 4, slots := Array.replicate (zI (N : Int)).toNatClampNeg .null, vm := .none } : Cell) = H1
  have z1 : H1.size = H.size + 1 := by rw [← hH1, Array.size_push]
  have e1 : H1[H.size]? = some (arrV (E.2.2 4) N (fun _ => .null)) := by rw [← hH1, Array.getElem?_push_size, ← arrV_new, hcl]
  have o1 : ∀ q : Nat, q < H.size → H1[q]? = H[q]? := fun q hq => by rw [← hH1, Array.getElem?_push, if_neg (Nat.ne_of_lt hq)]
  rw [hcl]
  refine kk H.size p e s m args below meth c A H1 locs ls C0 hX hA hk1 hn1 ?_ ?_ (j_Snew hS z1 o1) hL
  · rw [hσ]
    refine j_Pnew hP ?_ o1
    show H1[H.size]? = some (vp_cell _ _)
    rw [vp_cell_q]
    exact e1
  · rw [hσ]
    exact j_Dnew hP hD (hA _ hS.1)
theorem J_anewF {σ' : Nat → St} {z : Int} {index : Nat} (r N : Nat) (q : Cond.classLink own index "FrameSheets$Frame" ∈ lw_all) (hX1 : ∀ A s, X.1 A s → va_Nw (.arrayOver (.object "FrameSheets$Frame")) s) (hz : z = N) (hN : N ≤ 100000) (hk1 : k + 1 ≤ R.cells) (hn1 : n + N ≤ R.slots) (hσ : ∀ a, w (σ' a) = j_up (w σ) r (some (a, .inl (E.2.2 5, N, .inr (.inr (.inr (.inr (fun _ => none)))))))) (d : decode cc pc = .ok (.anewarray index, 3)) (kk : ∀ a, J E w X cc mL ret own R (k + 1) (n + N) (pc + 3) L (.ref a :: st) (σ' a) Q) : J E w X cc mL ret own R k n pc L (.int (zI z) :: st) σ Q := by
  intro p e s m args below meth c A H locs ls C0 hX hA hk hn hP hD hS hL
  subst hz
  have hts := C0.2.2.2.2.2.2.1
  have hcl : (zI (N : Int)).toNatClampNeg = N := by rw [zI_nI]; exact nI_clamp (by omega)
  have hn0 : ¬ zI (N : Int) < 0 := by
    rw [zI_nI]
    exact fun h => absurd (Int32.lt_iff_toInt_lt.mp h) (by rw [show ((0 : Int32).toInt) = 0 from rfl, ← zI_nI, zI_toInt (by unfold zR; omega)]; omega)
  refine W.anew C0.1 C0.2.1 C0.2.2.2.2.2.1 (hts _ q) (hX1 A s hX.1) rfl d rfl hn0 (by rw [hcl]; omega) hk1 (by rw [hcl]; exact hn1) fun cA kA comp f1 f2 f3 f4 => ?_
  have hcA : cA = E.2.2 5 := Option.some.inj (f1.symm.trans (C0.2.2.2.2.2.2.2.2 5 _ rfl).2.choose_spec.choose_spec.2.2.2)
  subst hcA
  generalize hH1 : H.push ({ cls := E.2.2 5, slots := Array.replicate (zI (N : Int)).toNatClampNeg .null, vm := .none } : Cell) = H1
  have z1 : H1.size = H.size + 1 := by rw [← hH1, Array.size_push]
  have e1 : H1[H.size]? = some (arrV (E.2.2 5) N (fun _ => .null)) := by rw [← hH1, Array.getElem?_push_size, ← arrV_new, hcl]
  have o1 : ∀ q : Nat, q < H.size → H1[q]? = H[q]? := fun q hq => by rw [← hH1, Array.getElem?_push, if_neg (Nat.ne_of_lt hq)]
  rw [hcl]
  refine kk H.size p e s m args below meth c A H1 locs ls C0 hX hA hk1 hn1 ?_ ?_ (j_Snew hS z1 o1) hL
  · rw [hσ]
    refine j_Pnew hP ?_ o1
    show H1[H.size]? = some (vp_cell _ _)
    rw [vp_cell_q]
    exact e1
  · rw [hσ]
    exact j_Dnew hP hD (hA _ hS.1)
theorem J_anewK {σ' : Nat → St} {z : Int} {index : Nat} (r N : Nat) (q : Cond.classLink own index "FrameSheets$Kept" ∈ lw_all) (hX1 : ∀ A s, X.1 A s → va_Nw (.arrayOver (.object "FrameSheets$Kept")) s) (hz : z = N) (hN : N ≤ 100000) (hk1 : k + 1 ≤ R.cells) (hn1 : n + N ≤ R.slots) (hσ : ∀ a, w (σ' a) = j_up (w σ) r (some (a, .inl (E.2.2 6, N, .inr (.inr (.inr (.inr (fun _ => none)))))))) (d : decode cc pc = .ok (.anewarray index, 3)) (kk : ∀ a, J E w X cc mL ret own R (k + 1) (n + N) (pc + 3) L (.ref a :: st) (σ' a) Q) : J E w X cc mL ret own R k n pc L (.int (zI z) :: st) σ Q := by
  intro p e s m args below meth c A H locs ls C0 hX hA hk hn hP hD hS hL
  subst hz
  have hts := C0.2.2.2.2.2.2.1
  have hcl : (zI (N : Int)).toNatClampNeg = N := by rw [zI_nI]; exact nI_clamp (by omega)
  have hn0 : ¬ zI (N : Int) < 0 := by
    rw [zI_nI]
    exact fun h => absurd (Int32.lt_iff_toInt_lt.mp h) (by rw [show ((0 : Int32).toInt) = 0 from rfl, ← zI_nI, zI_toInt (by unfold zR; omega)]; omega)
  refine W.anew C0.1 C0.2.1 C0.2.2.2.2.2.1 (hts _ q) (hX1 A s hX.1) rfl d rfl hn0 (by rw [hcl]; omega) hk1 (by rw [hcl]; exact hn1) fun cA kA comp f1 f2 f3 f4 => ?_
  have hcA : cA = E.2.2 6 := Option.some.inj (f1.symm.trans (C0.2.2.2.2.2.2.2.2 6 _ rfl).2.choose_spec.choose_spec.2.2.2)
  subst hcA
  generalize hH1 : H.push ({ cls := E.2.2 6, slots := Array.replicate (zI (N : Int)).toNatClampNeg .null, vm := .none } : Cell) = H1
  have z1 : H1.size = H.size + 1 := by rw [← hH1, Array.size_push]
  have e1 : H1[H.size]? = some (arrV (E.2.2 6) N (fun _ => .null)) := by rw [← hH1, Array.getElem?_push_size, ← arrV_new, hcl]
  have o1 : ∀ q : Nat, q < H.size → H1[q]? = H[q]? := fun q hq => by rw [← hH1, Array.getElem?_push, if_neg (Nat.ne_of_lt hq)]
  rw [hcl]
  refine kk H.size p e s m args below meth c A H1 locs ls C0 hX hA hk1 hn1 ?_ ?_ (j_Snew hS z1 o1) hL
  · rw [hσ]
    refine j_Pnew hP ?_ o1
    show H1[H.size]? = some (vp_cell _ _)
    rw [vp_cell_q]
    exact e1
  · rw [hσ]
    exact j_Dnew hP hD (hA _ hS.1)
/-- a nest mate's field -/
theorem J_getN {index ci a N : Nat} {C ref host : String} {T : u_T} {V : Nat → Value} (r f : Nat) (hr : w σ r = some (a, .inr (ci, V))) (hc : CL[ci]? = some (C, T, N)) (hin : ∀ w ∈ u_ws C T N, w ∈ lw_all) (hf : f < N) (hX1 : ∀ A s, X.1 A s → va_Nw (.fieldLinkNest own index ref (T f).2.1 (T f).2.2.1 host) s) (href : (T f).1 = ref) (d : decode cc pc = .ok (.getfield index, 3)) (kk : J E w X cc mL ret own R k n (pc + 3) L (V f :: st) σ Q) : J E w X cc mL ret own R k n pc L (.ref a :: st) σ Q := by
  intro p e s m args below meth c A H locs ls C0 hX hA hk hn hP hD hS hL
  obtain ⟨r', h1, cell, q1, q2, q3, q4⟩ := hP r _ _ hr
  have hr' : r' = (_, T, N) := Option.some.inj (h1.symm.trans hc)
  subst hr'
  obtain ⟨hSl, hfc, kC, hkC, hkind⟩ := C0.2.2.2.2.2.2.2.1 ci _ hc
  obtain ⟨cf, kf, fi, fd, hi, hsl⟩ := hSl f hf
  subst href
  refine va_Wgetf C0.1 C0.2.1 C0.2.2.2.2.2.1 (va_Nw.use rfl (hX1 A s hX.1)) hi (u_facts hfc hkC (u_lays C0.2.2.2.2.2.2.1 hin hf) hi).1 q1 (by rw [q3]; exact fun h => by cases h) (v := V f) ?_ rfl rfl d (kk p e s m args below meth c A H locs ls C0 hX hA hk hn hP hD hS hL)
  rw [hsl, q4 f hf]
theorem J_putN {σ' : St} {index ci a N : Nat} {C ref host : String} {T : u_T} {V : Nat → Value} {v : Value} {ty0 : Nat → FieldType} (r f : Nat) (hr : w σ r = some (a, .inr (ci, V))) (hc : CL[ci]? = some (C, T, N)) (hin : ∀ w ∈ u_ws C T N, w ∈ lw_all) (hty : ∀ k, k < N → parseFieldDescriptor (T k).2.2.1 = some (ty0 k)) (hnm : ∀ a, a < N → ∀ b, b < N → a ≠ b → (T a).2.1 ≠ (T b).2.1) (hf : f < N) (hX1 : ∀ A s, X.1 A s → va_Nw (.fieldLinkNest own index ref (T f).2.1 (T f).2.2.1 host) s) (href : (T f).1 = ref) (hfin : (T f).2.2.2 = false) (hn : narrow (ty0 f) v = v) (hfit : fits (ty0 f) v = true) (hσ : w σ' = j_up (w σ) r (some (a, .inr (ci, updV V f v)))) (d : decode cc pc = .ok (.putfield index, 3)) (kk : J E w X cc mL ret own R k n (pc + 3) L st σ' Q) : J E w X cc mL ret own R k n pc L (v :: .ref a :: st) σ Q := by
  intro p e s m args below meth c A H locs ls C0 hX hA hk hn0 hP hD hS hL
  have hap := j_apart C0.2.2.2.2.2.2.1 hin ty0 hty hnm C0.2.2.2.2.2.2.2 hc
  obtain ⟨r', h1, cell, q1, q2, q3, q4⟩ := hP r _ _ hr
  have hr' : r' = (_, T, N) := Option.some.inj (h1.symm.trans hc)
  subst hr'
  obtain ⟨hSl, hfc, kC, hkC, hkind⟩ := C0.2.2.2.2.2.2.2.1 ci _ hc
  obtain ⟨cf, kf, fi, fd, hi, hsl⟩ := hSl f hf
  subst href
  have hlay := C0.2.2.2.2.2.2.1 _ (hin _ (u_in_lay hf))
  unfold u_lay at hlay
  rw [if_neg (by rw [hfin]; decide)] at hlay
  have hst := (u_facts hfc hkC (u_lays C0.2.2.2.2.2.2.1 hin hf) hi).1
  have h6 := u_store hfc hkC hkind hlay hi (hty f hf) hn hfit
  refine va_WputK C0.1 C0.2.1 (f := fd) C0.2.2.2.2.2.1 (va_Nw.use rfl (hX1 A s hX.1)) hi hst (by rw [q2]; exact h6) q1 q3 (by rw [hsl]; exact k2_hasslot (q4 f hf)) rfl rfl d fun H' e1 e2 e3 => ?_
  rw [hsl] at e1 ⊢
  refine kk p e s m args below meth c A H' _ ls C0 hX hA hk hn0 ?_ ?_ (hS.put e2 e3 (hD.2 r _ _ hr)) hL
  · rw [hσ]
    exact j_Pset hP hD hr ⟨_, hc, _, e1, q2, q3, t_set q4 hap hf v⟩ e3
  · rw [hσ]
    exact j_Dset hD hr
/-- a final field, in a constructor -/
theorem J_putF {σ' : St} {index ci a N : Nat} {C : String} {T : u_T} {V : Nat → Value} {v : Value} {ty0 : Nat → FieldType} {y : MethodName} (r f : Nat) (hr : w σ r = some (a, .inr (ci, V))) (hc : CL[ci]? = some (C, T, N)) (hin : ∀ w ∈ u_ws C T N, w ∈ lw_all) (hty : ∀ k, k < N → parseFieldDescriptor (T k).2.2.1 = some (ty0 k)) (hnm : ∀ a, a < N → ∀ b, b < N → a ≠ b → (T a).2.1 ≠ (T b).2.1) (hf : f < N) (q : Cond.fieldLink own index own (T f).2.1 (T f).2.2.1 ∈ lw_all) (href : (T f).1 = own) (hfin : (T f).2.2.2 = true) (hX2 : X.2 = some y) (hy : y.name = "<init>") (hn : narrow (ty0 f) v = v) (hfit : fits (ty0 f) v = true) (hσ : w σ' = j_up (w σ) r (some (a, .inr (ci, updV V f v)))) (d : decode cc pc = .ok (.putfield index, 3)) (kk : J E w X cc mL ret own R k n (pc + 3) L st σ' Q) : J E w X cc mL ret own R k n pc L (v :: .ref a :: st) σ Q := by
  intro p e s m args below meth c A H locs ls C0 hX hA hk hn0 hP hD hS hL
  have hap := j_apart C0.2.2.2.2.2.2.1 hin ty0 hty hnm C0.2.2.2.2.2.2.2 hc
  obtain ⟨r', h1, cell, q1, q2, q3, q4⟩ := hP r _ _ hr
  have hr' : r' = (_, T, N) := Option.some.inj (h1.symm.trans hc)
  subst hr'
  obtain ⟨hSl, hfc, kC, hkC, hkind⟩ := C0.2.2.2.2.2.2.2.1 ci _ hc
  obtain ⟨cf, kf, fi, fd, hi, hsl⟩ := hSl f hf
  have hlay := C0.2.2.2.2.2.2.1 _ (hin _ (u_in_lay hf))
  unfold u_lay at hlay
  rw [if_pos hfin] at hlay
  have hst := (u_facts hfc hkC (u_lays C0.2.2.2.2.2.2.1 hin hf) hi).1
  have hin2 : meth.name = "<init>" := (name_of_methodNamed (hX.2 y hX2).1 (hX.2 y hX2).2).1.trans hy
  have hcf : m.cls = cf := by
    obtain ⟨_, _, c', _, _, _, -, -, hf', -, -, -, hown2, -⟩ := Cond.laysFinal_spec hlay
    have e1 : c' = cf := by have := hi.symm.trans hf'; simp at this; exact this.1.symm
    rw [href] at hown2
    rw [← e1]; exact Option.some.inj (C0.2.2.2.2.2.1.symm.trans hown2)
  have h6 := u_fits hfc hkC hkind (Or.inr hlay) hi (hty f hf) hn hfit
  rw [href] at hi
  refine W.putFinK C0.1 C0.2.1 C0.2.2.2.2.2.1 (C0.2.2.2.2.2.2.1 _ q) hi hst hcf hin2 (by rw [q2]; exact h6) q1 q3 (by rw [hsl]; exact k2_hasslot (q4 f hf)) rfl rfl d fun H' e1 e2 e3 => ?_
  rw [hsl] at e1 ⊢
  refine kk p e s m args below meth c A H' _ ls C0 hX hA hk hn0 ?_ ?_ (hS.put e2 e3 (hD.2 r _ _ hr)) hL
  · rw [hσ]
    exact j_Pset hP hD hr ⟨_, hc, _, e1, q2, q3, t_set q4 hap hf v⟩ e3
  · rw [hσ]
    exact j_Dset hD hr
theorem J_objInit {a index : Nat} (q1 : Cond.methodLink own index Lib.objectInit ∈ lw_all) (q2 : Cond.instanceMethod Lib.objectInit ∈ lw_all) (q3 : Cond.code Lib.objectInit ⟨#[0xb1]⟩ 1 none ∈ lw_all) (hst : (st.map fun v => v.category).sum ≤ 8) (hR : 1 ≤ R.frames ∧ 20 ≤ R.locals) (d : decode cc pc = .ok (.invokespecial index, 3)) (kk : J E w X cc mL ret own R k n (pc + 3) L st σ Q) : J E w X cc mL ret own R k n pc L (.ref a :: st) σ Q := by
  intro p e s m args below meth c A H locs ls C0 hX hA hk hn hP hD hS hL
  have hts := C0.2.2.2.2.2.2.1
  refine W.objInit C0.1 C0.2.1 C0.2.2.2.2.2.1 (hts _ q1) (hts _ q2) (hts _ q3) rfl (by rw [C0.2.2.2.2.1]; exact hL.1) rfl d hR.1 ?_ (kk p e s m args below meth c A H locs ls C0 hX hA hk hn hP hD hS hL)
  have := lv_room (m := m) (pc := pc) (ls := ls) (st := st) (rest := .ref a :: st) hst
  omega
end JK
