set_option maxRecDepth 100000
/-! rows: System.arraycopy; the component's rows, texts, kept ones -/
section JA
variable {E : jEnv} {St : Type} {w : St → jW} {X : jX} {cc : ByteArray} {mL : Nat} {ret : Option FieldType} {own : String} {R : Room} {k n pc : Nat} {L : List (Option Value)} {st : List Value} {σ : St} {Q : Option Value → St → Prop}
theorem zI_nn {m : Nat} (h : m ≤ 1000000) : ¬ zI (m : Int) < 0 ∧ (zI (m : Int)).toNatClampNeg = m := by
  refine ⟨fun z => ?_, by rw [zI_nI]; exact nI_clamp (by omega)⟩
  have := (zI_lt (a := (m : Int)) (b := 0) (by unfold zR; omega) zR_0).mp z
  omega
theorem J_acopy {σ' : St} {a0 a N0 N1 index sp dp cn : Nat} {ty : FieldType} {f g : Nat → Int32} (t0 r0 r1 : Nat) (hr0 : w σ r0 = some (a0, .inl (E.2.2 t0, N0, .inl f))) (hr1 : w σ r1 = some (a, .inl (E.2.2 t0, N1, .inl g))) (ht : (j_tys E.2.2)[t0]? = some (E.2.2 t0, ty)) (hprim : refKind ty = false) (hfit : ∀ i, i < cn → fits ty (.int (f (sp + i))) = true) (h4 : sp + cn ≤ N0) (h5 : dp + cn ≤ N1) (hN : N0 ≤ 1000000 ∧ N1 ≤ 1000000)
    (q1 : Cond.methodLink own index arraycopyName ∈ lw_all) (q2 : Cond.native arraycopyName ∈ lw_all) (q3 : Cond.static arraycopyName ∈ lw_all) (q4 : Cond.initialized "java/lang/System" ∈ lw_all) (hR : 1 ≤ R.frames ∧ 8 + (nativeFrameWords "java/lang/System" "arraycopy" 5 + 11) ≤ R.locals) (hst : (st.map fun v => v.category).sum ≤ 8)
    (hσ : w σ' = j_up (w σ) r1 (some (a, .inl (E.2.2 t0, N1, .inl (va_cpy f g sp dp cn))))) (d : decode cc pc = .ok (.invokestatic index, 3)) (kk : J E w X cc mL ret own R k n (pc + 3) L st σ' Q) : J E w X cc mL ret own R k n pc L (.int (zI (cn : Nat)) :: .int (zI (dp : Nat)) :: .ref a :: .int (zI (sp : Nat)) :: .ref a0 :: st) σ Q := by
  intro p e s m args below meth c A H locs ls C hX hA hk hn hP hD hS hL T hT Y
  have hts := C.2.2.2.2.2.2.1
  obtain ⟨s1, s2⟩ := zI_nn (m := sp) (by omega)
  obtain ⟨d1, d2⟩ := zI_nn (m := dp) (by omega)
  obtain ⟨n1, n2⟩ := zI_nn (m := cn) (by omega)
  have nn : ∀ z : Int32, ¬ z < 0 → z.toInt = (z.toNatClampNeg : Int) := by
    intro z hz
    have hz0 : (0 : Int) ≤ z.toInt := by
      have := Int32.not_lt.mp hz
      simpa using Int32.le_iff_toInt_le.mp this
    show z.toInt = ((z.toInt.toNat : Nat) : Int)
    omega
  have hc0 : H[a0]? = some (vp_cell (E.2.2 t0) (N0, .inl f)) := hP r0 _ _ hr0
  have hc1 : H[a]? = some (vp_cell (E.2.2 t0) (N1, .inl g)) := hP r1 _ _ hr1
  obtain ⟨-, k0, hk0, cm0, hkk0⟩ := (C.2.2.2.2.2.2.2.2 t0 _ ht).1 N0 (fun j => .int (f j))
  obtain ⟨-, k1, hk1, cm1, hkk1⟩ := (C.2.2.2.2.2.2.2.2 t0 _ ht).1 N1 (fun j => .int (g j))
  obtain ⟨vm', X', step⟩ := Y.arraycopy C.1 C.2.2.2.2.2.1 (hts _ q1) (hts _ q2) (hts _ q3) (hts _ q4) (src := a0) (dst := a) (cs := vp_cell (E.2.2 t0) (N0, .inl f)) (cd := vp_cell (E.2.2 t0) (N1, .inl g)) (srcPos := zI (sp : Nat)) (destPos := zI (dp : Nat)) (n := zI (cn : Nat)) (by rw [hT]; exact hc0) (by rw [hT]; exact hc1)
    (fun _ h => by cases h) (fun _ h => by cases h) (fun h => by cases h) (fun h => by cases h) hk0 hk1 hkk0 hkk1 (by simp [hprim]) s1 d1 n1
    (by rw [nn _ s1, nn _ n1, s2, n2]; show ¬ _ > ((arrV _ N0 (fun j => .int (f j))).slots.size : Int); rw [arrV_size]; omega)
    (by rw [nn _ d1, nn _ n1, d2, n2]; show ¬ _ > ((arrV _ N1 (fun j => .int (g j))).slots.size : Int); rw [arrV_size]; omega)
    (fun vm₁ _ i hi => by
      rw [n2] at hi
      have e : (vp_cell (E.2.2 t0) (N0, .inl f)).slots.getD ((zI (sp : Nat)).toNatClampNeg + i) .null = .int (f (sp + i)) := by
        rw [s2]
        show (arrV _ N0 (fun j => .int (f j))).slots.getD _ _ = _
        rw [Array.getD_eq_getD_getElem?, arrV_read _ _ (by omega)]
        rfl
      refine ⟨?_, ?_⟩
      · rw [e]
        exact hfit i hi
      · rw [e]
        exact trivial)
    (g := F0 m pc ls (.int (zI (cn : Nat)) :: .int (zI (dp : Nat)) :: .ref a :: .int (zI (sp : Nat)) :: .ref a0 :: st)) rfl (by show ls.size = _; rw [hL.1]; exact C.2.2.2.2.1.symm) (rest := st) rfl (by rw [C.2.1]; exact d) hR.1 (by show 2 * 0 + _ + _ ≤ _; omega)
  have e1 : copied (vp_cell (E.2.2 t0) (N0, .inl f)) (vp_cell (E.2.2 t0) (N1, .inl g)) (zI (sp : Nat)) (zI (dp : Nat)) (zI (cn : Nat)) = vp_cell (E.2.2 t0) (N1, .inl (va_cpy f g sp dp cn)) := by
    have := va_copied (fun z => .int z) (E.2.2 t0) (E.2.2 t0) f g (n1 := N1) (dp := dp) h4
    show Cell.storeRun _ _ _ = _
    rw [s2, d2, n2]
    exact this
  rw [e1] at X' step
  have hl : a < H.size := (Array.getElem?_eq_some_iff.mp hc1).1
  have hheap : ((T.setVm vm').setCell a (vp_cell (E.2.2 t0) (N1, .inl (va_cpy f g sp dp cn)))).heap = H.setIfInBounds a (vp_cell (E.2.2 t0) (N1, .inl (va_cpy f g sp dp cn))) := by rw [← hT]; rfl
  have oq : ∀ q : Nat, q ≠ a → (H.setIfInBounds a (vp_cell (E.2.2 t0) (N1, .inl (va_cpy f g sp dp cn))))[q]? = H[q]? := fun q hq => by simp [Array.getElem?_setIfInBounds, Ne.symm hq]
  obtain ⟨t, a1, b1⟩ := kk p e s m args below meth c A _ _ ls C hX hA hk hn (by rw [hσ]; exact j_Pset hP hD hr1 (show (H.setIfInBounds a _)[a]? = some _ by simp [Array.getElem?_setIfInBounds, hl]) oq) (by rw [hσ]; exact j_Dset hD hr1) ⟨by simp; exact hS.1, fun q g1 g2 => by
      rw [oq q (fun e => g2 (by rw [e]; exact hD.2 r1 _ _ hr1))]
      exact hS.2.1 q g1 g2, fun q hq => by
      rcases List.mem_append.mp hq with h | h
      · exact hS.2.2 q h
      · obtain ⟨z, -, hz⟩ := List.mem_map.mp h
        rw [← hz]
        exact hD.2 r1 _ _ hr1⟩ hL _ hheap X'
  exact ⟨t, step t a1, b1⟩
end JA
section CA2
variable {E : jEnv} {α : Nat → Nat} {o : Option MethodName} {cc : ByteArray} {mL : Nat} {ret : Option FieldType} {R : Room} {k n pc : Nat} {L : List (Option Value)} {st : List Value} {σ : cS} {Q : Option Value → cS → Prop}
theorem CR_iald {z : Int} {r a N : Nat} {f : Nat → Int32} (m : Nat) (hr : r < 6) (hx : σ.ro r = some (a, N, f)) (h : z = m) (hm : m < N) (hN : N ≤ 1000000) (d : decode cc pc = .ok (.iaload, 1)) (kk : J E (wC E α) (cX E, o) cc mL ret RX0 R k n (pc + 1) L (.int (f m) :: st) σ Q) : J E (wC E α) (cX E, o) cc mL ret RX0 R k n (pc) L (.int (zI z) :: .ref a :: st) σ Q := by
  obtain ⟨h1, h2⟩ := zI_in h hm hN
  exact J_iald (N := N) (f := f) (100 + r) (by rw [wC_ro hr, hx]; rfl) h1 d (by rw [h2]; exact kk)
theorem CR_iast {z : Int} {v : Int32} {r a N : Nat} {f : Nat → Int32} (m : Nat) (hr : r < 6) (hx : σ.ro r = some (a, N, f)) (h : z = m) (hm : m < N) (hN : N ≤ 1000000) (d : decode cc pc = .ok (.iastore, 1)) (kk : J E (wC E α) (cX E, o) cc mL ret RX0 R k n (pc + 1) L (st) (cRo σ r (some (a, N, upd f m v))) Q) : J E (wC E α) (cX E, o) cc mL ret RX0 R k n (pc) L (.int v :: .int (zI z) :: .ref a :: st) σ Q := by
  obtain ⟨h1, h2⟩ := zI_in h hm hN
  exact J_iast (N := N) (f := f) (100 + r) (by rw [wC_ro hr, hx]; rfl) h1 (by rw [wC_Ro hr hx, h2]) d kk
theorem CR_alen {r a N : Nat} {f : Nat → Int32} (hr : r < 6) (hx : σ.ro r = some (a, N, f)) (d : decode cc pc = .ok (.arraylength, 1)) (kk : J E (wC E α) (cX E, o) cc mL ret RX0 R k n (pc + 1) L (.int (zI (N : Nat)) :: st) σ Q) : J E (wC E α) (cX E, o) cc mL ret RX0 R k n (pc) L (.ref a :: st) σ Q := J_alen (x := (N, .inl f)) (ty := .int) (100 + r) 0 (zI (N : Nat)) (by rw [wC_ro hr, hx]; rfl) rfl (zI_nI N).symm d kk
theorem CX_bald {z : Int} {r a N : Nat} {f : Nat → Int32} (m : Nat) (hr : r < 4) (hx : σ.tx r = some (a, N, f)) (h : z = m) (hm : m < N) (hN : N ≤ 1000000) (d : decode cc pc = .ok (.baload, 1)) (kk : J E (wC E α) (cX E, o) cc mL ret RX0 R k n (pc + 1) L (.int (f m) :: st) σ Q) : J E (wC E α) (cX E, o) cc mL ret RX0 R k n (pc) L (.int (zI z) :: .ref a :: st) σ Q := by
  obtain ⟨h1, h2⟩ := zI_in h hm hN
  exact J_bald (N := N) (f := f) (110 + r) (by rw [wC_tx hr, hx]; rfl) h1 d (by rw [h2]; exact kk)
theorem CX_bast {z : Int} {v : Int32} {r a N : Nat} {f : Nat → Int32} (m : Nat) (hr : r < 4) (hx : σ.tx r = some (a, N, f)) (h : z = m) (hm : m < N) (hN : N ≤ 1000000) (d : decode cc pc = .ok (.bastore, 1)) (kk : J E (wC E α) (cX E, o) cc mL ret RX0 R k n (pc + 1) L (st) (cTx σ r (some (a, N, upd f m v.toInt8.toInt32))) Q) : J E (wC E α) (cX E, o) cc mL ret RX0 R k n (pc) L (.int v :: .int (zI z) :: .ref a :: st) σ Q := by
  obtain ⟨h1, h2⟩ := zI_in h hm hN
  exact J_bast (N := N) (f := f) (110 + r) (by rw [wC_tx hr, hx]; rfl) h1 (by rw [wC_Tx hr hx, h2]) d kk
theorem CX_alen {r a N : Nat} {f : Nat → Int32} (hr : r < 4) (hx : σ.tx r = some (a, N, f)) (d : decode cc pc = .ok (.arraylength, 1)) (kk : J E (wC E α) (cX E, o) cc mL ret RX0 R k n (pc + 1) L (.int (zI (N : Nat)) :: st) σ Q) : J E (wC E α) (cX E, o) cc mL ret RX0 R k n (pc) L (.ref a :: st) σ Q := J_alen (x := (N, .inl f)) (ty := .byte) (110 + r) 1 (zI (N : Nat)) (by rw [wC_tx hr, hx]; rfl) rfl (zI_nI N).symm d kk
theorem CA_len3 (d : decode cc pc = .ok (.arraylength, 1)) (kk : J E (wC E α) (cX E, o) cc mL ret RX0 R k n (pc + 1) L (.int (zI 6) :: st) σ Q) : J E (wC E α) (cX E, o) cc mL ret RX0 R k n (pc) L (.ref (α 4) :: st) σ Q := J_alen (ty := .array .int) 4 3 (zI 6) (show wC E α σ 4 = some (α 4, .inl (E.2.2 3, 6, _)) from rfl) rfl rfl d kk
theorem CA_len4 (d : decode cc pc = .ok (.arraylength, 1)) (kk : J E (wC E α) (cX E, o) cc mL ret RX0 R k n (pc + 1) L (.int (zI 4) :: st) σ Q) : J E (wC E α) (cX E, o) cc mL ret RX0 R k n (pc) L (.ref (α 5) :: st) σ Q := J_alen (ty := .array .byte) 5 4 (zI 4) (show wC E α σ 5 = some (α 5, .inl (E.2.2 4, 4, _)) from rfl) rfl rfl d kk
theorem CA_len32 (d : decode cc pc = .ok (.arraylength, 1)) (kk : J E (wC E α) (cX E, o) cc mL ret RX0 R k n (pc + 1) L (.int (zI 3) :: st) σ Q) : J E (wC E α) (cX E, o) cc mL ret RX0 R k n (pc) L (.ref (α 33) :: st) σ Q := J_alen (ty := .object "FrameSheets$Kept") 33 6 (zI 3) (show wC E α σ 33 = some (α 33, .inl (E.2.2 6, 3, _)) from rfl) rfl rfl d kk
theorem KG_deeds {j : Nat} {x : (Nat × Nat × Nat) × Int32 × (Nat → Int32) × (Nat → Int32)} (hj : j < 3) (hx : σ.kp j = some x) (d : decode cc pc = .ok (.getfield 439, 3)) (kk : J E (wC E α) (cX E, o) cc mL ret RX0 R k n (pc + 3) L (.int x.2.1 :: st) σ Q) : J E (wC E α) (cX E, o) cc mL ret RX0 R k n (pc) L (.ref x.1.1 :: st) σ Q := J_getN (140 + j) 0 (V := kV x) (by rw [wC_k0 hj, hx]; rfl) rfl in_X11 (by decide) (fun A s h => h.1 _ q1416 rfl) rfl d kk
theorem KG_notes {j : Nat} {x : (Nat × Nat × Nat) × Int32 × (Nat → Int32) × (Nat → Int32)} (hj : j < 3) (hx : σ.kp j = some x) (d : decode cc pc = .ok (.getfield 442, 3)) (kk : J E (wC E α) (cX E, o) cc mL ret RX0 R k n (pc + 3) L (.ref x.1.2.1 :: st) σ Q) : J E (wC E α) (cX E, o) cc mL ret RX0 R k n (pc) L (.ref x.1.1 :: st) σ Q := J_getN (140 + j) 1 (V := kV x) (by rw [wC_k0 hj, hx]; rfl) rfl in_X11 (by decide) (fun A s h => h.1 _ q1418 rfl) rfl d kk
theorem KG_now {j : Nat} {x : (Nat × Nat × Nat) × Int32 × (Nat → Int32) × (Nat → Int32)} (hj : j < 3) (hx : σ.kp j = some x) (d : decode cc pc = .ok (.getfield 445, 3)) (kk : J E (wC E α) (cX E, o) cc mL ret RX0 R k n (pc + 3) L (.ref x.1.2.2 :: st) σ Q) : J E (wC E α) (cX E, o) cc mL ret RX0 R k n (pc) L (.ref x.1.1 :: st) σ Q := J_getN (140 + j) 2 (V := kV x) (by rw [wC_k0 hj, hx]; rfl) rfl in_X11 (by decide) (fun A s h => h.1 _ q1420 rfl) rfl d kk
end CA2
theorem wC_Kp0 {E : jEnv} {α : Nat → Nat} {σ : cS} {k : Nat} {x : (Nat × Nat × Nat) × Int32 × (Nat → Int32) × (Nat → Int32)} (hk : k < 3) (h : σ.kp k = some x) (v : Int32) : wC E α (cKp σ k (some (x.1, v, x.2.2))) = j_up (wC E α σ) (140 + k) (some (x.1.1, .inr (6, kV (x.1, v, x.2.2)))) := by
  funext r
  by_cases z : r = 140 + k
  · subst z
    rw [wC_k0 hk, cKp_s]
    simp [j_up]
  · simp only [j_up, if_neg z]
    have hm : ∀ {β : Type} (F : ((Nat × Nat × Nat) × Int32 × (Nat → Int32) × (Nat → Int32)) → β) (hF : F (x.1, v, x.2.2) = F x) (j : Nat), ((cKp σ k (some (x.1, v, x.2.2))).kp j).map F = (σ.kp j).map F := by
      intro β F hF j
      by_cases y : j = k
      · subst y; rw [cKp_s, h]; simp [hF]
      · have e : (cKp σ k (some (x.1, v, x.2.2))).kp j = σ.kp j := if_neg y
        rw [e]
    have eA : cA E (cKp σ k (some (x.1, v, x.2.2))) = cA E σ := by
      funext j
      unfold cA
      have : (fun j => ((cKp σ k (some (x.1, v, x.2.2))).kp j).map (fun x => x.1.1)) = fun j => (σ.kp j).map (fun x => x.1.1) := funext fun j => hm (fun x => x.1.1) rfl j
      rw [this]
      rfl
    unfold wC
    rw [eA, hm (fun x => (x.1.2.1, Sum.inl (E.2.2 0, 1320, Sum.inl x.2.2.1))) rfl, hm (fun x => (x.1.2.2, Sum.inl (E.2.2 0, 33, Sum.inl x.2.2.2))) rfl]
    by_cases y : r < 140
    · simp only [if_pos (show r < 143 by omega), if_pos y]; rfl
    · have e2 : (cKp σ k (some (x.1, v, x.2.2))).kp (r - 140) = σ.kp (r - 140) := if_neg (by omega)
      rw [e2]
      rfl
theorem wC_Kp1 {E : jEnv} {α : Nat → Nat} {σ : cS} {k : Nat} {x : (Nat × Nat × Nat) × Int32 × (Nat → Int32) × (Nat → Int32)} (hk : k < 3) (h : σ.kp k = some x) (v : Nat → Int32) : wC E α (cKp σ k (some (x.1, x.2.1, v, x.2.2.2))) = j_up (wC E α σ) (143 + k) (some (x.1.2.1, .inl (E.2.2 0, 1320, .inl v))) := by
  funext r
  by_cases z : r = 143 + k
  · subst z
    rw [wC_k1 hk, cKp_s]
    simp [j_up]
  · simp only [j_up, if_neg z]
    have hm : ∀ {β : Type} (F : ((Nat × Nat × Nat) × Int32 × (Nat → Int32) × (Nat → Int32)) → β) (hF : F (x.1, x.2.1, v, x.2.2.2) = F x) (j : Nat), ((cKp σ k (some (x.1, x.2.1, v, x.2.2.2))).kp j).map F = (σ.kp j).map F := by
      intro β F hF j
      by_cases y : j = k
      · subst y; rw [cKp_s, h]; simp [hF]
      · have e : (cKp σ k (some (x.1, x.2.1, v, x.2.2.2))).kp j = σ.kp j := if_neg y
        rw [e]
    have eA : cA E (cKp σ k (some (x.1, x.2.1, v, x.2.2.2))) = cA E σ := by
      funext j
      unfold cA
      have : (fun j => ((cKp σ k (some (x.1, x.2.1, v, x.2.2.2))).kp j).map (fun x => x.1.1)) = fun j => (σ.kp j).map (fun x => x.1.1) := funext fun j => hm (fun x => x.1.1) rfl j
      rw [this]
      rfl
    unfold wC
    rw [eA, hm (fun x => (x.1.1, Sum.inr (6, kV x))) rfl, hm (fun x => (x.1.2.2, Sum.inl (E.2.2 0, 33, Sum.inl x.2.2.2))) rfl]
    by_cases y : r < 143
    · simp only [if_pos (show r < 146 by omega), if_pos y]; rfl
    · have e2 : (cKp σ k (some (x.1, x.2.1, v, x.2.2.2))).kp (r - 143) = σ.kp (r - 143) := if_neg (by omega)
      rw [e2]
      rfl
section CA3
variable {E : jEnv} {α : Nat → Nat} {o : Option MethodName} {cc : ByteArray} {mL : Nat} {ret : Option FieldType} {R : Room} {k n pc : Nat} {L : List (Option Value)} {st : List Value} {σ : cS} {Q : Option Value → cS → Prop}
theorem KP_deeds {j : Nat} {x : (Nat × Nat × Nat) × Int32 × (Nat → Int32) × (Nat → Int32)} {v : Int32} (hj : j < 3) (hx : σ.kp j = some x) (d : decode cc pc = .ok (.putfield 439, 3)) (kk : J E (wC E α) (cX E, o) cc mL ret RX0 R k n (pc + 3) L (st) (cKp σ j (some (x.1, v, x.2.2))) Q) : J E (wC E α) (cX E, o) cc mL ret RX0 R k n (pc) L (.int v :: .ref x.1.1 :: st) σ Q := J_putN (140 + j) 0 (V := kV x) (by rw [wC_k0 hj, hx]; rfl) rfl in_X11 tyX11_ok nmX11 (by decide) (fun A s h => h.1 _ q1416 rfl) rfl rfl rfl rfl (by
  rw [wC_Kp0 hj hx]
  have e : kV (x.1, v, x.2.2) = updV (kV x) 0 (.int v) := by
    funext i
    unfold kV updV
    by_cases z : i = 0
    · rw [if_pos z, if_pos z]
    · simp only [if_neg z]
  rw [e]) d kk
/-- all that is noted goes to a kept one, and back -/
theorem CC_toKept {j cn : Nat} {x : (Nat × Nat × Nat) × Int32 × (Nat → Int32) × (Nat → Int32)} (hj : j < 3) (hx : σ.kp j = some x) (hn : cn ≤ 1320) (hR : 1 ≤ R.frames ∧ 8 + (nativeFrameWords "java/lang/System" "arraycopy" 5 + 11) ≤ R.locals) (hst : (st.map fun v => v.category).sum ≤ 8) (d : decode cc pc = .ok (.invokestatic 103, 3)) (kk : J E (wC E α) (cX E, o) cc mL ret RX0 R k n (pc + 3) L (st) (cKp σ j (some (x.1, x.2.1, va_cpy (σ.a 31) x.2.2.1 0 0 cn, x.2.2.2))) Q) : J E (wC E α) (cX E, o) cc mL ret RX0 R k n (pc) L (.int (zI (cn : Nat)) :: .int (zI 0) :: .ref x.1.2.1 :: .int (zI 0) :: .ref (α 32) :: st) σ Q :=
  J_acopy (sp := 0) (dp := 0) (N0 := 1320) (N1 := 1320) (f := σ.a 31) (g := x.2.2.1) (ty := .int) 0 32 (143 + j) rfl (by rw [wC_k1 hj, hx]; rfl) rfl rfl (fun _ _ => rfl) (by omega) (by omega) (by omega) q444 q446 q445 q116 hR hst (wC_Kp1 hj hx _) d kk
theorem CC_ofKept {j cn : Nat} {x : (Nat × Nat × Nat) × Int32 × (Nat → Int32) × (Nat → Int32)} (hj : j < 3) (hx : σ.kp j = some x) (hn : cn ≤ 1320) (hR : 1 ≤ R.frames ∧ 8 + (nativeFrameWords "java/lang/System" "arraycopy" 5 + 11) ≤ R.locals) (hst : (st.map fun v => v.category).sum ≤ 8) (d : decode cc pc = .ok (.invokestatic 103, 3)) (kk : J E (wC E α) (cX E, o) cc mL ret RX0 R k n (pc + 3) L (st) (cAr σ 31 (va_cpy x.2.2.1 (σ.a 31) 0 0 cn)) Q) : J E (wC E α) (cX E, o) cc mL ret RX0 R k n (pc) L (.int (zI (cn : Nat)) :: .int (zI 0) :: .ref (α 32) :: .int (zI 0) :: .ref x.1.2.1 :: st) σ Q :=
  J_acopy (sp := 0) (dp := 0) (N0 := 1320) (N1 := 1320) (f := x.2.2.1) (g := σ.a 31) (ty := .int) 0 (143 + j) 32 (by rw [wC_k1 hj, hx]; rfl) rfl rfl rfl (fun _ _ => rfl) (by omega) (by omega) (by omega) q444 q446 q445 q116 hR hst (wC_A 31 _ rfl (by decide) (by decide)) d kk
end CA3
