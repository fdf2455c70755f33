set_option maxRecDepth 100000
/-! the component: sheet -/
theorem k_asgF {E : jEnv} {A : Nat → Prop} {s : State} {ci N : Nat} {C : String} {T : u_T} {c0 comp : ClassId} (hX : cX E A s) (h : 2 ≤ ci ∧ ci ≤ 5) (hc : CL[ci]? = some (C, T, N)) (f1 : s.vm.findClass C = some c0) (f2 : s.vm.findClass "FrameSheets$Frame" = some comp) : s.vm.assignable c0 comp = true := by
  obtain rfl | rfl | rfl | rfl : ci = 2 ∨ ci = 3 ∨ ci = 4 ∨ ci = 5 := by omega
  · cases hc
    cases f1.symm.trans f2
    exact va_asg _ _
  · cases hc
    obtain ⟨a1, a2, g1, g2, g3⟩ := Cond.castable_spec (hX.1 _ q2139 rfl)
    cases f1.symm.trans g1
    cases f2.symm.trans g2
    exact g3
  · cases hc
    obtain ⟨a1, a2, g1, g2, g3⟩ := Cond.castable_spec (hX.1 _ q2140 rfl)
    cases f1.symm.trans g1
    cases f2.symm.trans g2
    exact g3
  · cases hc
    obtain ⟨a1, a2, g1, g2, g3⟩ := Cond.castable_spec (hX.1 _ q2141 rfl)
    cases f1.symm.trans g1
    cases f2.symm.trans g2
    exact g3
section JAQ
variable {E : jEnv} {St : Type} {w : St → jW} {o : Option MethodName} {cc : ByteArray} {mL : Nat} {ret : Option FieldType} {own : String} {R : Room} {k n pc : Nat} {L : List (Option Value)} {st : List Value} {σ : St} {Q : Option Value → St → Prop}
theorem J_acopyQ {σ' : St} {a0 a N0 N1 index cn : Nat} {f g : Nat → Option Nat} (r0 r1 : Nat) (hr0 : w σ r0 = some (a0, jRf E 5 N0 f)) (hr1 : w σ r1 = some (a, jRf E 5 N1 g)) (hel : ∀ i, i < cn → ∃ y ci V rv, f i = some y ∧ w σ rv = some (y, .inr (ci, V)) ∧ 2 ≤ ci ∧ ci ≤ 5) (h4 : cn ≤ N0) (h5 : cn ≤ N1) (hN : N0 ≤ 1000000 ∧ N1 ≤ 1000000)
    (q1 : Cond.methodLink own index arraycopyName ∈ lw_all) (q2 : Cond.native arraycopyName ∈ lw_all) (q3 : Cond.static arraycopyName ∈ lw_all) (q4 : Cond.initialized "java/lang/System" ∈ lw_all) (hR : 1 ≤ R.frames ∧ 8 + (nativeFrameWords "java/lang/System" "arraycopy" 5 + 11) ≤ R.locals) (hst : (st.map fun v => v.category).sum ≤ 8)
    (hσ : w σ' = j_up (w σ) r1 (some (a, jRf E 5 N1 (va_cpy f g 0 0 cn)))) (d : decode cc pc = .ok (.invokestatic index, 3)) (kk : J E w (cX E, o) cc mL ret own R k n (pc + 3) L st σ' Q) : J E w (cX E, o) cc mL ret own R k n pc L (.int (zI (cn : Nat)) :: .int (zI (0 : Nat)) :: .ref a :: .int (zI (0 : Nat)) :: .ref a0 :: st) σ Q := by
  intro p e s m args below meth c A H locs ls C hX hA hk hn hP hD hS hL T hT Y
  have hts := C.2.2.2.2.2.2.1
  obtain ⟨s1, s2⟩ := zI_nn (m := 0) (by omega)
  obtain ⟨n1, n2⟩ := zI_nn (m := cn) (by omega)
  have nn : ∀ z : Int32, ¬ z < 0 → z.toInt = (z.toNatClampNeg : Int) := by
    intro z hz
    have hz0 : (0 : Int) ≤ z.toInt := by
      have := Int32.not_lt.mp hz
      simpa using Int32.le_iff_toInt_le.mp this
    show z.toInt = ((z.toInt.toNat : Nat) : Int)
    omega
  have hc0 : H[a0]? = some (vp_cell (E.2.2 5) (N0, .inr (.inr (.inr (.inr f))))) := hP r0 _ _ hr0
  have hc1 : H[a]? = some (vp_cell (E.2.2 5) (N1, .inr (.inr (.inr (.inr g))))) := hP r1 _ _ hr1
  have hK := C.2.2.2.2.2.2.2.2 5 _ rfl
  obtain ⟨-, k0, hk0, cm0, hkk0⟩ := hK.1 N0 (fun j => va_rf (f j))
  obtain ⟨-, k1, hk1, cm1, hkk1⟩ := hK.1 N1 (fun j => va_rf (g j))
  obtain ⟨vm', X', step⟩ := Y.arraycopy C.1 C.2.2.2.2.2.1 (hts _ q1) (hts _ q2) (hts _ q3) (hts _ q4) (src := a0) (dst := a) (cs := vp_cell (E.2.2 5) (N0, .inr (.inr (.inr (.inr f))))) (cd := vp_cell (E.2.2 5) (N1, .inr (.inr (.inr (.inr g))))) (srcPos := zI (0 : Nat)) (destPos := zI (0 : Nat)) (n := zI (cn : Nat)) (by rw [hT]; exact hc0) (by rw [hT]; exact hc1)
    (fun _ h => by cases h) (fun _ h => by cases h) (fun h => by cases h) (fun h => by cases h) hk0 hk1 hkk0 hkk1 rfl s1 s1 n1
    (by rw [nn _ s1, nn _ n1, s2, n2]; show ¬ _ > ((arrV _ N0 (fun j => va_rf (f j))).slots.size : Int); rw [arrV_size]; omega)
    (by rw [nn _ s1, nn _ n1, s2, n2]; show ¬ _ > ((arrV _ N1 (fun j => va_rf (g j))).slots.size : Int); rw [arrV_size]; omega)
    (fun vm₁ hal i hi => by
      rw [n2] at hi
      obtain ⟨y, ci, V, rv, y1, y2, y3⟩ := hel i hi
      have e : (vp_cell (E.2.2 5) (N0, .inr (.inr (.inr (.inr f))))).slots.getD ((zI (0 : Nat)).toNatClampNeg + i) .null = .ref y := by
        rw [s2]
        show (arrV _ N0 (fun j => va_rf (f j))).slots.getD _ _ = _
        rw [Array.getD_eq_getD_getElem?, arrV_read _ _ (by omega), Nat.zero_add, y1]
        rfl
      rw [e]
      obtain ⟨r', hc, -⟩ := id (hP rv _ _ y2)
      obtain ⟨C0, T0, M0⟩ := r'
      obtain ⟨cellV, g1, g2, g3⟩ := k_recvO hc C (hP rv _ _ y2)
      obtain ⟨kA, comp, r1', r2', r3', -⟩ := hK.2
      cases hk1.symm.trans r1'
      cases hkk1.symm.trans r2'
      obtain ⟨kC, hkC, -⟩ := Vm.findClass_spec g3
      obtain ⟨kE, hkE, -⟩ := Vm.findClass_spec r3'
      obtain ⟨kC', hkC', -⟩ := hal.2.2 _ _ hkC
      obtain ⟨kE', hkE', -⟩ := hal.2.2 _ _ hkE
      refine ⟨rfl, cellV, (show T.heap[y]? = some cellV by rw [hT]; exact g1), (fun q h => by rw [h] at g2; cases g2), ⟨kC', hkC'⟩, ?_, ?_⟩
      · exact ⟨kE', hkE'⟩
      · show vm₁.assignable _ _ = true
        rw [hal.assignable]
        exact k_asgF hX.1 y3 hc g3 r3')
    (g := F0 m pc ls (.int (zI (cn : Nat)) :: .int (zI (0 : Nat)) :: .ref a :: .int (zI (0 : Nat)) :: .ref a0 :: st)) rfl (by show ls.size = _; rw [hL.1]; exact C.2.2.2.2.1.symm) (rest := st) rfl (by rw [C.2.1]; exact d) hR.1 (by show 2 * 0 + _ + _ ≤ _; omega)
  have e1 : copied (vp_cell (E.2.2 5) (N0, .inr (.inr (.inr (.inr f))))) (vp_cell (E.2.2 5) (N1, .inr (.inr (.inr (.inr g))))) (zI (0 : Nat)) (zI (0 : Nat)) (zI (cn : Nat)) = vp_cell (E.2.2 5) (N1, .inr (.inr (.inr (.inr (va_cpy f g 0 0 cn))))) := by
    have := va_copied (fun z => va_rf z) (E.2.2 5) (E.2.2 5) f g (n1 := N1) (sp := 0) (dp := 0) (n := cn) (n0 := N0) (by omega)
    show Cell.storeRun _ _ _ = _
    rw [s2, n2]
    exact this
  rw [e1] at X' step
  have hl : a < H.size := (Array.getElem?_eq_some_iff.mp hc1).1
  have hheap : ((T.setVm vm').setCell a (vp_cell (E.2.2 5) (N1, .inr (.inr (.inr (.inr (va_cpy f g 0 0 cn))))))).heap = H.setIfInBounds a (vp_cell (E.2.2 5) (N1, .inr (.inr (.inr (.inr (va_cpy f g 0 0 cn)))))) := by rw [← hT]; rfl
  have oq : ∀ q : Nat, q ≠ a → (H.setIfInBounds a (vp_cell (E.2.2 5) (N1, .inr (.inr (.inr (.inr (va_cpy f g 0 0 cn)))))))[q]? = H[q]? := fun q hq => by simp [Array.getElem?_setIfInBounds, Ne.symm hq]
  obtain ⟨t, a1, b1⟩ := kk p e s m args below meth c A _ _ ls C hX hA hk hn (by rw [hσ]; exact j_Pset hP hD hr1 (show (H.setIfInBounds a _)[a]? = some _ by simp [Array.getElem?_setIfInBounds, hl]) oq) (by rw [hσ]; exact j_Dset hD hr1) ⟨by simp; exact hS.1, fun q g1 g2 => by
      rw [oq q (fun e => g2 (by rw [e]; exact hD.2 r1 _ _ hr1))]
      exact hS.2.1 q g1 g2, fun q hq => by
      rcases List.mem_append.mp hq with h | h
      · exact hS.2.2 q h
      · obtain ⟨z, -, hz⟩ := List.mem_map.mp h
        rw [← hz]
        exact hD.2 r1 _ _ hr1⟩ hL _ hheap X'
  exact ⟨t, step t a1, b1⟩
end JAQ
/-- the frames read become the sheet's -/
def cFs (σ : cS) (m : Nat) (ad : Nat → Nat) (G : Nat → Nat → Int) : cS := (σ.i, σ.a, σ.h, σ.ro, σ.tx, fun j => if j < m then some (ad j, G j, frC0) else σ.fr j, σ.rf, σ.kp, σ.ru, σ.rd, fun _ => none)
theorem wC_Fs {E : jEnv} {α : Nat → Nat} {σ : cS} {m : Nat} {ad : Nat → Nat} {G : Nat → Nat → Int} (hm : m ≤ 8) (h : ∀ f, f < m → σ.rf f = some (ad f) ∧ σ.d (10 + f) = some (ad f, fC (G f) frC0)) : ∀ q x, wC E α (cFs σ m ad G) q = some x → j_up (wC E α σ) 10 (some (α 10, jRf E 5 8 (va_cpy σ.rf (fun j => (σ.fr j).map (fun x => x.1)) 0 0 m))) (if 120 ≤ q ∧ q < 120 + m then q + 90 else q) = some x ∧ q < 200 := by
  intro q x hx
  have hq : q < 200 := by
    by_cases z : q < 200
    · exact z
    · obtain ⟨k, rfl⟩ : ∃ k, q = 200 + k := ⟨q - 200, by omega⟩
      rw [wC_d] at hx
      cases hx
  refine ⟨?_, hq⟩
  by_cases y : 120 ≤ q ∧ q < 120 + m
  · rw [if_pos y]
    have e : wC E α (cFs σ m ad G) q = some (ad (q - 120), fC (G (q - 120)) frC0) := by
      unfold wC
      have e1 : (cFs σ m ad G).fr (q - 120) = some (ad (q - 120), G (q - 120), frC0) := if_pos (by omega)
      rw [if_neg (by omega), if_neg (by omega), if_neg (by omega), if_neg (by omega), if_neg (by omega), if_neg (by omega), if_neg (by omega), if_pos (by omega), e1]
      rfl
    rw [e] at hx
    simp only [j_up, if_neg (show ¬ q + 90 = 10 by omega)]
    rw [show q + 90 = 200 + (10 + (q - 120)) by omega, wC_d, (h (q - 120) (by omega)).2]
    exact hx
  · rw [if_neg y]
    by_cases z : q = 10
    · subst z
      rw [← hx]
      show some (α 10, jRf E 5 8 (va_cpy σ.rf (fun j => (σ.fr j).map (fun x => x.1)) 0 0 m)) = some (α 10, jRf E 5 8 (fun j => ((cFs σ m ad G).fr j).map (fun x => x.1)))
      have e : (fun j => ((cFs σ m ad G).fr j).map (fun x => x.1)) = va_cpy σ.rf (fun j => (σ.fr j).map (fun x => x.1)) 0 0 m := by
        funext j
        unfold va_cpy
        by_cases w : j < m
        · have e1 : (cFs σ m ad G).fr j = some (ad j, G j, frC0) := if_pos w
          rw [e1, if_pos (by omega), Nat.zero_add, Nat.sub_zero, (h j w).1]
          rfl
        · have e1 : (cFs σ m ad G).fr j = σ.fr j := if_neg w
          rw [e1, if_neg (by omega)]
      rw [e]
    · simp only [j_up, if_neg z]
      rw [← hx]
      unfold wC
      by_cases q0 : q = 0
      · rw [if_pos q0, if_pos q0]; rfl
      · rw [if_neg q0, if_neg q0]
        have eA : cA E (cFs σ m ad G) (q - 1) = cA E σ (q - 1) := by
          unfold cA
          simp only [if_neg (show ¬ q - 1 = 9 by omega)]
          rfl
        rw [eA]
        by_cases w1 : q < 120
        · simp only [if_pos w1]; rfl
        · by_cases w2 : q < 128
          · have e1 : (cFs σ m ad G).fr (q - 120) = σ.fr (q - 120) := if_neg (by omega)
            simp only [if_neg w1, if_pos w2, e1]
            rfl
          · simp only [if_neg w1, if_neg w2, if_pos hq]
            rfl
section CFS
variable {E : jEnv} {α : Nat → Nat} {o : Option MethodName} {cc : ByteArray} {mL : Nat} {ret : Option FieldType} {R : Room} {k n pc : Nat} {L : List (Option Value)} {st : List Value} {σ : cS} {Q : Option Value → cS → Prop}
theorem CA_copyF {z : Int} {m : Nat} {ad : Nat → Nat} {G : Nat → Nat → Int} (hm : m ≤ 8) (hz : z = m) (hG : ∀ f, f < m → 0 ≤ G f 0 ∧ G f 0 ≤ 3) (h : ∀ f, f < m → σ.rf f = some (ad f) ∧ σ.d (10 + f) = some (ad f, fC (G f) frC0)) (hR : 1 ≤ R.frames ∧ 8 + (nativeFrameWords "java/lang/System" "arraycopy" 5 + 11) ≤ R.locals) (hst : (st.map fun v => v.category).sum ≤ 8) (d : decode cc pc = .ok (.invokestatic 103, 3)) (kk : J E (wC E α) (cX E, o) cc mL ret RX0 R k n (pc + 3) L (st) (cFs σ m ad G) Q) : J E (wC E α) (cX E, o) cc mL ret RX0 R k n (pc) L (.int (zI z) :: .int (zI 0) :: .ref (α 10) :: .int (zI 0) :: .ref (α 20) :: st) σ Q := by
  subst hz
  refine J_toId (J_acopyQ (σ' := j_up (wC E α σ) 10 (some (α 10, jRf E 5 8 (va_cpy σ.rf (fun j => (σ.fr j).map (fun x => x.1)) 0 0 m)))) (N0 := 8) (N1 := 8) (f := σ.rf) (g := fun j => (σ.fr j).map (fun x => x.1)) 20 10 rfl rfl (fun i hi => ⟨ad i, 2 + (G i 0).toNat, fV (G i) frC0, 200 + (10 + i), (h i hi).1, (wC_d (10 + i)).trans (h i hi).2, by have := hG i hi; omega, by have := hG i hi; omega⟩) hm hm (by decide) q444 q446 q445 q116 hR hst rfl d ?_)
  refine J_map _ (fun q => if 120 ≤ q ∧ q < 120 + m then q + 90 else q) (fun q x hq => (wC_Fs hm h q x hq).1) (fun r1 r2 x1 x2 e1 e2 e => ?_) kk
  have b1 := (wC_Fs hm h r1 x1 e1).2
  have b2 := (wC_Fs hm h r2 x2 e2).2
  have e' : (if 120 ≤ r1 ∧ r1 < 120 + m then r1 + 90 else r1) = (if 120 ≤ r2 ∧ r2 < 120 + m then r2 + 90 else r2) := e
  by_cases z1 : 120 ≤ r1 ∧ r1 < 120 + m
  · by_cases z2 : 120 ≤ r2 ∧ r2 < 120 + m
    · rw [if_pos z1, if_pos z2] at e'; omega
    · rw [if_pos z1, if_neg z2] at e'; omega
  · by_cases z2 : 120 ≤ r2 ∧ r2 < 120 + m
    · rw [if_neg z1, if_pos z2] at e'; omega
    · rw [if_neg z1, if_neg z2] at e'; exact e'
theorem CA_kpN_ {z : Int} {r : Nat} (hr : r < 3) (h : z = r) (d : decode cc pc = .ok (.aastore, 1)) (kk : J E (wC E α) (cX E, o) cc mL ret RX0 R k n (pc + 1) L (st) (cKp σ r none) Q) : J E (wC E α) (cX E, o) cc mL ret RX0 R k n (pc) L (.null :: .int (zI z) :: .ref (α 33) :: st) σ Q := by
  obtain ⟨h1, h2⟩ := zI_in (N := 3) h hr (by decide)
  refine J_toId (J_aastN (N := 3) (f := fun j => (σ.kp j).map (fun x => x.1.1)) (t0 := 6) (C := "FrameSheets$Kept") 33 rfl rfl h1 rfl d ?_)
  rw [h2]
  refine J_map _ (fun q => q) (fun q x hx => ?_) (fun r1 r2 x1 x2 _ _ e => e) kk
  by_cases z : q = 33
  · subst z
    rw [← hx]
    show some (α 33, jRf E 6 3 (va_up (fun j => (σ.kp j).map (fun x => x.1.1)) r none)) = some (α 33, jRf E 6 3 (fun j => ((cKp σ r none).kp j).map (fun x => x.1.1)))
    have e : (fun j => ((cKp σ r none).kp j).map (fun x => x.1.1)) = va_up (fun j => (σ.kp j).map (fun x => x.1.1)) r none := by
      funext j
      by_cases w : j = r
      · subst w
        have e1 : (cKp σ j none).kp j = none := if_pos rfl
        rw [va_up_s, e1]
        rfl
      · have e1 : (cKp σ r none).kp j = σ.kp j := if_neg w
        rw [va_up_n w, e1]
    rw [e]
  · simp only [j_up, if_neg z]
    have kz : ∀ j, (cKp σ r none).kp j = none ∨ (cKp σ r none).kp j = σ.kp j := fun j => by
      by_cases w : j = r
      · exact Or.inl (if_pos w)
      · exact Or.inr (if_neg w)
    unfold wC at hx ⊢
    by_cases q0 : q = 0
    · rw [if_pos q0] at hx ⊢; exact hx
    · rw [if_neg q0] at hx ⊢
      have eA : cA E (cKp σ r none) (q - 1) = cA E σ (q - 1) := by
        unfold cA
        simp only [if_neg (show ¬ q - 1 = 32 by omega)]
        rfl
      rw [eA] at hx
      by_cases w1 : q < 140
      · simp only [if_pos w1] at hx ⊢; exact hx
      · simp only [if_neg w1, if_neg (show ¬ q < 128 by omega), if_neg (show ¬ q < 39 by omega), if_neg (show ¬ q < 100 by omega), if_neg (show ¬ q < 106 by omega), if_neg (show ¬ q < 110 by omega), if_neg (show ¬ q < 114 by omega), if_neg (show ¬ q < 120 by omega)] at hx ⊢
        by_cases w2 : q < 143
        · simp only [if_pos w2] at hx ⊢
          rcases kz (q - 140) with e | e
          · rw [e] at hx; cases hx
          · rw [e] at hx; exact hx
        · by_cases w3 : q < 146
          · simp only [if_neg w2, if_pos w3] at hx ⊢
            rcases kz (q - 143) with e | e
            · rw [e] at hx; cases hx
            · rw [e] at hx; exact hx
          · by_cases w4 : q < 149
            · simp only [if_neg w2, if_neg w3, if_pos w4] at hx ⊢
              rcases kz (q - 146) with e | e
              · rw [e] at hx; cases hx
              · rw [e] at hx; exact hx
            · simp only [if_neg w2, if_neg w3, if_neg w4] at hx ⊢
              exact hx
end CFS
/-- what a new sheet changes -/
def cG (σ σ' : cS) : Prop := (∀ k, k ∉ [5, 6, 7, 8, 30, 12, 13, 14, 15, 16, 17, 18] → σ'.i k = σ.i k) ∧ σ'.a = σ.a ∧ σ'.h = σ.h ∧ σ'.ro = σ.ro ∧ σ'.tx = σ.tx ∧ ∀ j, σ'.d j = none
theorem mRead_nz {b : Nat → Int} {n : Nat} {s : pS} (h : mRead b n = .ok s) : s.2.2.2.2.1 ≠ 0 := by
  unfold mRead at h
  split at h
  · cases h
  · split at h
    · cases h
    · rename_i z
      cases h
      exact z
theorem c_sheet_bad {E : jEnv} {α : Nat → Nat} {σ : cS} {Q : Option Value → cS → Prop} {v : Int} (rv : zR v) (hv : ¬ (0 ≤ v ∧ v ≤ 3)) (hq : Q (some (.int (zI (-1)))) σ) : jX0_sheet E α 0 [some (.ref (α 0)), some (.int (zI (v))), none] [] σ Q := by
  refine J_iload_n dX0_sheet_0 rfl ?_
  refine CC_X0_isText (by decide) (by decide) (Nat.le_of_ble_eq_true rfl) dX0_sheet_1 ?_
  refine c_isText (by unfold zR at *; omega) (fun b1 => ?_) (fun b1 => ?_)
  · exfalso; omega
  · refine J_ri ?_
    refine J_if_ne_n (tgt := 9) dX0_sheet_4 (by decide) (by decide) ?_
    refine J_iconst (zI (-1)) dX0_sheet_7 rfl ?_
    exact J_iret rfl dX0_sheet_8 (by exact hq)
theorem c_sheet_no {E : jEnv} {α : Nat → Nat} {σ : cS} {Q : Option Value → cS → Prop} {rs : Nat → Int} {rd : Nat → Nat → Int32} {ts : Nat → Int} {tb : Nat → Nat → Int} {r : Nat} (hDt : cDt rs rd ts tb σ) (hr : r < 4) (h0 : ts r = -1) (hq : Q (some (.int (zI (-3)))) (cAr (cI σ 0 (zI 1)) 1 (upd (σ.a 1) 1 (σ.a 1 1 + zI 1)))) : jX0_sheet E α 0 [some (.ref (α 0)), some (.int (zI (r : Nat))), none] [] σ Q := by
  have hn : σ.tx r = none := by
    rcases hDt.2 r hr with z | ⟨a, N, g, z2, z3, z4⟩
    · exact z.2
    · omega
  refine J_iload_n dX0_sheet_0 rfl ?_
  refine CC_X0_isText (by decide) (by decide) (Nat.le_of_ble_eq_true rfl) dX0_sheet_1 ?_
  refine c_isText (by unfold zR at *; omega) (fun b1 => ?_) (fun b1 => ?_)
  · refine J_ri ?_
    refine J_if_ne_y (tgt := 9) dX0_sheet_4 (by decide) (by decide) ?_
    refine J_aload_n dX0_sheet_9 rfl ?_
    refine CG_texts dX0_sheet_10 ?_
    refine J_iload_n dX0_sheet_13 rfl ?_
    refine CA_txN hn (by omega) (by omega) dX0_sheet_14 ?_
    refine J_ifnonnullN dX0_sheet_15 ?_
    refine J_aload_n dX0_sheet_18 rfl ?_
    refine J_iconst (zI 1) dX0_sheet_19 rfl ?_
    refine CC_X0_found (by decide) (by decide) (Nat.le_of_ble_eq_true rfl) dX0_sheet_20 ?_
    refine c_found (m := _) (by decide) ?_
    refine J_ri ?_
    exact J_iret rfl dX0_sheet_23 (by exact hq)
  · exfalso; omega
theorem cl_sheet117 {E : jEnv} {α : Nat → Nat} {Q : Option Value → cS → Prop} {m ks ns : Nat} {σ2 : cS}  (hM : σ2.i 5 = zI (m : Nat)) (hq : Q (some (.int (zI (m : Nat)))) (cKp (cKp (cKp σ2 0 none) 1 none) 2 none))  : J E (wC E α) (cX E, none) cX0_sheet 3 (some .int) RX0 (jR 13 501 31000) (ks) (ns) 117 [some (.ref (α 0)), none, none] [] σ2 Q := by
  refine J_iconst (zI 0) dX0_sheet_117 rfl ?_
  refine J_istore_n dX0_sheet_118 rfl (by decide) _ rfl ?_
  refine J_iload_n dX0_sheet_119 rfl ?_
  refine J_iconst (zI 3) dX0_sheet_120 rfl ?_
  refine J_icmp_ge_n (tgt := 137) dX0_sheet_121 (by decide) (by decide) ?_
  refine J_aload_n dX0_sheet_124 rfl ?_
  refine CG_kept dX0_sheet_125 ?_
  refine J_iload_n dX0_sheet_128 rfl ?_
  refine J_null dX0_sheet_129 ?_
  first | refine CA_kpN_ (r := 0) (by decide) rfl dX0_sheet_130 ?_ | refine CA_kpN_ (r := 1) (by decide) rfl dX0_sheet_130 ?_ | refine CA_kpN_ (r := 2) (by decide) rfl dX0_sheet_130 ?_
  refine J_iinc_z (1) (by omega) dX0_sheet_131 rfl rfl (by decide) _ rfl ?_
  refine J_goto (tgt := 119) dX0_sheet_134 (by decide) ?_
  refine J_iload_n dX0_sheet_119 rfl ?_
  refine J_iconst (zI 3) dX0_sheet_120 rfl ?_
  refine J_icmp_ge_n (tgt := 137) dX0_sheet_121 (by decide) (by decide) ?_
  refine J_aload_n dX0_sheet_124 rfl ?_
  refine CG_kept dX0_sheet_125 ?_
  refine J_iload_n dX0_sheet_128 rfl ?_
  refine J_null dX0_sheet_129 ?_
  first | refine CA_kpN_ (r := 0) (by decide) rfl dX0_sheet_130 ?_ | refine CA_kpN_ (r := 1) (by decide) rfl dX0_sheet_130 ?_ | refine CA_kpN_ (r := 2) (by decide) rfl dX0_sheet_130 ?_
  refine J_iinc_z (2) (by omega) dX0_sheet_131 rfl rfl (by decide) _ rfl ?_
  refine J_goto (tgt := 119) dX0_sheet_134 (by decide) ?_
  refine J_iload_n dX0_sheet_119 rfl ?_
  refine J_iconst (zI 3) dX0_sheet_120 rfl ?_
  refine J_icmp_ge_n (tgt := 137) dX0_sheet_121 (by decide) (by decide) ?_
  refine J_aload_n dX0_sheet_124 rfl ?_
  refine CG_kept dX0_sheet_125 ?_
  refine J_iload_n dX0_sheet_128 rfl ?_
  refine J_null dX0_sheet_129 ?_
  first | refine CA_kpN_ (r := 0) (by decide) rfl dX0_sheet_130 ?_ | refine CA_kpN_ (r := 1) (by decide) rfl dX0_sheet_130 ?_ | refine CA_kpN_ (r := 2) (by decide) rfl dX0_sheet_130 ?_
  refine J_iinc_z (3) (by omega) dX0_sheet_131 rfl rfl (by decide) _ rfl ?_
  refine J_goto (tgt := 119) dX0_sheet_134 (by decide) ?_
  refine J_iload_n dX0_sheet_119 rfl ?_
  refine J_iconst (zI 3) dX0_sheet_120 rfl ?_
  refine J_icmp_ge_y (tgt := 137) dX0_sheet_121 (by decide) (by decide) ?_
  refine J_aload_n dX0_sheet_137 rfl ?_
  refine CG_many dX0_sheet_138 ?_
  refine J_top (zI (m)) hM ?_
  exact J_iret rfl dX0_sheet_141 (by exact hq)
theorem cl_sheet87 {E : jEnv} {α : Nat → Nat} {Q : Option Value → cS → Prop} {m : Nat} {ad : Nat → Nat} {G : Nat → Nat → Int} {σ2 : cS}  (hM : σ2.i 5 = zI (m : Nat)) (hm : m ≤ 8) (hG : ∀ f, f < m → 0 ≤ G f 0 ∧ G f 0 ≤ 3) (hP : ∀ f, f < m → σ2.rf f = some (ad f) ∧ σ2.d (10 + f) = some (ad f, fC (G f) frC0)) (hq : ∀ v, Q (some (.int (zI (m : Nat)))) (cKp (cKp (cKp (cI (cRu (cFs σ2 m ad G) (v, 0)) 30 (zI 0)) 0 none) 1 none) 2 none))  : J E (wC E α) (cX E, none) cX0_sheet 3 (some .int) RX0 (jR 13 501 31000) (0 + 400) (0 + 30000) 87 [some (.ref (α 0)), none, none] [] σ2 Q := by
  refine J_aload_n dX0_sheet_87 rfl ?_
  refine CG_readFrames dX0_sheet_88 ?_
  refine J_iconst (zI 0) dX0_sheet_91 rfl ?_
  refine J_aload_n dX0_sheet_92 rfl ?_
  refine CG_frames dX0_sheet_93 ?_
  refine J_iconst (zI 0) dX0_sheet_96 rfl ?_
  refine J_aload_n dX0_sheet_97 rfl ?_
  refine CG_many dX0_sheet_98 ?_
  refine J_top (zI (m)) hM ?_
  refine CA_copyF (m := m) (ad := ad) (G := G) hm rfl hG hP ⟨Nat.le_of_ble_eq_true rfl, Nat.le_of_ble_eq_true rfl⟩ (Nat.le_of_ble_eq_true rfl) dX0_sheet_101 ?_
  refine J_aload_n dX0_sheet_104 rfl ?_
  refine J_iconst (zI 0) dX0_sheet_105 rfl ?_
  refine CC_X0_newRule (by decide) (by decide) (Nat.le_of_ble_eq_true rfl) dX0_sheet_106 ?_
  refine c_newRule (ru := 0) (by omega) (fun a9 => ?_)
  refine J_ra ?_
  refine CP_rule (ru := 0) rfl dX0_sheet_109 ?_
  refine J_w (cRu_new rfl) ?_
  refine J_aload_n dX0_sheet_112 rfl ?_
  refine J_iconst (zI 0) dX0_sheet_113 rfl ?_
  refine CP_deedMany dX0_sheet_114 ?_
  exact cl_sheet117 (m := m) hM (hq a9)
theorem pKp_i {σ : cS} {k : Nat} {x : Option ((Nat × Nat × Nat) × Int32 × (Nat → Int32) × (Nat → Int32))} : (cKp σ k x).i = σ.i := rfl
theorem pKp_a {σ : cS} {k : Nat} {x : Option ((Nat × Nat × Nat) × Int32 × (Nat → Int32) × (Nat → Int32))} : (cKp σ k x).a = σ.a := rfl
theorem pKp_h {σ : cS} {k : Nat} {x : Option ((Nat × Nat × Nat) × Int32 × (Nat → Int32) × (Nat → Int32))} : (cKp σ k x).h = σ.h := rfl
theorem pKp_ro {σ : cS} {k : Nat} {x : Option ((Nat × Nat × Nat) × Int32 × (Nat → Int32) × (Nat → Int32))} : (cKp σ k x).ro = σ.ro := rfl
theorem pKp_tx {σ : cS} {k : Nat} {x : Option ((Nat × Nat × Nat) × Int32 × (Nat → Int32) × (Nat → Int32))} : (cKp σ k x).tx = σ.tx := rfl
theorem pKp_fr {σ : cS} {k : Nat} {x : Option ((Nat × Nat × Nat) × Int32 × (Nat → Int32) × (Nat → Int32))} : (cKp σ k x).fr = σ.fr := rfl
theorem pKp_rf {σ : cS} {k : Nat} {x : Option ((Nat × Nat × Nat) × Int32 × (Nat → Int32) × (Nat → Int32))} : (cKp σ k x).rf = σ.rf := rfl
theorem pKp_kp {σ : cS} {k : Nat} {x : Option ((Nat × Nat × Nat) × Int32 × (Nat → Int32) × (Nat → Int32))} : (cKp σ k x).kp = fun j => if j = k then x else σ.kp j := rfl
theorem pKp_ru {σ : cS} {k : Nat} {x : Option ((Nat × Nat × Nat) × Int32 × (Nat → Int32) × (Nat → Int32))} : (cKp σ k x).ru = σ.ru := rfl
theorem pKp_rd {σ : cS} {k : Nat} {x : Option ((Nat × Nat × Nat) × Int32 × (Nat → Int32) × (Nat → Int32))} : (cKp σ k x).rd = σ.rd := rfl
theorem pKp_d {σ : cS} {k : Nat} {x : Option ((Nat × Nat × Nat) × Int32 × (Nat → Int32) × (Nat → Int32))} : (cKp σ k x).d = σ.d := rfl
theorem pI_i {σ : cS} {k : Nat} {v : Int32} : (cI σ k v).i = fun j => if j = k then v else σ.i j := rfl
theorem pI_a {σ : cS} {k : Nat} {v : Int32} : (cI σ k v).a = σ.a := rfl
theorem pI_h {σ : cS} {k : Nat} {v : Int32} : (cI σ k v).h = σ.h := rfl
theorem pI_ro {σ : cS} {k : Nat} {v : Int32} : (cI σ k v).ro = σ.ro := rfl
theorem pI_tx {σ : cS} {k : Nat} {v : Int32} : (cI σ k v).tx = σ.tx := rfl
theorem pI_fr {σ : cS} {k : Nat} {v : Int32} : (cI σ k v).fr = σ.fr := rfl
theorem pI_rf {σ : cS} {k : Nat} {v : Int32} : (cI σ k v).rf = σ.rf := rfl
theorem pI_kp {σ : cS} {k : Nat} {v : Int32} : (cI σ k v).kp = σ.kp := rfl
theorem pI_ru {σ : cS} {k : Nat} {v : Int32} : (cI σ k v).ru = σ.ru := rfl
theorem pI_rd {σ : cS} {k : Nat} {v : Int32} : (cI σ k v).rd = σ.rd := rfl
theorem pI_d {σ : cS} {k : Nat} {v : Int32} : (cI σ k v).d = σ.d := rfl
theorem pRu_i {σ : cS} {x : Nat × Nat} : (cRu σ x).i = σ.i := rfl
theorem pRu_a {σ : cS} {x : Nat × Nat} : (cRu σ x).a = σ.a := rfl
theorem pRu_h {σ : cS} {x : Nat × Nat} : (cRu σ x).h = σ.h := rfl
theorem pRu_ro {σ : cS} {x : Nat × Nat} : (cRu σ x).ro = σ.ro := rfl
theorem pRu_tx {σ : cS} {x : Nat × Nat} : (cRu σ x).tx = σ.tx := rfl
theorem pRu_fr {σ : cS} {x : Nat × Nat} : (cRu σ x).fr = σ.fr := rfl
theorem pRu_rf {σ : cS} {x : Nat × Nat} : (cRu σ x).rf = σ.rf := rfl
theorem pRu_kp {σ : cS} {x : Nat × Nat} : (cRu σ x).kp = σ.kp := rfl
theorem pRu_ru {σ : cS} {x : Nat × Nat} : (cRu σ x).ru = x := rfl
theorem pRu_rd {σ : cS} {x : Nat × Nat} : (cRu σ x).rd = σ.rd := rfl
theorem pRu_d {σ : cS} {x : Nat × Nat} : (cRu σ x).d = σ.d := rfl
theorem pFs_i {σ : cS} {m : Nat} {ad : Nat → Nat} {G : Nat → Nat → Int} : (cFs σ m ad G).i = σ.i := rfl
theorem pFs_a {σ : cS} {m : Nat} {ad : Nat → Nat} {G : Nat → Nat → Int} : (cFs σ m ad G).a = σ.a := rfl
theorem pFs_h {σ : cS} {m : Nat} {ad : Nat → Nat} {G : Nat → Nat → Int} : (cFs σ m ad G).h = σ.h := rfl
theorem pFs_ro {σ : cS} {m : Nat} {ad : Nat → Nat} {G : Nat → Nat → Int} : (cFs σ m ad G).ro = σ.ro := rfl
theorem pFs_tx {σ : cS} {m : Nat} {ad : Nat → Nat} {G : Nat → Nat → Int} : (cFs σ m ad G).tx = σ.tx := rfl
theorem pFs_fr {σ : cS} {m : Nat} {ad : Nat → Nat} {G : Nat → Nat → Int} : (cFs σ m ad G).fr = fun j => if j < m then some (ad j, G j, frC0) else σ.fr j := rfl
theorem pFs_rf {σ : cS} {m : Nat} {ad : Nat → Nat} {G : Nat → Nat → Int} : (cFs σ m ad G).rf = σ.rf := rfl
theorem pFs_kp {σ : cS} {m : Nat} {ad : Nat → Nat} {G : Nat → Nat → Int} : (cFs σ m ad G).kp = σ.kp := rfl
theorem pFs_ru {σ : cS} {m : Nat} {ad : Nat → Nat} {G : Nat → Nat → Int} : (cFs σ m ad G).ru = σ.ru := rfl
theorem pFs_rd {σ : cS} {m : Nat} {ad : Nat → Nat} {G : Nat → Nat → Int} : (cFs σ m ad G).rd = σ.rd := rfl
theorem pFs_d {σ : cS} {m : Nat} {ad : Nat → Nat} {G : Nat → Nat → Int} : (cFs σ m ad G).d = fun _ => none := rfl
theorem sheet_fin {m ad0 v : Nat} {wd hg bl : Int} {ad : Nat → Nat} {G : Nat → Nat → Int} {σ σ1 : cS} (w1 : cW [12, 13, 14, 15, 16, 17, 18] (cRd σ (some ad0)) σ1) : cG σ (cKp (cKp (cKp (cI (cRu (cFs (cI (cI (cI (cI σ1 5 (zI (m : Nat))) 6 (zI wd)) 7 (zI hg)) 8 (zI (if bl < 0 then 0 else bl))) m ad G) (v, 0)) 30 (zI 0)) 0 none) 1 none) 2 none) ∧ cSh m wd hg (if bl < 0 then 0 else bl) G ad (fun _ => frC0) (cKp (cKp (cKp (cI (cRu (cFs (cI (cI (cI (cI σ1 5 (zI (m : Nat))) 6 (zI wd)) 7 (zI hg)) 8 (zI (if bl < 0 then 0 else bl))) m ad G) (v, 0)) 30 (zI 0)) 0 none) 1 none) 2 none) ∧ cRl 0 (cKp (cKp (cKp (cI (cRu (cFs (cI (cI (cI (cI σ1 5 (zI (m : Nat))) 6 (zI wd)) 7 (zI hg)) 8 (zI (if bl < 0 then 0 else bl))) m ad G) (v, 0)) 30 (zI 0)) 0 none) 1 none) 2 none) ∧ ((cKp (cKp (cKp (cI (cRu (cFs (cI (cI (cI (cI σ1 5 (zI (m : Nat))) 6 (zI wd)) 7 (zI hg)) 8 (zI (if bl < 0 then 0 else bl))) m ad G) (v, 0)) 30 (zI 0)) 0 none) 1 none) 2 none)).i 30 = zI 0 ∧ ∀ k, k < 3 → ((cKp (cKp (cKp (cI (cRu (cFs (cI (cI (cI (cI σ1 5 (zI (m : Nat))) 6 (zI wd)) 7 (zI hg)) 8 (zI (if bl < 0 then 0 else bl))) m ad G) (v, 0)) 30 (zI 0)) 0 none) 1 none) 2 none)).kp k = none := by
  obtain ⟨e1, e2, e3, e4, e5, -⟩ := w1
  unfold cG cSh cRl
  simp only [pKp_i, pKp_a, pKp_h, pKp_ro, pKp_tx, pKp_fr, pKp_rf, pKp_kp, pKp_ru, pKp_rd, pKp_d, pI_i, pI_a, pI_h, pI_ro, pI_tx, pI_fr, pI_rf, pI_kp, pI_ru, pI_rd, pI_d, pRu_i, pRu_a, pRu_h, pRu_ro, pRu_tx, pRu_fr, pRu_rf, pRu_kp, pRu_ru, pRu_rd, pRu_d, pFs_i, pFs_a, pFs_h, pFs_ro, pFs_tx, pFs_fr, pFs_rf, pFs_kp, pFs_ru, pFs_rd, pFs_d]
  refine ⟨⟨fun k hk => ?_, e2, e3, e4, e5, fun j => trivial⟩, ⟨rfl, rfl, rfl, rfl, fun f hf => if_pos hf⟩, ⟨by decide, rfl⟩, rfl, fun k hk => ?_⟩
  · have hk2 : k ∉ [12, 13, 14, 15, 16, 17, 18] := fun z => hk (by revert z; simp only [List.mem_cons, List.not_mem_nil, or_false]; omega)
    have e : σ1.i k = σ.i k := e1 k hk2
    simp only [List.mem_cons, List.not_mem_nil, or_false, not_or] at hk
    rw [if_neg (by omega), if_neg (by omega), if_neg (by omega), if_neg (by omega), if_neg (by omega)]
    exact e
  · obtain rfl | rfl | rfl : k = 0 ∨ k = 1 ∨ k = 2 := by omega
    · rfl
    · rfl
    · rfl
theorem cl_sheet42 {E : jEnv} {α : Nat → Nat} {Q : Option Value → cS → Prop} {m : Nat} {wd hg bl : Int} {ad : Nat → Nat} {G : Nat → Nat → Int} {σ1 : cS}  (iM : σ1.i 15 = zI (m : Nat)) (iW : σ1.i 16 = zI wd) (iH : σ1.i 17 = zI hg) (iB : σ1.i 18 = zI (cBl bl)) (hb : -1 ≤ bl ∧ bl ≤ 2) (hm : m ≤ 8) (hG : ∀ f, f < m → 0 ≤ G f 0 ∧ G f 0 ≤ 3) (hP : ∀ f, f < m → σ1.rf f = some (ad f) ∧ σ1.d (10 + f) = some (ad f, fC (G f) frC0)) (hq : ∀ v, Q (some (.int (zI (m : Nat)))) (cKp (cKp (cKp (cI (cRu (cFs (cI (cI (cI (cI σ1 5 (zI (m : Nat))) 6 (zI wd)) 7 (zI hg)) 8 (zI (if bl < 0 then 0 else bl))) m ad G) (v, 0)) 30 (zI 0)) 0 none) 1 none) 2 none))  : J E (wC E α) (cX E, none) cX0_sheet 3 (some .int) RX0 (jR 13 501 31000) (0 + 400) (0 + 30000) 42 [some (.ref (α 0)), none, none] [] σ1 Q := by
  have hbc := cBl_c bl
  refine J_aload_n dX0_sheet_42 rfl ?_
  refine J_aload_n dX0_sheet_43 rfl ?_
  refine CG_readMany dX0_sheet_44 ?_
  refine J_top (zI (m)) iM ?_
  refine CP_many dX0_sheet_47 ?_
  refine J_aload_n dX0_sheet_50 rfl ?_
  refine J_aload_n dX0_sheet_51 rfl ?_
  refine CG_readWide dX0_sheet_52 ?_
  refine J_top (zI (wd)) iW ?_
  refine CP_wide dX0_sheet_55 ?_
  refine J_aload_n dX0_sheet_58 rfl ?_
  refine J_aload_n dX0_sheet_59 rfl ?_
  refine CG_readHigh dX0_sheet_60 ?_
  refine J_top (zI (hg)) iH ?_
  refine CP_high dX0_sheet_63 ?_
  refine J_aload_n dX0_sheet_66 rfl ?_
  refine J_aload_n dX0_sheet_67 rfl ?_
  refine CG_readBleed dX0_sheet_68 ?_
  refine J_top (zI ((cBl bl))) iB ?_
  refine J_bipush (zI (-9)) dX0_sheet_71 rfl ?_
  refine J_icmp_ne_z (tgt := 80) dX0_sheet_73 (by decide) (by unfold zR; omega) (by unfold zR; omega) (fun c73 => ?_) (fun c73 => ?_)
  · skip
    refine J_aload_n dX0_sheet_80 rfl ?_
    refine CG_readBleed dX0_sheet_81 ?_
    refine J_top (zI ((cBl bl))) iB ?_
    refine J_top (zI (if bl < 0 then 0 else bl)) (congrArg zI (by rw [if_neg (by omega)]; omega)) ?_
    refine CP_bleed dX0_sheet_84 ?_
    exact cl_sheet87 (m := m) (ad := ad) (G := G) (σ2 := (cI (cI (cI (cI σ1 5 (zI (m : Nat))) 6 (zI wd)) 7 (zI hg)) 8 (zI (if bl < 0 then 0 else bl)))) rfl hm hG hP hq
  · skip
    refine J_iconst (zI 0) dX0_sheet_76 rfl ?_
    refine J_top (zI (if bl < 0 then 0 else bl)) (congrArg zI (by rw [if_pos (by omega)])) ?_
    refine J_goto (tgt := 84) dX0_sheet_77 (by decide) ?_
    refine CP_bleed dX0_sheet_84 ?_
    exact cl_sheet87 (m := m) (ad := ad) (G := G) (σ2 := (cI (cI (cI (cI σ1 5 (zI (m : Nat))) 6 (zI wd)) 7 (zI hg)) 8 (zI (if bl < 0 then 0 else bl)))) rfl hm hG hP hq
theorem c_sheet {E : jEnv} {α : Nat → Nat} {σ : cS} {Q : Option Value → cS → Prop} {rs : Nat → Int} {rd : Nat → Nat → Int32} {ts : Nat → Int} {tb : Nat → Nat → Int} {r n0 : Nat} (hDt : cDt rs rd ts tb σ) (hDo : dtOK rs ts tb) (hr : r < 4) (h0 : ts r = n0) (hd : ∀ j, σ.d j = none) (q0 : ∀ p, mRead (tb r) n0 = .error p → ∀ σ1, cF σ σ1 → Q (some (.int (zI (-4)))) σ1) (q1 : ∀ s', mRead (tb r) n0 = .ok s' → pOK n0 s' → ∀ σ1 ad, cG σ σ1 → cSh s'.2.2.2.2.1 s'.2.1 s'.2.2.1 (if s'.2.2.2.1 < 0 then 0 else s'.2.2.2.1) s'.2.2.2.2.2 ad (fun _ => frC0) σ1 → cRl 0 σ1 → σ1.i 30 = zI 0 → (∀ k, k < 3 → σ1.kp k = none) → Q (some (.int (zI (s'.2.2.2.2.1 : Nat)))) σ1)  : jX0_sheet E α 0 [some (.ref (α 0)), some (.int (zI (r : Nat))), none] [] σ Q := by
  obtain ⟨a, N, g, hx, hN, hN4, hg⟩ : ∃ a N f, σ.tx r = some (a, N, f) ∧ ts r = (N : Nat) ∧ N ≤ 120 ∧ ∀ i, i < N → f i = zI (tb r i) := by
    rcases hDt.2 r hr with z | z
    · omega
    · exact z
  obtain rfl : N = n0 := by omega
  refine J_iload_n dX0_sheet_0 rfl ?_
  refine CC_X0_isText (by decide) (by decide) (Nat.le_of_ble_eq_true rfl) dX0_sheet_1 ?_
  refine c_isText (by unfold zR at *; omega) (fun b1 => ?_) (fun b1 => ?_)
  · refine J_ri ?_
    refine J_if_ne_y (tgt := 9) dX0_sheet_4 (by decide) (by decide) ?_
    refine J_aload_n dX0_sheet_9 rfl ?_
    refine CG_texts dX0_sheet_10 ?_
    refine J_iload_n dX0_sheet_13 rfl ?_
    refine CA_tx hx (by omega) (by omega) dX0_sheet_14 ?_
    refine J_ifnonnull (tgt := 24) dX0_sheet_15 (by decide) ?_
    refine J_aload_n dX0_sheet_24 rfl ?_
    refine J_aload_n dX0_sheet_25 rfl ?_
    refine CG_texts dX0_sheet_26 ?_
    refine J_iload_n dX0_sheet_29 rfl ?_
    refine CA_tx hx (by omega) (by omega) dX0_sheet_30 ?_
    refine CC_X0_reads (by decide) (by decide) (Nat.le_of_ble_eq_true rfl) dX0_sheet_31 ?_
    refine c_reads hr hN4 (fun i _ => hDo.2.2 r i) hx hg hd  (fun p hm σ1 w1 => ?_) (fun s' hm σ1 ad1 w1 P1 hp => ?_)
    · refine J_ri ?_
      have hpb := mRead_b hm
      refine J_bipush (zI (-9)) dX0_sheet_34 rfl ?_
      refine J_icmp_eq_z (tgt := 42) dX0_sheet_36 (by decide) (by unfold zR; omega) (by unfold zR; omega) (fun c36 => ?_) (fun c36 => ?_)
      · exfalso; omega
      · skip
        refine J_bipush (zI (-4)) dX0_sheet_39 rfl ?_
        refine J_dropA ?_
        exact J_iret rfl dX0_sheet_41 (by exact q0 p hm _ w1.f)
    · refine J_ri ?_
      skip
      refine J_bipush (zI (-9)) dX0_sheet_34 rfl ?_
      refine J_icmp_eq_y (tgt := 42) dX0_sheet_36 (by decide) (by decide) ?_
      refine J_fg (L' := [some (.ref (α 0)), none, none]) (by repeat' constructor) ?_
      refine cl_sheet42 P1.2.2.2.1 P1.1 P1.2.1 P1.2.2.1 ⟨hp.2.2.2.1, hp.2.2.2.2.1⟩ hp.2.1 (fun f hf => ⟨(hp.2.2.2.2.2 f hf).1, (hp.2.2.2.2.2 f hf).2.1⟩) P1.2.2.2.2.1 (fun a9 => ?_)
      obtain ⟨f1, f2, f3, f4, f5⟩ := sheet_fin (m := s'.2.2.2.2.1) (v := a9) (wd := s'.2.1) (hg := s'.2.2.1) (bl := s'.2.2.2.1) (ad := ad1) (G := s'.2.2.2.2.2) w1
      exact q1 s' hm hp _ ad1 f1 f2 f3 f4 f5
  · exfalso; omega
