set_option maxRecDepth 100000
/-! the component: tear, keep, on; a new row, a new text, a new kept one -/
theorem va_up_s {f : Nat → Option Nat} {k : Nat} {v : Option Nat} : va_up f k v k = v := by simp [va_up]
theorem va_up_n {f : Nat → Option Nat} {k j : Nat} {v : Option Nat} (h : j ≠ k) : va_up f k v j = f j := by simp [va_up, h]
section KN
variable {p : Program} {l : Launch} {e : Env} {R : Room} {s : State} {m : MethodId} {args : Array Value} {below : List Frame} {meth : Method} {c : Code} {H : Heap} {locs : List Loc} {cells slots : Nat} {Q : State → Prop} {cc : ByteArray}
theorem k_aastN0 {T : State} (X : Stand p l e R s m args below meth c T locs cells slots) (hexec : p.tables.exec = Jvm.exec) {a : Addr} {cell : Cell} {ty : FieldType} {j : Int32} (hcell : T.heap[a]? = some cell) (harr : s.isArrayOf cell (.array ty)) (hknown : cell.vm ≠ .unknown) (hin : ¬ (j < 0 ∨ cell.slots.size ≤ j.toNatClampNeg))
    {g : JFrame} (hg : g.method = m) {rest : List Value} (hstack : g.stack = .null :: .int j :: .ref a :: rest) (hdg : decode c.code g.pc = .ok (.aastore, 1)) :
    Stand p l e R s m args below meth c (T.setCell a (cell.setSlot j.toNatClampNeg .null)) (locs ++ [⟨a, j.toNatClampNeg⟩]) cells slots ∧ ∀ target, Steps p.tables e below ((T.setCell a (cell.setSlot j.toNatClampNeg .null)).setTop { g with pc := g.pc + 1, stack := rest }) target → Steps p.tables e below (T.setTop g) target := by
  have hT := State.isArrayOf_alike X.warmed.alike harr
  have hfit : T.fitsSlot cell.cls cell.vm j.toNatClampNeg .null = true := by
    obtain ⟨hobj, k, hk, comp, hkind⟩ := hT
    cases hvm : cell.vm <;> first | exact absurd hvm (hobj _) | simp [State.fitsSlot, State.slotType?, hk, hkind, fits]
  refine ⟨X.stored hcell _ _, fun target hrest => ?_⟩
  subst hg
  jvm_step X.here [hexec, hdg]
  refine aastore.wp_of_null (c := cell) (t := .array ty) X.here.top hstack hcell hT hin hknown (Nat.not_le.mp fun q => hin (Or.inr q)) hfit ?_
  intro acts
  rw [afterInstr_ok]
  exact hrest
theorem k_WaastN (hexec : p.tables.exec = Jvm.exec) (hb : c.code = cc) {a : Addr} {cell : Cell} {ty : FieldType} {j : Int32} (hcell : H[a]? = some cell) (harr : s.isArrayOf cell (.array ty)) (hknown : cell.vm ≠ .unknown) (hin : ¬ (j < 0 ∨ cell.slots.size ≤ j.toNatClampNeg))
    {g : JFrame} (hg : g.method = m) {rest : List Value} (hstack : g.stack = .null :: .int j :: .ref a :: rest) (hdg : decode cc g.pc = .ok (.aastore, 1))
    (kk : ∀ H' : Heap, H'[a]? = some (cell.setSlot j.toNatClampNeg .null) → H'.size = H.size → (∀ q, q ≠ a → H'[q]? = H[q]?) → W p l e R s m args below meth c H' (locs ++ [⟨a, j.toNatClampNeg⟩]) cells slots Q { g with pc := g.pc + 1, stack := rest }) :
    W p l e R s m args below meth c H locs cells slots Q g := by
  intro T hT X
  have hT' : T.heap[a]? = some cell := by rw [hT]; exact hcell
  obtain ⟨X', st⟩ := k_aastN0 X hexec hT' harr hknown hin hg hstack (by rw [hb]; exact hdg)
  have hlt : a < T.heap.size := (Array.getElem?_eq_some_iff.mp hT').1
  obtain ⟨t', a1, b1⟩ := kk _ (heapAt_setCell_self _ hlt) (by rw [size_setCell, hT]) (fun q hq => by rw [heapAt_setCell_ne _ (Ne.symm hq), hT]) (T.setCell a (cell.setSlot j.toNatClampNeg .null)) rfl X'
  exact ⟨t', st t' a1, b1⟩
end KN
theorem J_aastNA {E : jEnv} {St : Type} {w : St → jW} {X : jX} {cc : ByteArray} {mL : Nat} {ret : Option FieldType} {own : String} {R : Room} {k n pc : Nat} {L : List (Option Value)} {st : List Value} {σ : St} {Q : Option Value → St → Prop} {σ' : St} {a N t0 : Nat} {cA : ClassId} {ty : FieldType} {f : Nat → Option Nat} {i : Int32} (r : Nat) (hr : w σ r = some (a, .inl (cA, N, .inr (.inr (.inr (.inr f)))))) (ht : (j_tys E.2.2)[t0]? = some (cA, .array ty)) (hin : vp_in i N) (hσ : w σ' = j_up (w σ) r (some (a, .inl (cA, N, .inr (.inr (.inr (.inr (va_up f i.toNatClampNeg none)))))))) (d : decode cc pc = .ok (.aastore, 1)) (kk : J E w X cc mL ret own R k n (pc + 1) L st σ' Q) : J E w X cc mL ret own R k n pc L (.null :: .int i :: .ref a :: st) σ Q := by
  intro p e s m args below meth c A H locs ls C0 hX hA hk hn hP hD hS hL
  refine k_WaastN (ty := ty) C0.1 C0.2.1 (hP r _ _ hr) ((C0.2.2.2.2.2.2.2.2 t0 _ ht).1 N (fun j => va_rf (f j))) (fun h => by cases h) (by show ¬ (i < 0 ∨ (arrV _ _ _).slots.size ≤ _); rw [arrV_size]; exact hin) rfl rfl d fun H1 e1 z oq => ?_
  refine kk p e s m args below meth c A H1 _ ls C0 hX hA hk hn ?_ (by rw [hσ]; exact j_Dset hD hr) (hS.put z oq (hD.2 r _ _ hr)) hL
  rw [hσ]
  refine j_Pset hP hD hr ?_ oq
  show H1[a]? = some (vp_cell _ _)
  rw [e1]
  rw [vp_cell_q, vp_cell_q, arrV_store]
  congr 2
  funext q
  by_cases hq : q = i.toNatClampNeg
  · subst hq
    simp [updV, va_up, va_rf]
  · simp [updV, va_up, hq]
theorem wC_cRoS {E : jEnv} {α : Nat → Nat} {σ : cS} {r a N : Nat} {f : Nat → Int32} (hr : r < 6) (h : σ.d 0 = some (a, .inl (E.2.2 0, N, .inl f))) : wC E α (cD (cRo σ r (some (a, N, f))) 0 none) = j_mv (j_up (wC E α σ) 4 (some (α 4, jRf E 3 6 (va_up (fun j => (σ.ro j).map (fun x => x.1)) r (some a))))) 200 (100 + r) := by
  funext q
  unfold j_mv
  by_cases z : q = 200
  · subst z; rw [if_pos rfl]; exact wC_d (σ := cD (cRo σ r (some (a, N, f))) 0 none) 0
  · rw [if_neg z]
    by_cases y : q = 100 + r
    · subst y
      rw [if_pos rfl, wC_ro hr]
      have e1 : (cD (cRo σ r (some (a, N, f))) 0 none).ro r = some (a, N, f) := if_pos rfl
      have e2 : j_up (wC E α σ) 4 (some (α 4, jRf E 3 6 (va_up (fun j => (σ.ro j).map (fun x => x.1)) r (some a)))) 200 = σ.d 0 := wC_d (E := E) (α := α) (σ := σ) 0
      rw [e1, e2, h]
      rfl
    · rw [if_neg y]
      by_cases x : q = 4
      · subst x
        show some (α 4, jRf E 3 6 (fun j => ((cD (cRo σ r (some (a, N, f))) 0 none).ro j).map (fun x => x.1))) = some (α 4, jRf E 3 6 (va_up (fun j => (σ.ro j).map (fun x => x.1)) r (some a)))
        have e : (fun j => ((cD (cRo σ r (some (a, N, f))) 0 none).ro j).map (fun x => x.1)) = va_up (fun j => (σ.ro j).map (fun x => x.1)) r (some a) := by
          funext j
          by_cases w : j = r
          · subst w; rw [va_up_s]; have e1 : (cD (cRo σ j (some (a, N, f))) 0 none).ro j = some (a, N, f) := if_pos rfl; rw [e1]; rfl
          · rw [va_up_n w]; have e1 : (cD (cRo σ r (some (a, N, f))) 0 none).ro j = σ.ro j := if_neg w; rw [e1]
        rw [e]
      · simp only [j_up, if_neg x]
        unfold wC
        by_cases v : q < 100
        · have eA : q ≠ 0 → cA E (cD (cRo σ r (some (a, N, f))) 0 none) (q - 1) = cA E σ (q - 1) := by
            intro q0
            unfold cA
            simp only [if_neg (show ¬ q - 1 = 3 by omega)]
            rfl
          by_cases q0 : q = 0
          · rw [if_pos q0, if_pos q0]; rfl
          · rw [if_neg q0, if_neg q0, eA q0]
            simp only [if_pos v]
            try rfl
        · have e1 : (cD (cRo σ r (some (a, N, f))) 0 none).ro (q - 100) = σ.ro (q - 100) := if_neg (by omega)
          rw [e1]
          simp only [if_neg (show ¬ q = 0 by omega), if_neg (show ¬ q < 39 by omega)]
          by_cases w : q < 200
          · simp only [if_pos w]; rfl
          · have e2 : (cD (cRo σ r (some (a, N, f))) 0 none).d (q - 200) = σ.d (q - 200) := if_neg (by omega)
            rw [e2]
            rfl
theorem wC_cRoN {E : jEnv} {α : Nat → Nat} {σ : cS} {r : Nat} (hr : r < 6) : wC E α (cRo σ r none) = fun q => if q = 100 + r then none else j_up (wC E α σ) 4 (some (α 4, jRf E 3 6 (va_up (fun j => (σ.ro j).map (fun x => x.1)) r none))) q := by
  funext q
  by_cases y : q = 100 + r
  · subst y
    rw [if_pos rfl, wC_ro hr]
    have e1 : (cRo σ r none).ro r = none := if_pos rfl
    rw [e1]
    rfl
  · rw [if_neg y]
    by_cases x : q = 4
    · subst x
      show some (α 4, jRf E 3 6 (fun j => ((cRo σ r none).ro j).map (fun x => x.1))) = some (α 4, jRf E 3 6 (va_up (fun j => (σ.ro j).map (fun x => x.1)) r none))
      have e : (fun j => ((cRo σ r none).ro j).map (fun x => x.1)) = va_up (fun j => (σ.ro j).map (fun x => x.1)) r none := by
        funext j
        by_cases w : j = r
        · subst w; rw [va_up_s]; have e1 : (cRo σ j none).ro j = none := if_pos rfl; rw [e1]; rfl
        · rw [va_up_n w]; have e1 : (cRo σ r none).ro j = σ.ro j := if_neg w; rw [e1]
      rw [e]
    · simp only [j_up, if_neg x]
      unfold wC
      by_cases v : q < 100
      · have eA : q ≠ 0 → cA E (cRo σ r none) (q - 1) = cA E σ (q - 1) := by
          intro q0
          unfold cA
          simp only [if_neg (show ¬ q - 1 = 3 by omega)]
          rfl
        by_cases q0 : q = 0
        · rw [if_pos q0, if_pos q0]; rfl
        · rw [if_neg q0, if_neg q0, eA q0]
          simp only [if_pos v]
          try rfl
      · have e1 : (cRo σ r none).ro (q - 100) = σ.ro (q - 100) := if_neg (by omega)
        rw [e1]
        simp only [if_neg (show ¬ q = 0 by omega), if_neg (show ¬ q < 39 by omega)]
        rfl
section CAS
variable {E : jEnv} {α : Nat → Nat} {o : Option MethodName} {cc : ByteArray} {mL : Nat} {ret : Option FieldType} {R : Room} {k n pc : Nat} {L : List (Option Value)} {st : List Value} {σ : cS} {Q : Option Value → cS → Prop}
theorem CA_roS {z : Int} {r a N : Nat} {f : Nat → Int32} (hr : r < 6) (h : z = r) (hd : σ.d 0 = some (a, .inl (E.2.2 0, N, .inl f))) (d : decode cc pc = .ok (.aastore, 1)) (kk : J E (wC E α) (cX E, o) cc mL ret RX0 R k n (pc + 1) L (st) (cD (cRo σ r (some (a, N, f))) 0 none) Q) : J E (wC E α) (cX E, o) cc mL ret RX0 R k n (pc) L (.ref a :: .int (zI z) :: .ref (α 4) :: st) σ Q := by
  obtain ⟨h1, h2⟩ := zI_in (N := 6) h hr (by decide)
  refine J_toId (J_aastI (N := 6) (f := fun j => (σ.ro j).map (fun x => x.1)) (x := (N, .inl f)) 4 200 rfl (by rw [wC_d 0]; exact hd) (fun A s hX => hX.1 _ q147 rfl) h1 rfl d ?_)
  rw [h2]
  exact J_mv _ 200 (100 + r) (wC_cRoS hr hd) kk
theorem CA_roN_ {z : Int} {r : Nat} (hr : r < 6) (h : z = r) (d : decode cc pc = .ok (.aastore, 1)) (kk : J E (wC E α) (cX E, o) cc mL ret RX0 R k n (pc + 1) L (st) (cRo σ r none) Q) : J E (wC E α) (cX E, o) cc mL ret RX0 R k n (pc) L (.null :: .int (zI z) :: .ref (α 4) :: st) σ Q := by
  obtain ⟨h1, h2⟩ := zI_in (N := 6) h hr (by decide)
  refine J_toId (J_aastNA (N := 6) (f := fun j => (σ.ro j).map (fun x => x.1)) (t0 := 3) (ty := .int) 4 rfl rfl h1 rfl d ?_)
  rw [h2]
  refine J_map _ (fun q => q) (fun q x hq => ?_) (fun r1 r2 x1 x2 _ _ e => e) kk
  rw [wC_cRoN hr] at hq
  dsimp only at hq
  by_cases y : q = 100 + r
  · rw [if_pos y] at hq; cases hq
  · rw [if_neg y] at hq; exact hq
end CAS
theorem wC_cTxS {E : jEnv} {α : Nat → Nat} {σ : cS} {r a N : Nat} {f : Nat → Int32} (hr : r < 4) (h : σ.d 0 = some (a, .inl (E.2.2 1, N, .inl f))) : wC E α (cD (cTx σ r (some (a, N, f))) 0 none) = j_mv (j_up (wC E α σ) 5 (some (α 5, jRf E 4 4 (va_up (fun j => (σ.tx j).map (fun x => x.1)) r (some a))))) 200 (110 + r) := by
  funext q
  unfold j_mv
  by_cases z : q = 200
  · subst z; rw [if_pos rfl]; exact wC_d (σ := cD (cTx σ r (some (a, N, f))) 0 none) 0
  · rw [if_neg z]
    by_cases y : q = 110 + r
    · subst y
      rw [if_pos rfl, wC_tx hr]
      have e1 : (cD (cTx σ r (some (a, N, f))) 0 none).tx r = some (a, N, f) := if_pos rfl
      have e2 : j_up (wC E α σ) 5 (some (α 5, jRf E 4 4 (va_up (fun j => (σ.tx j).map (fun x => x.1)) r (some a)))) 200 = σ.d 0 := wC_d (E := E) (α := α) (σ := σ) 0
      rw [e1, e2, h]
      rfl
    · rw [if_neg y]
      by_cases x : q = 5
      · subst x
        show some (α 5, jRf E 4 4 (fun j => ((cD (cTx σ r (some (a, N, f))) 0 none).tx j).map (fun x => x.1))) = some (α 5, jRf E 4 4 (va_up (fun j => (σ.tx j).map (fun x => x.1)) r (some a)))
        have e : (fun j => ((cD (cTx σ r (some (a, N, f))) 0 none).tx j).map (fun x => x.1)) = va_up (fun j => (σ.tx j).map (fun x => x.1)) r (some a) := by
          funext j
          by_cases w : j = r
          · subst w; rw [va_up_s]; have e1 : (cD (cTx σ j (some (a, N, f))) 0 none).tx j = some (a, N, f) := if_pos rfl; rw [e1]; rfl
          · rw [va_up_n w]; have e1 : (cD (cTx σ r (some (a, N, f))) 0 none).tx j = σ.tx j := if_neg w; rw [e1]
        rw [e]
      · simp only [j_up, if_neg x]
        unfold wC
        by_cases v : q < 110
        · have eA : q ≠ 0 → cA E (cD (cTx σ r (some (a, N, f))) 0 none) (q - 1) = cA E σ (q - 1) := by
            intro q0
            unfold cA
            simp only [if_neg (show ¬ q - 1 = 4 by omega)]
            rfl
          by_cases q0 : q = 0
          · rw [if_pos q0, if_pos q0]; rfl
          · rw [if_neg q0, if_neg q0, eA q0]
            simp only [if_pos v]
            try rfl
        · have e1 : (cD (cTx σ r (some (a, N, f))) 0 none).tx (q - 110) = σ.tx (q - 110) := if_neg (by omega)
          rw [e1]
          simp only [if_neg (show ¬ q = 0 by omega), if_neg (show ¬ q < 39 by omega)]
          by_cases w : q < 200
          · simp only [if_pos w]; rfl
          · have e2 : (cD (cTx σ r (some (a, N, f))) 0 none).d (q - 200) = σ.d (q - 200) := if_neg (by omega)
            rw [e2]
            rfl
theorem wC_cTxN {E : jEnv} {α : Nat → Nat} {σ : cS} {r : Nat} (hr : r < 4) : wC E α (cTx σ r none) = fun q => if q = 110 + r then none else j_up (wC E α σ) 5 (some (α 5, jRf E 4 4 (va_up (fun j => (σ.tx j).map (fun x => x.1)) r none))) q := by
  funext q
  by_cases y : q = 110 + r
  · subst y
    rw [if_pos rfl, wC_tx hr]
    have e1 : (cTx σ r none).tx r = none := if_pos rfl
    rw [e1]
    rfl
  · rw [if_neg y]
    by_cases x : q = 5
    · subst x
      show some (α 5, jRf E 4 4 (fun j => ((cTx σ r none).tx j).map (fun x => x.1))) = some (α 5, jRf E 4 4 (va_up (fun j => (σ.tx j).map (fun x => x.1)) r none))
      have e : (fun j => ((cTx σ r none).tx j).map (fun x => x.1)) = va_up (fun j => (σ.tx j).map (fun x => x.1)) r none := by
        funext j
        by_cases w : j = r
        · subst w; rw [va_up_s]; have e1 : (cTx σ j none).tx j = none := if_pos rfl; rw [e1]; rfl
        · rw [va_up_n w]; have e1 : (cTx σ r none).tx j = σ.tx j := if_neg w; rw [e1]
      rw [e]
    · simp only [j_up, if_neg x]
      unfold wC
      by_cases v : q < 110
      · have eA : q ≠ 0 → cA E (cTx σ r none) (q - 1) = cA E σ (q - 1) := by
          intro q0
          unfold cA
          simp only [if_neg (show ¬ q - 1 = 4 by omega)]
          rfl
        by_cases q0 : q = 0
        · rw [if_pos q0, if_pos q0]; rfl
        · rw [if_neg q0, if_neg q0, eA q0]
          simp only [if_pos v]
          try rfl
      · have e1 : (cTx σ r none).tx (q - 110) = σ.tx (q - 110) := if_neg (by omega)
        rw [e1]
        simp only [if_neg (show ¬ q = 0 by omega), if_neg (show ¬ q < 39 by omega)]
        rfl
section CAS
variable {E : jEnv} {α : Nat → Nat} {o : Option MethodName} {cc : ByteArray} {mL : Nat} {ret : Option FieldType} {R : Room} {k n pc : Nat} {L : List (Option Value)} {st : List Value} {σ : cS} {Q : Option Value → cS → Prop}
theorem CA_txS {z : Int} {r a N : Nat} {f : Nat → Int32} (hr : r < 4) (h : z = r) (hd : σ.d 0 = some (a, .inl (E.2.2 1, N, .inl f))) (d : decode cc pc = .ok (.aastore, 1)) (kk : J E (wC E α) (cX E, o) cc mL ret RX0 R k n (pc + 1) L (st) (cD (cTx σ r (some (a, N, f))) 0 none) Q) : J E (wC E α) (cX E, o) cc mL ret RX0 R k n (pc) L (.ref a :: .int (zI z) :: .ref (α 5) :: st) σ Q := by
  obtain ⟨h1, h2⟩ := zI_in (N := 4) h hr (by decide)
  refine J_toId (J_aastB (N := 4) (f := fun j => (σ.tx j).map (fun x => x.1)) (x := (N, .inl f)) 5 200 rfl (by rw [wC_d 0]; exact hd) (fun A s hX => hX.1 _ q149 rfl) h1 rfl d ?_)
  rw [h2]
  exact J_mv _ 200 (110 + r) (wC_cTxS hr hd) kk
theorem CA_txN_ {z : Int} {r : Nat} (hr : r < 4) (h : z = r) (d : decode cc pc = .ok (.aastore, 1)) (kk : J E (wC E α) (cX E, o) cc mL ret RX0 R k n (pc + 1) L (st) (cTx σ r none) Q) : J E (wC E α) (cX E, o) cc mL ret RX0 R k n (pc) L (.null :: .int (zI z) :: .ref (α 5) :: st) σ Q := by
  obtain ⟨h1, h2⟩ := zI_in (N := 4) h hr (by decide)
  refine J_toId (J_aastNA (N := 4) (f := fun j => (σ.tx j).map (fun x => x.1)) (t0 := 4) (ty := .byte) 5 rfl rfl h1 rfl d ?_)
  rw [h2]
  refine J_map _ (fun q => q) (fun q x hq => ?_) (fun r1 r2 x1 x2 _ _ e => e) kk
  rw [wC_cTxN hr] at hq
  dsimp only at hq
  by_cases y : q = 110 + r
  · rw [if_pos y] at hq; cases hq
  · rw [if_neg y] at hq; exact hq
end CAS
theorem c_tear_bad {E : jEnv} {α : Nat → Nat} {σ : cS} {Q : Option Value → cS → Prop} {v : Int} (rv : zR v) (hv : ¬ (0 ≤ v ∧ v ≤ 5)) (hq : Q (some (.int (zI (-1)))) σ) : jX0_tear E α 0 [some (.ref (α 0)), some (.int (zI (v)))] [] σ Q := by
  refine J_iload_n dX0_tear_0 rfl ?_
  refine CC_X0_isRow (by decide) (by decide) (Nat.le_of_ble_eq_true rfl) dX0_tear_1 ?_
  refine c_isRow (by unfold zR at *; omega) (fun b1 => ?_) (fun b1 => ?_)
  · exfalso; omega
  · refine J_ri ?_
    refine J_if_ne_n (tgt := 9) dX0_tear_4 (by decide) (by decide) ?_
    refine J_iconst (zI (-1)) dX0_tear_7 rfl ?_
    exact J_iret rfl dX0_tear_8 (by exact hq)
theorem c_tear_no {E : jEnv} {α : Nat → Nat} {σ : cS} {Q : Option Value → cS → Prop} {rs : Nat → Int} {rd : Nat → Nat → Int32} {ts : Nat → Int} {tb : Nat → Nat → Int} {r : Nat} (hDt : cDt rs rd ts tb σ) (hr : r < 6) (h0 : rs r = -1) (hq : Q (some (.int (zI (-3)))) (cAr (cI σ 0 (zI 1)) 1 (upd (σ.a 1) 1 (σ.a 1 1 + zI 1)))) : jX0_tear E α 0 [some (.ref (α 0)), some (.int (zI (r : Nat)))] [] σ Q := by
  have hn : σ.ro r = none := by
    rcases hDt.1 r hr with z | ⟨a, N, g, z2, z3, z4⟩
    · exact z.2
    · omega
  refine J_iload_n dX0_tear_0 rfl ?_
  refine CC_X0_isRow (by decide) (by decide) (Nat.le_of_ble_eq_true rfl) dX0_tear_1 ?_
  refine c_isRow (by unfold zR at *; omega) (fun b1 => ?_) (fun b1 => ?_)
  · refine J_ri ?_
    refine J_if_ne_y (tgt := 9) dX0_tear_4 (by decide) (by decide) ?_
    refine J_aload_n dX0_tear_9 rfl ?_
    refine CG_rows dX0_tear_10 ?_
    refine J_iload_n dX0_tear_13 rfl ?_
    refine CA_roN hn (by omega) (by omega) dX0_tear_14 ?_
    refine J_ifnonnullN dX0_tear_15 ?_
    refine J_aload_n dX0_tear_18 rfl ?_
    refine J_iconst (zI 1) dX0_tear_19 rfl ?_
    refine CC_X0_found (by decide) (by decide) (Nat.le_of_ble_eq_true rfl) dX0_tear_20 ?_
    refine c_found (m := _) (by decide) ?_
    refine J_ri ?_
    exact J_iret rfl dX0_tear_23 (by exact hq)
  · exfalso; omega
theorem c_tear {E : jEnv} {α : Nat → Nat} {σ : cS} {Q : Option Value → cS → Prop} {rs : Nat → Int} {rd : Nat → Nat → Int32} {ts : Nat → Int} {tb : Nat → Nat → Int} {r : Nat} (hDt : cDt rs rd ts tb σ) (hr : r < 6) (h0 : 0 ≤ rs r) (hq : Q (some (.int (zI 1))) (cRo σ r none)) : jX0_tear E α 0 [some (.ref (α 0)), some (.int (zI (r : Nat)))] [] σ Q := by
  obtain ⟨x, hn⟩ : ∃ x, σ.ro r = some x := by
    rcases hDt.1 r hr with z | ⟨a, N, g, z2, z3, z4⟩
    · omega
    · exact ⟨_, z2⟩
  refine J_iload_n dX0_tear_0 rfl ?_
  refine CC_X0_isRow (by decide) (by decide) (Nat.le_of_ble_eq_true rfl) dX0_tear_1 ?_
  refine c_isRow (by unfold zR at *; omega) (fun b1 => ?_) (fun b1 => ?_)
  · refine J_ri ?_
    refine J_if_ne_y (tgt := 9) dX0_tear_4 (by decide) (by decide) ?_
    refine J_aload_n dX0_tear_9 rfl ?_
    refine CG_rows dX0_tear_10 ?_
    refine J_iload_n dX0_tear_13 rfl ?_
    refine CA_ro hn (by omega) (by omega) dX0_tear_14 ?_
    refine J_ifnonnull (tgt := 24) dX0_tear_15 (by decide) ?_
    refine J_aload_n dX0_tear_24 rfl ?_
    refine CG_rows dX0_tear_25 ?_
    refine J_iload_n dX0_tear_28 rfl ?_
    refine J_null dX0_tear_29 ?_
    refine CA_roN_ hr (by omega) dX0_tear_30 ?_
    refine J_iconst (zI 1) dX0_tear_31 rfl ?_
    exact J_iret rfl dX0_tear_32 (by exact hq)
  · exfalso; omega
theorem cDt_tear {rs : Nat → Int} {rd : Nat → Nat → Int32} {ts : Nat → Int} {tb : Nat → Nat → Int} {σ : cS} {r : Nat} (h : cDt rs rd ts tb σ) : cDt (upk rs r (-1)) rd ts tb (cRo σ r none) := by
  refine ⟨fun q hq => ?_, h.2⟩
  unfold upk
  by_cases z : q = r
  · subst z; rw [if_pos rfl]; exact Or.inl ⟨rfl, if_pos rfl⟩
  · rw [if_neg z]
    have e : (cRo σ r none).ro q = σ.ro q := if_neg z
    rw [e]; exact h.1 q hq
theorem wC_KpS {E : jEnv} {α : Nat → Nat} {σ : cS} {k a a1 a2 : Nat} {v : Int32} {f g : Nat → Int32} (hk : k < 3) (h0 : σ.d 0 = some (a, .inr (6, kV ((a, a1, a2), v, f, g)))) (h1 : σ.d 1 = some (a1, .inl (E.2.2 0, 1320, .inl f))) (h2 : σ.d 2 = some (a2, .inl (E.2.2 0, 33, .inl g))) : ∀ q x, wC E α (cD (cD (cD (cKp σ k (some ((a, a1, a2), v, f, g))) 0 none) 1 none) 2 none) q = some x → j_up (wC E α σ) 33 (some (α 33, jRf E 6 3 (va_up (fun j => (σ.kp j).map (fun x => x.1.1)) k (some a)))) (if q = 140 + k then 200 else if q = 143 + k then 201 else if q = 146 + k then 202 else q) = some x ∧ q ≠ 200 ∧ q ≠ 201 ∧ q ≠ 202 := by
  intro q x hx
  have hd : ∀ j, wC E α (cD (cD (cD (cKp σ k (some ((a, a1, a2), v, f, g))) 0 none) 1 none) 2 none) (200 + j) = if j = 2 then none else if j = 1 then none else if j = 0 then none else σ.d j := fun j => wC_d (σ := cD (cD (cD (cKp σ k (some ((a, a1, a2), v, f, g))) 0 none) 1 none) 2 none) j
  have hu : ∀ j, j_up (wC E α σ) 33 (some (α 33, jRf E 6 3 (va_up (fun j => (σ.kp j).map (fun x => x.1.1)) k (some a)))) (200 + j) = σ.d j := fun j => by
    unfold j_up
    rw [if_neg (by omega)]
    exact wC_d j
  have n0 : q ≠ 200 := fun z => by subst z; have := hd 0; rw [show 200 + 0 = 200 from rfl, hx] at this; simp at this
  have n1 : q ≠ 201 := fun z => by subst z; have := hd 1; rw [show 200 + 1 = 201 from rfl, hx] at this; simp at this
  have n2 : q ≠ 202 := fun z => by subst z; have := hd 2; rw [show 200 + 2 = 202 from rfl, hx] at this; simp at this
  refine ⟨?_, n0, n1, n2⟩
  have hks : (cD (cD (cD (cKp σ k (some ((a, a1, a2), v, f, g))) 0 none) 1 none) 2 none).kp k = some ((a, a1, a2), v, f, g) := if_pos rfl
  by_cases y0 : q = 140 + k
  · subst y0
    rw [if_pos rfl]
    rw [wC_k0 hk, hks] at hx
    exact ((hu 0).trans h0).trans hx
  · rw [if_neg y0]
    by_cases y1 : q = 143 + k
    · subst y1
      rw [if_pos rfl]
      rw [wC_k1 hk, hks] at hx
      exact ((hu 1).trans h1).trans hx
    · rw [if_neg y1]
      by_cases y2 : q = 146 + k
      · subst y2
        rw [if_pos rfl]
        rw [wC_k2 hk, hks] at hx
        exact ((hu 2).trans h2).trans hx
      · rw [if_neg y2]
        by_cases z : q = 33
        · subst z
          rw [← hx]
          show some (α 33, jRf E 6 3 (va_up (fun j => (σ.kp j).map (fun x => x.1.1)) k (some a))) = some (α 33, jRf E 6 3 (fun j => ((cD (cD (cD (cKp σ k (some ((a, a1, a2), v, f, g))) 0 none) 1 none) 2 none).kp j).map (fun x => x.1.1)))
          have e : (fun j => ((cD (cD (cD (cKp σ k (some ((a, a1, a2), v, f, g))) 0 none) 1 none) 2 none).kp j).map (fun x => x.1.1)) = va_up (fun j => (σ.kp j).map (fun x => x.1.1)) k (some a) := by
            funext j
            by_cases w : j = k
            · subst w; rw [va_up_s, hks]; rfl
            · rw [va_up_n w]; have e1 : (cD (cD (cD (cKp σ k (some ((a, a1, a2), v, f, g))) 0 none) 1 none) 2 none).kp j = σ.kp j := if_neg w; rw [e1]
          rw [e]
        · rw [← hx]
          simp only [j_up, if_neg z]
          unfold wC
          by_cases q0 : q = 0
          · rw [if_pos q0, if_pos q0]; rfl
          · rw [if_neg q0, if_neg q0]
            have eA : cA E (cD (cD (cD (cKp σ k (some ((a, a1, a2), v, f, g))) 0 none) 1 none) 2 none) (q - 1) = cA E σ (q - 1) := by
              unfold cA
              simp only [if_neg (show ¬ q - 1 = 32 by omega)]
              rfl
            rw [eA]
            by_cases w1 : q < 140
            · simp only [if_pos w1]; rfl
            · have k0 : q < 143 → (cD (cD (cD (cKp σ k (some ((a, a1, a2), v, f, g))) 0 none) 1 none) 2 none).kp (q - 140) = σ.kp (q - 140) := fun _ => if_neg (by omega)
              have k1 : ¬ q < 143 → q < 146 → (cD (cD (cD (cKp σ k (some ((a, a1, a2), v, f, g))) 0 none) 1 none) 2 none).kp (q - 143) = σ.kp (q - 143) := fun _ _ => if_neg (by omega)
              have k2 : ¬ q < 146 → (cD (cD (cD (cKp σ k (some ((a, a1, a2), v, f, g))) 0 none) 1 none) 2 none).kp (q - 146) = σ.kp (q - 146) := fun _ => if_neg (by omega)
              by_cases w2 : q < 143
              · simp only [if_pos w2, k0 w2]; rfl
              · by_cases w3 : q < 146
                · simp only [if_neg w2, if_pos w3, k1 w2 w3]; rfl
                · by_cases w4 : q < 200
                  · simp only [if_neg w2, if_neg w3, k2 w3, if_pos w4]; rfl
                  · have e3 : (cD (cD (cD (cKp σ k (some ((a, a1, a2), v, f, g))) 0 none) 1 none) 2 none).d (q - 200) = σ.d (q - 200) := by
                      show (if q - 200 = 2 then none else if q - 200 = 1 then none else if q - 200 = 0 then none else σ.d (q - 200)) = _
                      rw [if_neg (by omega), if_neg (by omega), if_neg (by omega)]
                    rw [e3]
                    simp only [if_neg w2, if_neg w3, if_neg (show ¬ q < 149 by omega), if_neg w4]
                    rfl
