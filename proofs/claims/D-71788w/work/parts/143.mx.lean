set_option maxRecDepth 100000
section V
variable {E : jEnv} {St : Type} {w : St → jW} {o : Option MethodName} {cc : ByteArray} {mL : Nat} {ret : Option FieldType} {own : String} {R : Room} {k n pc : Nat} {L : List (Option Value)} {st : List Value} {σ : St} {Q : Option Value → St → Prop}
theorem PX0_max {x y : Int} (rx : zR x) (ry : zR y) (hR : 2 ≤ R.frames ∧ 96 ≤ R.locals) (hcs : k ≤ R.cells ∧ n ≤ R.slots) (hst : (st.map fun v => v.category).sum ≤ 8) (d : decode cc pc = .ok (.invokestatic 356, 3)) (kk : J E w (cX E, o) cc mL ret RX0 R k n (pc + 3) L (.int (zI (if x < y then y else x)) :: st) σ Q) : J E w (cX E, o) cc mL ret RX0 R k n (pc) L (.int (zI y) :: .int (zI x) :: st) σ Q := by
  intro p e s m args below meth c A H locs ls C hX hA hk hn hP hD hS hL
  have hts := C.2.2.2.2.2.2.1
  refine va_mmax C.1 C.2.1 (C.2.2.2.2.1.trans hL.1.symm) C.2.2.2.2.2.1 (hts _ q1230) (hts _ q555) (hts _ q122) (hts _ q556) (by omega) (by omega) hcs.1 hcs.2 d ?_
  have e1 : (if zI x < zI y then zI y else zI x) = zI (if x < y then y else x) := by
    simp only [zI_lt rx ry]
    split <;> rfl
  rw [e1]
  exact kk p e s m args below meth c A H locs ls C hX hA hk hn hP hD hS hL
end V
section V
variable {E : jEnv} {St : Type} {w : St → jW} {o : Option MethodName} {cc : ByteArray} {mL : Nat} {ret : Option FieldType} {own : String} {R : Room} {k n pc : Nat} {L : List (Option Value)} {st : List Value} {σ : St} {Q : Option Value → St → Prop}
theorem PX0_min {x y : Int} (rx : zR x) (ry : zR y) (hR : 2 ≤ R.frames ∧ 96 ≤ R.locals) (hcs : k ≤ R.cells ∧ n ≤ R.slots) (hst : (st.map fun v => v.category).sum ≤ 8) (d : decode cc pc = .ok (.invokestatic 177, 3)) (kk : J E w (cX E, o) cc mL ret RX0 R k n (pc + 3) L (.int (zI (if y < x then y else x)) :: st) σ Q) : J E w (cX E, o) cc mL ret RX0 R k n (pc) L (.int (zI y) :: .int (zI x) :: st) σ Q := by
  intro p e s m args below meth c A H locs ls C hX hA hk hn hP hD hS hL
  have hts := C.2.2.2.2.2.2.1
  refine va_mmin C.1 C.2.1 (C.2.2.2.2.1.trans hL.1.symm) C.2.2.2.2.2.1 (hts _ q759) (hts _ q573) (hts _ q122) (hts _ q574) (by omega) (by omega) hcs.1 hcs.2 d ?_
  have e1 : (if zI y < zI x then zI y else zI x) = zI (if y < x then y else x) := by
    simp only [zI_lt ry rx]
    split <;> rfl
  rw [e1]
  exact kk p e s m args below meth c A H locs ls C hX hA hk hn hP hD hS hL
end V
