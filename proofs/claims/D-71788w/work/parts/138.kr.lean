/-! J: more rows -/
set_option maxRecDepth 100000
section JR2
variable {E : jEnv} {St : Type} {w : St → jW} {X : jX} {cc : ByteArray} {mL : Nat} {ret : Option FieldType} {own : String} {R : Room} {k n pc : Nat} {L : List (Option Value)} {st : List Value} {σ : St} {Q : Option Value → St → Prop}
theorem J_aret {a : Nat} {nm : String} (hret : ret = some (.object nm)) (d : decode cc pc = .ok (.areturn, 1)) (hq : Q (some (.ref a)) σ) : J E w X cc mL ret own R k n pc L [(.ref a)] σ Q := by
  intro p e s m args below meth c A H locs ls C hX hA hk hn hP hD hS hL
  have hr := C.2.2.1
  have hlocks := C.2.2.2.1
  subst hret
  refine W.widen hk hn ?_
  exact W.aret C.1 C.2.1 hr (Or.inl ⟨_, rfl⟩) (Or.inr ⟨_, rfl⟩) (fun t ht hW => ⟨⟨(some (.ref a)), σ, rfl, hq, by rw [ht]; exact hP, hD⟩, hS.F ht⟩) hS.2.2 d
theorem J_aretA {a : Nat} {ty : FieldType} (hret : ret = some (.array ty)) (d : decode cc pc = .ok (.areturn, 1)) (hq : Q (some (.ref a)) σ) : J E w X cc mL ret own R k n pc L [(.ref a)] σ Q := by
  intro p e s m args below meth c A H locs ls C hX hA hk hn hP hD hS hL
  have hr := C.2.2.1
  have hlocks := C.2.2.2.1
  subst hret
  refine W.widen hk hn ?_
  exact W.aret C.1 C.2.1 hr (Or.inr ⟨_, rfl⟩) (Or.inr ⟨_, rfl⟩) (fun t ht hW => ⟨⟨(some (.ref a)), σ, rfl, hq, by rw [ht]; exact hP, hD⟩, hS.F ht⟩) hS.2.2 d
end JR2
