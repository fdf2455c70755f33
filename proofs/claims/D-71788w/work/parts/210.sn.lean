set_option maxRecDepth 100000
/-! the component: write, walked -/
section CTB
variable {E : jEnv} {α : Nat → Nat} {o : Option MethodName} {cc : ByteArray} {mL : Nat} {ret : Option FieldType} {R : Room} {k n pc : Nat} {L : List (Option Value)} {st : List Value} {σ : cS} {Q : Option Value → cS → Prop}
theorem CT_bast {z : Int} {v : Int32} {a N : Nat} {f : Nat → Int32} (m : Nat) (hd : σ.d 0 = some (a, .inl (E.2.2 1, N, .inl f))) (h : z = m) (hm : m < N) (hN : N ≤ 1000000) (d : decode cc pc = .ok (.bastore, 1)) (kk : J E (wC E α) (cX E, o) cc mL ret RX0 R k n (pc + 1) L (st) (cD σ 0 (some (a, .inl (E.2.2 1, N, .inl (upd f m v.toInt8.toInt32))))) Q) : J E (wC E α) (cX E, o) cc mL ret RX0 R k n (pc) L (.int v :: .int (zI z) :: .ref a :: st) σ Q := by
  obtain ⟨h1, h2⟩ := zI_in h hm hN
  exact J_bast (N := N) (f := f) 200 ((wC_d 0).trans hd) h1 (by rw [wC_D 0, h2]) d kk
theorem CT_alen {a N : Nat} {f : Nat → Int32} (hd : σ.d 0 = some (a, .inl (E.2.2 1, N, .inl f))) (d : decode cc pc = .ok (.arraylength, 1)) (kk : J E (wC E α) (cX E, o) cc mL ret RX0 R k n (pc + 1) L (.int (zI (N : Nat)) :: st) σ Q) : J E (wC E α) (cX E, o) cc mL ret RX0 R k n (pc) L (.ref a :: st) σ Q := J_alen (x := (N, .inl f)) (ty := .byte) 200 1 (zI (N : Nat)) ((wC_d 0).trans hd) rfl (zI_nI N).symm d kk
end CTB
theorem cDt_wr {rs : Nat → Int} {rd : Nat → Nat → Int32} {ts : Nat → Int} {tb : Nat → Nat → Int} {σ σ' : cS} {r a : Nat} {o : List Int} {f : Nat → Int32} (h : cDt rs rd ts tb σ) (ho : o.length ≤ 120) (hf : ∀ j, j < o.length → f j = zI (o.getD j 0)) (h1 : σ'.ro = σ.ro) (h2 : σ'.tx = fun t => if t = r then some (a, o.length, f) else σ.tx t) : cDt rs rd (upk ts r o.length) (upk tb r (fun i => o.getD i 0)) σ' := by
  unfold cDt
  rw [h1, h2]
  refine ⟨h.1, fun t ht => ?_⟩
  unfold upk
  dsimp only
  by_cases z : t = r
  · rw [if_pos z, if_pos z, if_pos z]
    exact Or.inr ⟨a, o.length, f, rfl, rfl, ho, hf⟩
  · rw [if_neg z, if_neg z, if_neg z]
    exact h.2 t ht
theorem cl_write148 {E : jEnv} {α : Nat → Nat} {σ : cS} {Q : Option Value → cS → Prop} {rs : Nat → Int} {rd : Nat → Nat → Int32} {ts : Nat → Int} {tb : Nat → Nat → Int} {r q N ks ns : Nat} {o : List Int} {a1 : Nat} {σ2 : cS}  (hDt : cDt rs rd ts tb σ) (hr : r < 4) (hd : ∀ j, σ.d j = none) (hN : cNo σ σ2) (hB : SB E (strW 3 σ2) q o N) (hN4 : N ≤ 4000) (hu : uR o) (ho : o.length ≤ 120) (hkn : ks ≤ 301 ∧ ns ≤ 15200) (q0 : 120 < o.length → Q (some (.int (zI (-6)))) σ) (q1 : o.length ≤ 120 → ∀ σ1, cT [] σ σ1 → cDt rs rd (upk ts r o.length) (upk tb r (fun i => o.getD i 0)) σ1 → Q (some (.int (zI (o.length : Nat)))) σ1)  : ∀ (n : Nat) (i : Nat) (f : Nat → Int32), i ≤ o.length → (∀ j, j < i → f j = zI (o.getD j 0)) → o.length - i < n → J E (wC E α) (cX E, none) cX0_write 5 (some .int) RX0 (jR 11 400 20000) (ks) (ns) 148 [some (.ref (α 0)), some (.int (zI (r : Nat))), some (.ref q), some (.ref a1), some (.int (zI (i : Nat)))] [] (cD σ2 0 (some (a1, .inl (E.2.2 1, o.length, .inl (f))))) Q := by
  intro n
  induction n with
  | zero => intro i f h1 h2 hn; exact absurd hn (Nat.not_lt_zero _)
  | succ n ih =>
    intro i f h1 h2 hn
    refine J_iload dX0_write_148 rfl ?_
    refine J_aload_n dX0_write_150 rfl ?_
    refine CT_alen rfl dX0_write_151 ?_
    refine J_icmp_ge_z (tgt := 172) dX0_write_152 (by decide) (by unfold zR; omega) (by unfold zR; omega) (fun c152 => ?_) (fun c152 => ?_)
    · skip
      refine J_aload_n dX0_write_172 rfl ?_
      refine CG_texts dX0_write_173 ?_
      refine J_iload_n dX0_write_176 rfl ?_
      refine J_aload_n dX0_write_177 rfl ?_
      refine CA_txS hr rfl rfl dX0_write_178 ?_
      refine J_aload_n dX0_write_179 rfl ?_
      refine CX_alen (r := r) (a := a1) (N := o.length) (f := f) hr (if_pos rfl) dX0_write_180 ?_
      refine J_dropA ?_
      exact J_iret rfl dX0_write_181 (by exact q1 ho _ ⟨fun k _ => congrFun hN.1 k, hN.2.1, hN.2.2.1, hN.2.2.2.2.2.1, hN.2.2.2.2.2.2.1, hN.2.2.2.2.2.2.2.1, hN.2.2.2.2.2.2.2.2.1, hN.2.2.2.2.2.2.2.2.2, funext fun j => (hd j).symm⟩ (cDt_wr (a := a1) (f := f) hDt ho (fun j hj => h2 j (by omega)) hN.2.2.2.1 (funext fun t => by show (if t = r then _ else σ2.tx t) = _; rw [hN.2.2.2.2.1])))
    · skip
      refine J_aload_n dX0_write_155 rfl ?_
      refine J_iload dX0_write_156 rfl ?_
      refine J_aload_n dX0_write_158 rfl ?_
      refine J_iload dX0_write_159 rfl ?_
      obtain ⟨va, fa, g0, g1, hT⟩ := id hB
      refine J_eV (y := yJ10_charAt) (R' := (jR 4 0 0)) [.int (zI ((i : Nat) : Int))] 1 203 ((wC_d 3).trans g0) rfl q1041 q1042 q1043 q119 q1044 (by decide +kernel) cX_1 ⟨Nat.le_of_ble_eq_true rfl, Nat.le_of_ble_eq_true rfl⟩ ⟨Nat.le_trans hkn.1 (Nat.le_of_ble_eq_true rfl), Nat.le_trans hkn.2 (Nat.le_of_ble_eq_true rfl)⟩ rfl (Nat.le_of_ble_eq_true rfl) dX0_write_161 (JE_str 3 (JE.of (X' := (cX E, none)) (by decide +kernel) (Nat.le_of_ble_eq_true rfl) (fun _ z => by cases z) (?_)))
      refine b_charAt (N := N) (i := i) (t := o) (hB.up rfl rfl) hN4 (by omega) hu ?_
      refine J_ri ?_
      rw [cDs_self]
      refine J_i2b dX0_write_164 ?_
      refine J_top (zI (o.getD i 0)) (by8_s (by have := hu.at (i := i) (by omega); omega)) ?_
      refine CT_bast i rfl rfl (by omega) (by omega) dX0_write_165 ?_
      refine J_w cD_cD ?_
      refine J_iinc_z ((((i + 1)) : Nat) : Int) (by omega) dX0_write_166 rfl rfl (by decide) _ rfl ?_
      refine J_goto (tgt := 148) dX0_write_169 (by decide) ?_
      refine ih (i + 1) _ (by omega) (fun j hj => ?_) (by omega)
      by_cases z : j = i
      · subst z; rw [upd_s, by8_s (by have := hu.at (i := j) (by omega); omega)]
      · rw [upd_n z]; exact h2 j (by omega)
theorem cl_write126 {E : jEnv} {α : Nat → Nat} {σ : cS} {Q : Option Value → cS → Prop} {rs : Nat → Int} {rd : Nat → Nat → Int32} {ts : Nat → Int} {tb : Nat → Nat → Int} {r q N ks ns : Nat} {o : List Int} {σ2 : cS}  (hDt : cDt rs rd ts tb σ) (hr : r < 4) (hd : ∀ j, σ.d j = none) (hN : cNo σ σ2) (hB : SB E (strW 3 σ2) q o N) (hN4 : N ≤ 4000) (hu : uR o) (hkn : ks ≤ 300 ∧ ns ≤ 15000) (q0 : 120 < o.length → Q (some (.int (zI (-6)))) σ) (q1 : o.length ≤ 120 → ∀ σ1, cT [] σ σ1 → cDt rs rd (upk ts r o.length) (upk tb r (fun i => o.getD i 0)) σ1 → Q (some (.int (zI (o.length : Nat)))) σ1)  : J E (wC E α) (cX E, none) cX0_write 5 (some .int) RX0 (jR 11 400 20000) (ks) (ns) 126 [some (.ref (α 0)), some (.int (zI (r : Nat))), some (.ref q), none, none] [] σ2 Q := by
  have hlen := hB.len
  refine J_aload_n dX0_write_126 rfl ?_
  obtain ⟨va, fa, g0, g1, hT⟩ := id hB
  refine J_eV (y := yJ10_length) (R' := (jR 2 0 0)) [] 0 203 ((wC_d 3).trans g0) rfl q1040 q650 q2117 q119 q651 (by decide +kernel) cX_1 ⟨Nat.le_of_ble_eq_true rfl, Nat.le_of_ble_eq_true rfl⟩ ⟨Nat.le_trans hkn.1 (Nat.le_of_ble_eq_true rfl), Nat.le_trans hkn.2 (Nat.le_of_ble_eq_true rfl)⟩ rfl (Nat.le_of_ble_eq_true rfl) dX0_write_127 (JE_str 3 (JE.of (X' := (cX E, none)) (by decide +kernel) (Nat.le_of_ble_eq_true rfl) (fun _ z => by cases z) (?_)))
  refine b_len g0 ?_
  refine J_ri ?_
  rw [cDs_self]
  refine J_bipush (zI 120) dX0_write_130 rfl ?_
  refine J_icmp_le_z (tgt := 138) dX0_write_132 (by decide) (by unfold zR; omega) (by unfold zR; omega) (fun c132 => ?_) (fun c132 => ?_)
  · skip
    have ho : o.length ≤ 120 := by omega
    refine J_aload_n dX0_write_138 rfl ?_
    obtain ⟨va, fa, g0, g1, hT⟩ := id hB
    refine J_eV (y := yJ10_length) (R' := (jR 2 0 0)) [] 0 203 ((wC_d 3).trans g0) rfl q1040 q650 q2117 q119 q651 (by decide +kernel) cX_1 ⟨Nat.le_of_ble_eq_true rfl, Nat.le_of_ble_eq_true rfl⟩ ⟨Nat.le_trans hkn.1 (Nat.le_of_ble_eq_true rfl), Nat.le_trans hkn.2 (Nat.le_of_ble_eq_true rfl)⟩ rfl (Nat.le_of_ble_eq_true rfl) dX0_write_139 (JE_str 3 (JE.of (X' := (cX E, none)) (by decide +kernel) (Nat.le_of_ble_eq_true rfl) (fun _ z => by cases z) (?_)))
    refine b_len g0 ?_
    refine J_ri ?_
    rw [cDs_self]
    refine J_newa_byte (σ' := fun a1 => cD σ2 0 (some (a1, .inl (E.2.2 1, o.length, .inl (fun _ => zI 0))))) 200 o.length q363 rfl (by omega) (by show ks + 1 ≤ 400; omega) (by show ns + o.length ≤ 20000; omega) (fun a1 => wC_D 0 _) dX0_write_142 (fun a1 => ?_)
    refine J_astore_n dX0_write_144 rfl (by decide) _ rfl ?_
    refine J_iconst (zI 0) dX0_write_145 rfl ?_
    refine J_istore dX0_write_146 rfl (by decide) _ rfl ?_
    exact cl_write148 hDt hr hd hN hB hN4 hu ho (by show ks + 1 ≤ 301 ∧ ns + o.length ≤ 15200; omega) q0 q1 _ 0 (fun _ => zI 0) (Nat.zero_le _) (fun j hj => absurd hj (Nat.not_lt_zero _)) (Nat.lt_succ_self _)
  · skip
    refine J_bipush (zI (-6)) dX0_write_135 rfl ?_
    refine J_dropA ?_
    exact J_iret rfl dX0_write_137 (by rw [hN.e hd]; exact q0 (by omega))
