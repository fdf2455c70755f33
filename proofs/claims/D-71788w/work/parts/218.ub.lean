set_option maxRecDepth 100000
/-! the twin's constructor, walked -/
section TI
variable {E : jEnv} {α : Nat → Nat} {X : jX} {cc : ByteArray} {mL : Nat} {ret : Option FieldType} {R : Room} {k n pc : Nat} {L : List (Option Value)} {st : List Value} {σ : tS} {Q : Option Value → tS → Prop}
theorem TI_iast {z : Int} {v : Int32} (j m : Nat) (hj : tK j = 1 ∧ tB j = 0 ∧ tN j ≤ 1000000) (h : z = m) (hm : m < tN j) (d : decode cc pc = .ok (.iastore, 1)) (kk : J E (wT E α) X cc mL ret RX2 R k n (pc + 1) L st (setA σ j (upd (σ.2.1 j) m v)) Q) : J E (wT E α) X cc mL ret RX2 R k n pc L (.int v :: .int (zI z) :: .ref (α (j + 1)) :: st) σ Q := by
  obtain ⟨h1, h2⟩ := zI_in h hm hj.2.2
  refine J_iast (N := tN j) (f := σ.2.1 j) (j + 1) ?_ h1 ?_ d kk
  · show (if tK j = 1 then some (α (j + 1), (Sum.inl (E.2.2 (tB j), tN j, Sum.inl (σ.2.1 j)) : jE)) else none) = _
    rw [if_pos hj.1, hj.2.1]
  · rw [wT_A E α σ j _ hj.1, h2, hj.2.1]
end TI
theorem ti6 {f : Nat → Int32} {v : Int32} {i : Nat} (h : i < 6) (h0 : f 0 = v) (h1 : f 1 = v) (h2 : f 2 = v) (h3 : f 3 = v) (h4 : f 4 = v) (h5 : f 5 = v) : f i = v := by
  obtain rfl | rfl | rfl | rfl | rfl | rfl : i = 0 ∨ i = 1 ∨ i = 2 ∨ i = 3 ∨ i = 4 ∨ i = 5 := by omega
  all_goals assumption
theorem ti4 {f : Nat → Int32} {v : Int32} {i : Nat} (h : i < 4) (h0 : f 0 = v) (h1 : f 1 = v) (h2 : f 2 = v) (h3 : f 3 = v) : f i = v := by
  obtain rfl | rfl | rfl | rfl : i = 0 ∨ i = 1 ∨ i = 2 ∨ i = 3 := by omega
  all_goals assumption
theorem ti3 {f : Nat → Int32} {v : Int32} {i : Nat} (h : i < 3) (h0 : f 0 = v) (h1 : f 1 = v) (h2 : f 2 = v) : f i = v := by
  obtain rfl | rfl | rfl : i = 0 ∨ i = 1 ∨ i = 2 := by omega
  all_goals assumption
/-- the twin as it is made -/
def tIn (τ : tS) : Prop := (∀ k, τ.1 k = zI 0) ∧ (∀ j, j ≠ 3 → j ≠ 6 → j ≠ 38 → ∀ i, τ.2.1 j i = zI 0) ∧ (∀ i, i < 6 → τ.2.1 3 i = zI (-1)) ∧ (∀ i, i < 4 → τ.2.1 6 i = zI (-1)) ∧ (∀ i, i < 3 → τ.2.1 38 i = zI (-1)) ∧ τ.2.2 = 0
theorem tl_init163 {E : jEnv} {α : Nat → Nat} {X : jX} {k n : Nat} {Q : Option Value → tS → Prop} (hq : ∀ τ, tIn τ → Q none τ) : J E (wT E α) X cX2_init 2 none RX2 (jR 2 19 23096) k n 163 [some (.ref (α 0)), none] [] tS0 Q := by
  refine J_iconst (zI 0) dX2_init_163 rfl ?_
  refine J_istore_n dX2_init_164 rfl (by decide) _ rfl ?_
  refine J_iload_n dX2_init_165 rfl ?_
  refine J_bipush (zI 6) dX2_init_166 rfl ?_
  refine J_icmp_ge_n (tgt := 184) dX2_init_168 (by decide) (by decide) ?_
  refine J_aload_n dX2_init_171 rfl ?_
  refine J_get 0 3 rfl rfl in_X2 (by decide) q1580 rfl dX2_init_172 ?_
  refine J_iload_n dX2_init_175 rfl ?_
  refine J_iconst (zI (-1)) dX2_init_176 rfl ?_
  refine TI_iast 3 0 ⟨rfl, rfl, by decide⟩ rfl (by decide) dX2_init_177 ?_
  refine J_iinc_z (1) (by omega) dX2_init_178 rfl rfl (by decide) _ rfl ?_
  refine J_goto (tgt := 165) dX2_init_181 (by decide) ?_
  refine J_iload_n dX2_init_165 rfl ?_
  refine J_bipush (zI 6) dX2_init_166 rfl ?_
  refine J_icmp_ge_n (tgt := 184) dX2_init_168 (by decide) (by decide) ?_
  refine J_aload_n dX2_init_171 rfl ?_
  refine J_get 0 3 rfl rfl in_X2 (by decide) q1580 rfl dX2_init_172 ?_
  refine J_iload_n dX2_init_175 rfl ?_
  refine J_iconst (zI (-1)) dX2_init_176 rfl ?_
  refine TI_iast 3 1 ⟨rfl, rfl, by decide⟩ rfl (by decide) dX2_init_177 ?_
  refine J_iinc_z (2) (by omega) dX2_init_178 rfl rfl (by decide) _ rfl ?_
  refine J_goto (tgt := 165) dX2_init_181 (by decide) ?_
  refine J_iload_n dX2_init_165 rfl ?_
  refine J_bipush (zI 6) dX2_init_166 rfl ?_
  refine J_icmp_ge_n (tgt := 184) dX2_init_168 (by decide) (by decide) ?_
  refine J_aload_n dX2_init_171 rfl ?_
  refine J_get 0 3 rfl rfl in_X2 (by decide) q1580 rfl dX2_init_172 ?_
  refine J_iload_n dX2_init_175 rfl ?_
  refine J_iconst (zI (-1)) dX2_init_176 rfl ?_
  refine TI_iast 3 2 ⟨rfl, rfl, by decide⟩ rfl (by decide) dX2_init_177 ?_
  refine J_iinc_z (3) (by omega) dX2_init_178 rfl rfl (by decide) _ rfl ?_
  refine J_goto (tgt := 165) dX2_init_181 (by decide) ?_
  refine J_iload_n dX2_init_165 rfl ?_
  refine J_bipush (zI 6) dX2_init_166 rfl ?_
  refine J_icmp_ge_n (tgt := 184) dX2_init_168 (by decide) (by decide) ?_
  refine J_aload_n dX2_init_171 rfl ?_
  refine J_get 0 3 rfl rfl in_X2 (by decide) q1580 rfl dX2_init_172 ?_
  refine J_iload_n dX2_init_175 rfl ?_
  refine J_iconst (zI (-1)) dX2_init_176 rfl ?_
  refine TI_iast 3 3 ⟨rfl, rfl, by decide⟩ rfl (by decide) dX2_init_177 ?_
  refine J_iinc_z (4) (by omega) dX2_init_178 rfl rfl (by decide) _ rfl ?_
  refine J_goto (tgt := 165) dX2_init_181 (by decide) ?_
  refine J_iload_n dX2_init_165 rfl ?_
  refine J_bipush (zI 6) dX2_init_166 rfl ?_
  refine J_icmp_ge_n (tgt := 184) dX2_init_168 (by decide) (by decide) ?_
  refine J_aload_n dX2_init_171 rfl ?_
  refine J_get 0 3 rfl rfl in_X2 (by decide) q1580 rfl dX2_init_172 ?_
  refine J_iload_n dX2_init_175 rfl ?_
  refine J_iconst (zI (-1)) dX2_init_176 rfl ?_
  refine TI_iast 3 4 ⟨rfl, rfl, by decide⟩ rfl (by decide) dX2_init_177 ?_
  refine J_iinc_z (5) (by omega) dX2_init_178 rfl rfl (by decide) _ rfl ?_
  refine J_goto (tgt := 165) dX2_init_181 (by decide) ?_
  refine J_iload_n dX2_init_165 rfl ?_
  refine J_bipush (zI 6) dX2_init_166 rfl ?_
  refine J_icmp_ge_n (tgt := 184) dX2_init_168 (by decide) (by decide) ?_
  refine J_aload_n dX2_init_171 rfl ?_
  refine J_get 0 3 rfl rfl in_X2 (by decide) q1580 rfl dX2_init_172 ?_
  refine J_iload_n dX2_init_175 rfl ?_
  refine J_iconst (zI (-1)) dX2_init_176 rfl ?_
  refine TI_iast 3 5 ⟨rfl, rfl, by decide⟩ rfl (by decide) dX2_init_177 ?_
  refine J_iinc_z (6) (by omega) dX2_init_178 rfl rfl (by decide) _ rfl ?_
  refine J_goto (tgt := 165) dX2_init_181 (by decide) ?_
  refine J_iload_n dX2_init_165 rfl ?_
  refine J_bipush (zI 6) dX2_init_166 rfl ?_
  refine J_icmp_ge_y (tgt := 184) dX2_init_168 (by decide) (by decide) ?_
  refine J_iconst (zI 0) dX2_init_184 rfl ?_
  refine J_istore_n dX2_init_185 rfl (by decide) _ rfl ?_
  refine J_iload_n dX2_init_186 rfl ?_
  refine J_iconst (zI 4) dX2_init_187 rfl ?_
  refine J_icmp_ge_n (tgt := 204) dX2_init_188 (by decide) (by decide) ?_
  refine J_aload_n dX2_init_191 rfl ?_
  refine J_get 0 6 rfl rfl in_X2 (by decide) q1583 rfl dX2_init_192 ?_
  refine J_iload_n dX2_init_195 rfl ?_
  refine J_iconst (zI (-1)) dX2_init_196 rfl ?_
  refine TI_iast 6 0 ⟨rfl, rfl, by decide⟩ rfl (by decide) dX2_init_197 ?_
  refine J_iinc_z (1) (by omega) dX2_init_198 rfl rfl (by decide) _ rfl ?_
  refine J_goto (tgt := 186) dX2_init_201 (by decide) ?_
  refine J_iload_n dX2_init_186 rfl ?_
  refine J_iconst (zI 4) dX2_init_187 rfl ?_
  refine J_icmp_ge_n (tgt := 204) dX2_init_188 (by decide) (by decide) ?_
  refine J_aload_n dX2_init_191 rfl ?_
  refine J_get 0 6 rfl rfl in_X2 (by decide) q1583 rfl dX2_init_192 ?_
  refine J_iload_n dX2_init_195 rfl ?_
  refine J_iconst (zI (-1)) dX2_init_196 rfl ?_
  refine TI_iast 6 1 ⟨rfl, rfl, by decide⟩ rfl (by decide) dX2_init_197 ?_
  refine J_iinc_z (2) (by omega) dX2_init_198 rfl rfl (by decide) _ rfl ?_
  refine J_goto (tgt := 186) dX2_init_201 (by decide) ?_
  refine J_iload_n dX2_init_186 rfl ?_
  refine J_iconst (zI 4) dX2_init_187 rfl ?_
  refine J_icmp_ge_n (tgt := 204) dX2_init_188 (by decide) (by decide) ?_
  refine J_aload_n dX2_init_191 rfl ?_
  refine J_get 0 6 rfl rfl in_X2 (by decide) q1583 rfl dX2_init_192 ?_
  refine J_iload_n dX2_init_195 rfl ?_
  refine J_iconst (zI (-1)) dX2_init_196 rfl ?_
  refine TI_iast 6 2 ⟨rfl, rfl, by decide⟩ rfl (by decide) dX2_init_197 ?_
  refine J_iinc_z (3) (by omega) dX2_init_198 rfl rfl (by decide) _ rfl ?_
  refine J_goto (tgt := 186) dX2_init_201 (by decide) ?_
  refine J_iload_n dX2_init_186 rfl ?_
  refine J_iconst (zI 4) dX2_init_187 rfl ?_
  refine J_icmp_ge_n (tgt := 204) dX2_init_188 (by decide) (by decide) ?_
  refine J_aload_n dX2_init_191 rfl ?_
  refine J_get 0 6 rfl rfl in_X2 (by decide) q1583 rfl dX2_init_192 ?_
  refine J_iload_n dX2_init_195 rfl ?_
  refine J_iconst (zI (-1)) dX2_init_196 rfl ?_
  refine TI_iast 6 3 ⟨rfl, rfl, by decide⟩ rfl (by decide) dX2_init_197 ?_
  refine J_iinc_z (4) (by omega) dX2_init_198 rfl rfl (by decide) _ rfl ?_
  refine J_goto (tgt := 186) dX2_init_201 (by decide) ?_
  refine J_iload_n dX2_init_186 rfl ?_
  refine J_iconst (zI 4) dX2_init_187 rfl ?_
  refine J_icmp_ge_y (tgt := 204) dX2_init_188 (by decide) (by decide) ?_
  refine J_iconst (zI 0) dX2_init_204 rfl ?_
  refine J_istore_n dX2_init_205 rfl (by decide) _ rfl ?_
  refine J_iload_n dX2_init_206 rfl ?_
  refine J_iconst (zI 3) dX2_init_207 rfl ?_
  refine J_icmp_ge_n (tgt := 224) dX2_init_208 (by decide) (by decide) ?_
  refine J_aload_n dX2_init_211 rfl ?_
  refine J_get 0 38 rfl rfl in_X2 (by decide) q1615 rfl dX2_init_212 ?_
  refine J_iload_n dX2_init_215 rfl ?_
  refine J_iconst (zI (-1)) dX2_init_216 rfl ?_
  refine TI_iast 38 0 ⟨rfl, rfl, by decide⟩ rfl (by decide) dX2_init_217 ?_
  refine J_iinc_z (1) (by omega) dX2_init_218 rfl rfl (by decide) _ rfl ?_
  refine J_goto (tgt := 206) dX2_init_221 (by decide) ?_
  refine J_iload_n dX2_init_206 rfl ?_
  refine J_iconst (zI 3) dX2_init_207 rfl ?_
  refine J_icmp_ge_n (tgt := 224) dX2_init_208 (by decide) (by decide) ?_
  refine J_aload_n dX2_init_211 rfl ?_
  refine J_get 0 38 rfl rfl in_X2 (by decide) q1615 rfl dX2_init_212 ?_
  refine J_iload_n dX2_init_215 rfl ?_
  refine J_iconst (zI (-1)) dX2_init_216 rfl ?_
  refine TI_iast 38 1 ⟨rfl, rfl, by decide⟩ rfl (by decide) dX2_init_217 ?_
  refine J_iinc_z (2) (by omega) dX2_init_218 rfl rfl (by decide) _ rfl ?_
  refine J_goto (tgt := 206) dX2_init_221 (by decide) ?_
  refine J_iload_n dX2_init_206 rfl ?_
  refine J_iconst (zI 3) dX2_init_207 rfl ?_
  refine J_icmp_ge_n (tgt := 224) dX2_init_208 (by decide) (by decide) ?_
  refine J_aload_n dX2_init_211 rfl ?_
  refine J_get 0 38 rfl rfl in_X2 (by decide) q1615 rfl dX2_init_212 ?_
  refine J_iload_n dX2_init_215 rfl ?_
  refine J_iconst (zI (-1)) dX2_init_216 rfl ?_
  refine TI_iast 38 2 ⟨rfl, rfl, by decide⟩ rfl (by decide) dX2_init_217 ?_
  refine J_iinc_z (3) (by omega) dX2_init_218 rfl rfl (by decide) _ rfl ?_
  refine J_goto (tgt := 206) dX2_init_221 (by decide) ?_
  refine J_iload_n dX2_init_206 rfl ?_
  refine J_iconst (zI 3) dX2_init_207 rfl ?_
  refine J_icmp_ge_y (tgt := 224) dX2_init_208 (by decide) (by decide) ?_
  exact J_vret rfl dX2_init_224 (hq _ ⟨fun _ => rfl, fun j h3 h6 h38 i => by simp [setA, tS0, h3, h6, h38], fun i hi => ti6 hi rfl rfl rfl rfl rfl rfl, fun i hi => ti4 hi rfl rfl rfl rfl, fun i hi => ti3 hi rfl rfl rfl, rfl⟩)
theorem t_init {E : jEnv} {X1 : (Nat → Prop) → State → Prop} {a0 : Nat} {α : Nat → Nat} {Q : Option Value → jW → Prop} (hq : ∀ β τ, β 0 = a0 → tIn τ → Q none (wT E β τ)) : J E wI (X1, some yX2_init) cX2_init 2 none RX2 (jR 2 19 23096) 0 0 0 [some (.ref a0), none] [] (wTP E a0 α 0) Q := by
  refine J_aload_n dX2_init_0 rfl ?_
  refine J_objInit q1576 q144 q145 (Nat.le_of_ble_eq_true rfl) ⟨Nat.le_of_ble_eq_true rfl, Nat.le_of_ble_eq_true rfl⟩ dX2_init_1 ?_
  refine J_aload_n dX2_init_4 rfl ?_
  refine J_bipush (zI 6) dX2_init_5 rfl ?_
  refine J_newa_int (σ' := fun a2 => j_up (wTP E a0 α 0) (2 + 1) (some (a2, .inl (E.2.2 (tB 2), tN 2, .inl (fun _ => zI 0))))) (2 + 1) 6 q159 rfl (Nat.le_of_ble_eq_true rfl) (Nat.le_of_ble_eq_true rfl) (Nat.le_of_ble_eq_true rfl) (fun a2 => rfl) dX2_init_7 (fun a2 => ?_)
  refine J_putF (σ' := j_up (j_up (wTP E a0 α 0) (2 + 1) (some (a2, .inl (E.2.2 (tB 2), tN 2, .inl (fun _ => zI 0))))) 0 (some (a0, .inr (0, updV (tP a0 α 0) 2 (.ref a2))))) 0 2 rfl rfl in_X2 tyX2_ok nmX2 (by decide) q1579 rfl rfl rfl rfl rfl rfl rfl dX2_init_9 ?_
  refine J_w (wTP_s (k := 2) (b := 0) rfl (by decide) (by decide)) ?_
  generalize upA α (2 + 1) a2 = α2
  refine J_aload_n dX2_init_12 rfl ?_
  refine J_bipush (zI 6) dX2_init_13 rfl ?_
  refine J_newa_int (σ' := fun a3 => j_up (wTP E a0 α2 3) (3 + 1) (some (a3, .inl (E.2.2 (tB 3), tN 3, .inl (fun _ => zI 0))))) (3 + 1) 6 q159 rfl (Nat.le_of_ble_eq_true rfl) (Nat.le_of_ble_eq_true rfl) (Nat.le_of_ble_eq_true rfl) (fun a3 => rfl) dX2_init_15 (fun a3 => ?_)
  refine J_putF (σ' := j_up (j_up (wTP E a0 α2 3) (3 + 1) (some (a3, .inl (E.2.2 (tB 3), tN 3, .inl (fun _ => zI 0))))) 0 (some (a0, .inr (0, updV (tP a0 α2 3) 3 (.ref a3))))) 0 3 rfl rfl in_X2 tyX2_ok nmX2 (by decide) q1580 rfl rfl rfl rfl rfl rfl rfl dX2_init_17 ?_
  refine J_w (wTP_s (k := 3) (b := 3) rfl (by decide) (by decide)) ?_
  generalize upA α2 (3 + 1) a3 = α3
  refine J_aload_n dX2_init_20 rfl ?_
  refine J_sipush (zI 240) dX2_init_21 rfl ?_
  refine J_newa_int (σ' := fun a4 => j_up (wTP E a0 α3 4) (4 + 1) (some (a4, .inl (E.2.2 (tB 4), tN 4, .inl (fun _ => zI 0))))) (4 + 1) 240 q159 rfl (Nat.le_of_ble_eq_true rfl) (Nat.le_of_ble_eq_true rfl) (Nat.le_of_ble_eq_true rfl) (fun a4 => rfl) dX2_init_24 (fun a4 => ?_)
  refine J_putF (σ' := j_up (j_up (wTP E a0 α3 4) (4 + 1) (some (a4, .inl (E.2.2 (tB 4), tN 4, .inl (fun _ => zI 0))))) 0 (some (a0, .inr (0, updV (tP a0 α3 4) 4 (.ref a4))))) 0 4 rfl rfl in_X2 tyX2_ok nmX2 (by decide) q1581 rfl rfl rfl rfl rfl rfl rfl dX2_init_26 ?_
  refine J_w (wTP_s (k := 4) (b := 4) rfl (by decide) (by decide)) ?_
  generalize upA α3 (4 + 1) a4 = α4
  refine J_aload_n dX2_init_29 rfl ?_
  refine J_bipush (zI 40) dX2_init_30 rfl ?_
  refine J_newa_int (σ' := fun a5 => j_up (wTP E a0 α4 5) (5 + 1) (some (a5, .inl (E.2.2 (tB 5), tN 5, .inl (fun _ => zI 0))))) (5 + 1) 40 q159 rfl (Nat.le_of_ble_eq_true rfl) (Nat.le_of_ble_eq_true rfl) (Nat.le_of_ble_eq_true rfl) (fun a5 => rfl) dX2_init_32 (fun a5 => ?_)
  refine J_putF (σ' := j_up (j_up (wTP E a0 α4 5) (5 + 1) (some (a5, .inl (E.2.2 (tB 5), tN 5, .inl (fun _ => zI 0))))) 0 (some (a0, .inr (0, updV (tP a0 α4 5) 5 (.ref a5))))) 0 5 rfl rfl in_X2 tyX2_ok nmX2 (by decide) q1582 rfl rfl rfl rfl rfl rfl rfl dX2_init_34 ?_
  refine J_w (wTP_s (k := 5) (b := 5) rfl (by decide) (by decide)) ?_
  generalize upA α4 (5 + 1) a5 = α5
  refine J_aload_n dX2_init_37 rfl ?_
  refine J_iconst (zI 4) dX2_init_38 rfl ?_
  refine J_newa_int (σ' := fun a6 => j_up (wTP E a0 α5 6) (6 + 1) (some (a6, .inl (E.2.2 (tB 6), tN 6, .inl (fun _ => zI 0))))) (6 + 1) 4 q159 rfl (Nat.le_of_ble_eq_true rfl) (Nat.le_of_ble_eq_true rfl) (Nat.le_of_ble_eq_true rfl) (fun a6 => rfl) dX2_init_39 (fun a6 => ?_)
  refine J_putF (σ' := j_up (j_up (wTP E a0 α5 6) (6 + 1) (some (a6, .inl (E.2.2 (tB 6), tN 6, .inl (fun _ => zI 0))))) 0 (some (a0, .inr (0, updV (tP a0 α5 6) 6 (.ref a6))))) 0 6 rfl rfl in_X2 tyX2_ok nmX2 (by decide) q1583 rfl rfl rfl rfl rfl rfl rfl dX2_init_41 ?_
  refine J_w (wTP_s (k := 6) (b := 6) rfl (by decide) (by decide)) ?_
  generalize upA α5 (6 + 1) a6 = α6
  refine J_aload_n dX2_init_44 rfl ?_
  refine J_sipush (zI 480) dX2_init_45 rfl ?_
  refine J_newa_byte (σ' := fun a7 => j_up (wTP E a0 α6 7) (7 + 1) (some (a7, .inl (E.2.2 (tB 7), tN 7, .inl (fun _ => zI 0))))) (7 + 1) 480 q363 rfl (Nat.le_of_ble_eq_true rfl) (Nat.le_of_ble_eq_true rfl) (Nat.le_of_ble_eq_true rfl) (fun a7 => rfl) dX2_init_48 (fun a7 => ?_)
  refine J_putF (σ' := j_up (j_up (wTP E a0 α6 7) (7 + 1) (some (a7, .inl (E.2.2 (tB 7), tN 7, .inl (fun _ => zI 0))))) 0 (some (a0, .inr (0, updV (tP a0 α6 7) 7 (.ref a7))))) 0 7 rfl rfl in_X2 tyX2_ok nmX2 (by decide) q1584 rfl rfl rfl rfl rfl rfl rfl dX2_init_50 ?_
  refine J_w (wTP_s (k := 7) (b := 7) rfl (by decide) (by decide)) ?_
  generalize upA α6 (7 + 1) a7 = α7
  refine J_aload_n dX2_init_53 rfl ?_
  refine J_bipush (zI 56) dX2_init_54 rfl ?_
  refine J_newa_int (σ' := fun a12 => j_up (wTP E a0 α7 8) (12 + 1) (some (a12, .inl (E.2.2 (tB 12), tN 12, .inl (fun _ => zI 0))))) (12 + 1) 56 q159 rfl (Nat.le_of_ble_eq_true rfl) (Nat.le_of_ble_eq_true rfl) (Nat.le_of_ble_eq_true rfl) (fun a12 => rfl) dX2_init_56 (fun a12 => ?_)
  refine J_putF (σ' := j_up (j_up (wTP E a0 α7 8) (12 + 1) (some (a12, .inl (E.2.2 (tB 12), tN 12, .inl (fun _ => zI 0))))) 0 (some (a0, .inr (0, updV (tP a0 α7 8) 12 (.ref a12))))) 0 12 rfl rfl in_X2 tyX2_ok nmX2 (by decide) q1589 rfl rfl rfl rfl rfl rfl rfl dX2_init_58 ?_
  refine J_w (wTP_s (k := 12) (b := 8) rfl (by decide) (by decide)) ?_
  generalize upA α7 (12 + 1) a12 = α12
  refine J_aload_n dX2_init_61 rfl ?_
  refine J_bipush (zI 56) dX2_init_62 rfl ?_
  refine J_newa_int (σ' := fun a22 => j_up (wTP E a0 α12 13) (22 + 1) (some (a22, .inl (E.2.2 (tB 22), tN 22, .inl (fun _ => zI 0))))) (22 + 1) 56 q159 rfl (Nat.le_of_ble_eq_true rfl) (Nat.le_of_ble_eq_true rfl) (Nat.le_of_ble_eq_true rfl) (fun a22 => rfl) dX2_init_64 (fun a22 => ?_)
  refine J_putF (σ' := j_up (j_up (wTP E a0 α12 13) (22 + 1) (some (a22, .inl (E.2.2 (tB 22), tN 22, .inl (fun _ => zI 0))))) 0 (some (a0, .inr (0, updV (tP a0 α12 13) 22 (.ref a22))))) 0 22 rfl rfl in_X2 tyX2_ok nmX2 (by decide) q1599 rfl rfl rfl rfl rfl rfl rfl dX2_init_66 ?_
  refine J_w (wTP_s (k := 22) (b := 13) rfl (by decide) (by decide)) ?_
  generalize upA α12 (22 + 1) a22 = α22
  refine J_aload_n dX2_init_69 rfl ?_
  refine J_bipush (zI 33) dX2_init_70 rfl ?_
  refine J_newa_int (σ' := fun a23 => j_up (wTP E a0 α22 23) (23 + 1) (some (a23, .inl (E.2.2 (tB 23), tN 23, .inl (fun _ => zI 0))))) (23 + 1) 33 q159 rfl (Nat.le_of_ble_eq_true rfl) (Nat.le_of_ble_eq_true rfl) (Nat.le_of_ble_eq_true rfl) (fun a23 => rfl) dX2_init_72 (fun a23 => ?_)
  refine J_putF (σ' := j_up (j_up (wTP E a0 α22 23) (23 + 1) (some (a23, .inl (E.2.2 (tB 23), tN 23, .inl (fun _ => zI 0))))) 0 (some (a0, .inr (0, updV (tP a0 α22 23) 23 (.ref a23))))) 0 23 rfl rfl in_X2 tyX2_ok nmX2 (by decide) q1600 rfl rfl rfl rfl rfl rfl rfl dX2_init_74 ?_
  refine J_w (wTP_s (k := 23) (b := 23) rfl (by decide) (by decide)) ?_
  generalize upA α22 (23 + 1) a23 = α23
  refine J_aload_n dX2_init_77 rfl ?_
  refine J_bipush (zI 120) dX2_init_78 rfl ?_
  refine J_newa_byte (σ' := fun a25 => j_up (wTP E a0 α23 24) (25 + 1) (some (a25, .inl (E.2.2 (tB 25), tN 25, .inl (fun _ => zI 0))))) (25 + 1) 120 q363 rfl (Nat.le_of_ble_eq_true rfl) (Nat.le_of_ble_eq_true rfl) (Nat.le_of_ble_eq_true rfl) (fun a25 => rfl) dX2_init_80 (fun a25 => ?_)
  refine J_putF (σ' := j_up (j_up (wTP E a0 α23 24) (25 + 1) (some (a25, .inl (E.2.2 (tB 25), tN 25, .inl (fun _ => zI 0))))) 0 (some (a0, .inr (0, updV (tP a0 α23 24) 25 (.ref a25))))) 0 25 rfl rfl in_X2 tyX2_ok nmX2 (by decide) q1602 rfl rfl rfl rfl rfl rfl rfl dX2_init_82 ?_
  refine J_w (wTP_s (k := 25) (b := 24) rfl (by decide) (by decide)) ?_
  generalize upA α23 (25 + 1) a25 = α25
  refine J_aload_n dX2_init_85 rfl ?_
  refine J_sipush (zI 256) dX2_init_86 rfl ?_
  refine J_newa_int (σ' := fun a26 => j_up (wTP E a0 α25 26) (26 + 1) (some (a26, .inl (E.2.2 (tB 26), tN 26, .inl (fun _ => zI 0))))) (26 + 1) 256 q159 rfl (Nat.le_of_ble_eq_true rfl) (Nat.le_of_ble_eq_true rfl) (Nat.le_of_ble_eq_true rfl) (fun a26 => rfl) dX2_init_89 (fun a26 => ?_)
  refine J_putF (σ' := j_up (j_up (wTP E a0 α25 26) (26 + 1) (some (a26, .inl (E.2.2 (tB 26), tN 26, .inl (fun _ => zI 0))))) 0 (some (a0, .inr (0, updV (tP a0 α25 26) 26 (.ref a26))))) 0 26 rfl rfl in_X2 tyX2_ok nmX2 (by decide) q1603 rfl rfl rfl rfl rfl rfl rfl dX2_init_91 ?_
  refine J_w (wTP_s (k := 26) (b := 26) rfl (by decide) (by decide)) ?_
  generalize upA α25 (26 + 1) a26 = α26
  refine J_aload_n dX2_init_94 rfl ?_
  refine J_sipush (zI 4096) dX2_init_95 rfl ?_
  refine J_newa_int (σ' := fun a28 => j_up (wTP E a0 α26 27) (28 + 1) (some (a28, .inl (E.2.2 (tB 28), tN 28, .inl (fun _ => zI 0))))) (28 + 1) 4096 q159 rfl (Nat.le_of_ble_eq_true rfl) (Nat.le_of_ble_eq_true rfl) (Nat.le_of_ble_eq_true rfl) (fun a28 => rfl) dX2_init_98 (fun a28 => ?_)
  refine J_putF (σ' := j_up (j_up (wTP E a0 α26 27) (28 + 1) (some (a28, .inl (E.2.2 (tB 28), tN 28, .inl (fun _ => zI 0))))) 0 (some (a0, .inr (0, updV (tP a0 α26 27) 28 (.ref a28))))) 0 28 rfl rfl in_X2 tyX2_ok nmX2 (by decide) q1605 rfl rfl rfl rfl rfl rfl rfl dX2_init_100 ?_
  refine J_w (wTP_s (k := 28) (b := 27) rfl (by decide) (by decide)) ?_
  generalize upA α26 (28 + 1) a28 = α28
  refine J_aload_n dX2_init_103 rfl ?_
  refine J_sipush (zI 4096) dX2_init_104 rfl ?_
  refine J_newa_int (σ' := fun a29 => j_up (wTP E a0 α28 29) (29 + 1) (some (a29, .inl (E.2.2 (tB 29), tN 29, .inl (fun _ => zI 0))))) (29 + 1) 4096 q159 rfl (Nat.le_of_ble_eq_true rfl) (Nat.le_of_ble_eq_true rfl) (Nat.le_of_ble_eq_true rfl) (fun a29 => rfl) dX2_init_107 (fun a29 => ?_)
  refine J_putF (σ' := j_up (j_up (wTP E a0 α28 29) (29 + 1) (some (a29, .inl (E.2.2 (tB 29), tN 29, .inl (fun _ => zI 0))))) 0 (some (a0, .inr (0, updV (tP a0 α28 29) 29 (.ref a29))))) 0 29 rfl rfl in_X2 tyX2_ok nmX2 (by decide) q1606 rfl rfl rfl rfl rfl rfl rfl dX2_init_109 ?_
  refine J_w (wTP_s (k := 29) (b := 29) rfl (by decide) (by decide)) ?_
  generalize upA α28 (29 + 1) a29 = α29
  refine J_aload_n dX2_init_112 rfl ?_
  refine J_sipush (zI 4096) dX2_init_113 rfl ?_
  refine J_newa_int (σ' := fun a30 => j_up (wTP E a0 α29 30) (30 + 1) (some (a30, .inl (E.2.2 (tB 30), tN 30, .inl (fun _ => zI 0))))) (30 + 1) 4096 q159 rfl (Nat.le_of_ble_eq_true rfl) (Nat.le_of_ble_eq_true rfl) (Nat.le_of_ble_eq_true rfl) (fun a30 => rfl) dX2_init_116 (fun a30 => ?_)
  refine J_putF (σ' := j_up (j_up (wTP E a0 α29 30) (30 + 1) (some (a30, .inl (E.2.2 (tB 30), tN 30, .inl (fun _ => zI 0))))) 0 (some (a0, .inr (0, updV (tP a0 α29 30) 30 (.ref a30))))) 0 30 rfl rfl in_X2 tyX2_ok nmX2 (by decide) q1607 rfl rfl rfl rfl rfl rfl rfl dX2_init_118 ?_
  refine J_w (wTP_s (k := 30) (b := 30) rfl (by decide) (by decide)) ?_
  generalize upA α29 (30 + 1) a30 = α30
  refine J_aload_n dX2_init_121 rfl ?_
  refine J_sipush (zI 4096) dX2_init_122 rfl ?_
  refine J_newa_int (σ' := fun a31 => j_up (wTP E a0 α30 31) (31 + 1) (some (a31, .inl (E.2.2 (tB 31), tN 31, .inl (fun _ => zI 0))))) (31 + 1) 4096 q159 rfl (Nat.le_of_ble_eq_true rfl) (Nat.le_of_ble_eq_true rfl) (Nat.le_of_ble_eq_true rfl) (fun a31 => rfl) dX2_init_125 (fun a31 => ?_)
  refine J_putF (σ' := j_up (j_up (wTP E a0 α30 31) (31 + 1) (some (a31, .inl (E.2.2 (tB 31), tN 31, .inl (fun _ => zI 0))))) 0 (some (a0, .inr (0, updV (tP a0 α30 31) 31 (.ref a31))))) 0 31 rfl rfl in_X2 tyX2_ok nmX2 (by decide) q1608 rfl rfl rfl rfl rfl rfl rfl dX2_init_127 ?_
  refine J_w (wTP_s (k := 31) (b := 31) rfl (by decide) (by decide)) ?_
  generalize upA α30 (31 + 1) a31 = α31
  refine J_aload_n dX2_init_130 rfl ?_
  refine J_sipush (zI 1320) dX2_init_131 rfl ?_
  refine J_newa_int (σ' := fun a37 => j_up (wTP E a0 α31 32) (37 + 1) (some (a37, .inl (E.2.2 (tB 37), tN 37, .inl (fun _ => zI 0))))) (37 + 1) 1320 q159 rfl (Nat.le_of_ble_eq_true rfl) (Nat.le_of_ble_eq_true rfl) (Nat.le_of_ble_eq_true rfl) (fun a37 => rfl) dX2_init_134 (fun a37 => ?_)
  refine J_putF (σ' := j_up (j_up (wTP E a0 α31 32) (37 + 1) (some (a37, .inl (E.2.2 (tB 37), tN 37, .inl (fun _ => zI 0))))) 0 (some (a0, .inr (0, updV (tP a0 α31 32) 37 (.ref a37))))) 0 37 rfl rfl in_X2 tyX2_ok nmX2 (by decide) q1614 rfl rfl rfl rfl rfl rfl rfl dX2_init_136 ?_
  refine J_w (wTP_s (k := 37) (b := 32) rfl (by decide) (by decide)) ?_
  generalize upA α31 (37 + 1) a37 = α37
  refine J_aload_n dX2_init_139 rfl ?_
  refine J_iconst (zI 3) dX2_init_140 rfl ?_
  refine J_newa_int (σ' := fun a38 => j_up (wTP E a0 α37 38) (38 + 1) (some (a38, .inl (E.2.2 (tB 38), tN 38, .inl (fun _ => zI 0))))) (38 + 1) 3 q159 rfl (Nat.le_of_ble_eq_true rfl) (Nat.le_of_ble_eq_true rfl) (Nat.le_of_ble_eq_true rfl) (fun a38 => rfl) dX2_init_141 (fun a38 => ?_)
  refine J_putF (σ' := j_up (j_up (wTP E a0 α37 38) (38 + 1) (some (a38, .inl (E.2.2 (tB 38), tN 38, .inl (fun _ => zI 0))))) 0 (some (a0, .inr (0, updV (tP a0 α37 38) 38 (.ref a38))))) 0 38 rfl rfl in_X2 tyX2_ok nmX2 (by decide) q1615 rfl rfl rfl rfl rfl rfl rfl dX2_init_143 ?_
  refine J_w (wTP_s (k := 38) (b := 38) rfl (by decide) (by decide)) ?_
  generalize upA α37 (38 + 1) a38 = α38
  refine J_aload_n dX2_init_146 rfl ?_
  refine J_sipush (zI 4059) dX2_init_147 rfl ?_
  refine J_newa_int (σ' := fun a39 => j_up (wTP E a0 α38 39) (39 + 1) (some (a39, .inl (E.2.2 (tB 39), tN 39, .inl (fun _ => zI 0))))) (39 + 1) 4059 q159 rfl (Nat.le_of_ble_eq_true rfl) (Nat.le_of_ble_eq_true rfl) (Nat.le_of_ble_eq_true rfl) (fun a39 => rfl) dX2_init_150 (fun a39 => ?_)
  refine J_putF (σ' := j_up (j_up (wTP E a0 α38 39) (39 + 1) (some (a39, .inl (E.2.2 (tB 39), tN 39, .inl (fun _ => zI 0))))) 0 (some (a0, .inr (0, updV (tP a0 α38 39) 39 (.ref a39))))) 0 39 rfl rfl in_X2 tyX2_ok nmX2 (by decide) q1616 rfl rfl rfl rfl rfl rfl rfl dX2_init_152 ?_
  refine J_w (wTP_s (k := 39) (b := 39) rfl (by decide) (by decide)) ?_
  generalize upA α38 (39 + 1) a39 = α39
  refine J_aload_n dX2_init_155 rfl ?_
  refine J_bipush (zI 33) dX2_init_156 rfl ?_
  refine J_newa_int (σ' := fun a40 => j_up (wTP E a0 α39 40) (40 + 1) (some (a40, .inl (E.2.2 (tB 40), tN 40, .inl (fun _ => zI 0))))) (40 + 1) 33 q159 rfl (Nat.le_of_ble_eq_true rfl) (Nat.le_of_ble_eq_true rfl) (Nat.le_of_ble_eq_true rfl) (fun a40 => rfl) dX2_init_158 (fun a40 => ?_)
  refine J_putF (σ' := j_up (j_up (wTP E a0 α39 40) (40 + 1) (some (a40, .inl (E.2.2 (tB 40), tN 40, .inl (fun _ => zI 0))))) 0 (some (a0, .inr (0, updV (tP a0 α39 40) 40 (.ref a40))))) 0 40 rfl rfl in_X2 tyX2_ok nmX2 (by decide) q1617 rfl rfl rfl rfl rfl rfl rfl dX2_init_160 ?_
  refine J_w (wTP_s (k := 40) (b := 40) rfl (by decide) (by decide)) ?_
  generalize upA α39 (40 + 1) a40 = α40
  refine J_w (wTP_e (b := 41) (fun k h => tK_41 h)) ?_
  refine J_fromW ?_
  exact tl_init163 (α := upA α40 0 a0) (fun τ h => hq _ τ rfl h)
