set_option maxRecDepth 100000
/-! the component: methods with handlers -/
abbrev jX0_row (E : jEnv) (α : Nat → Nat) := J E (wC E α) (cX E, some yX0_row) cX0_row 4 (some .int) RX0 (jRx 9 12 400) 0 0
abbrev jX0_at (E : jEnv) (α : Nat → Nat) := J E (wC E α) (cX E, some yX0_at) cX0_at 4 (some .int) RX0 (jRx 9 12 400) 0 0
abbrev jX0_mean (E : jEnv) (α : Nat → Nat) := J E (wC E α) (cX E, some yX0_mean) cX0_mean 8 (some .int) RX0 (jRx 9 12 400) 0 0
abbrev jX0_text (E : jEnv) (α : Nat → Nat) := J E (wC E α) (cX E, some yX0_text) cX0_text 5 (some .int) RX0 (jRx 9 12 400) 0 0
abbrev jX0_put (E : jEnv) (α : Nat → Nat) := J E (wC E α) (cX E, some yX0_put) cX0_put 5 (some .int) RX0 (jRx 9 12 400) 0 0
/-- rows and texts may differ, and the ints I -/
def cT (I : List Nat) (σ σ' : cS) : Prop := (∀ k, k ∉ I → σ'.i k = σ.i k) ∧ σ'.a = σ.a ∧ σ'.h = σ.h ∧ σ'.fr = σ.fr ∧ σ'.rf = σ.rf ∧ σ'.kp = σ.kp ∧ σ'.ru = σ.ru ∧ σ'.rd = σ.rd ∧ σ'.d = σ.d
theorem cT.refl {I : List Nat} {σ : cS} : cT I σ σ := ⟨fun _ _ => rfl, rfl, rfl, rfl, rfl, rfl, rfl, rfl, rfl⟩
theorem cT.ro {I : List Nat} {σ τ : cS} (h : cT I σ τ) {r : Nat} {x : _} : cT I σ (cRo τ r x) := h
theorem cT.tx {I : List Nat} {σ τ : cS} (h : cT I σ τ) {r : Nat} {x : _} : cT I σ (cTx τ r x) := h
theorem cT.sI {I : List Nat} {a b : cS} (h : cT I a b) {k : Nat} {v : Int32} (hk : k ∈ I) : cT I a (cI b k v) := ⟨fun j hj => (by
  have e : (cI b k v).i j = b.i j := if_neg (fun z : j = k => hj (z ▸ hk))
  rw [e]; exact h.1 j hj), h.2⟩
theorem cD_none {σ : cS} {x : Option (Nat × jE)} (hd : σ.d 0 = none) : cD (cD σ 0 x) 0 none = σ := by
  have e : (fun i => if i = 0 then (none : Option (Nat × jE)) else if i = 0 then x else σ.d i) = σ.d := by
    funext i
    by_cases z : i = 0
    · rw [if_pos z, z, hd]
    · rw [if_neg z, if_neg z]
  rw [cD_dd (σ := σ), cD_dd2, e]
  rfl
theorem cDt_ro {rs : Nat → Int} {rd : Nat → Nat → Int32} {ts : Nat → Int} {tb : Nat → Nat → Int} {σ : cS} {r a N : Nat} {f g : Nat → Int32} (h : cDt rs rd ts tb σ) (hN : N ≤ 40) (hf : ∀ i, i < N → f i = g i) : cDt (upk rs r N) (upk rd r g) ts tb (cRo σ r (some (a, N, f))) := by
  refine ⟨fun q hq => ?_, h.2⟩
  unfold upk
  by_cases z : q = r
  · subst z; rw [if_pos rfl, if_pos rfl]; exact Or.inr ⟨a, N, f, if_pos rfl, rfl, hN, hf⟩
  · rw [if_neg z, if_neg z]
    have e : (cRo σ r (some (a, N, f))).ro q = σ.ro q := if_neg z
    rw [e]; exact h.1 q hq
theorem cDt_tx {rs : Nat → Int} {rd : Nat → Nat → Int32} {ts : Nat → Int} {tb : Nat → Nat → Int} {σ : cS} {r a N : Nat} {f : Nat → Int32} {g : Nat → Int} (h : cDt rs rd ts tb σ) (hN : N ≤ 120) (hf : ∀ i, i < N → f i = zI (g i)) : cDt rs rd (upk ts r N) (upk tb r g) (cTx σ r (some (a, N, f))) := by
  refine ⟨h.1, fun q hq => ?_⟩
  unfold upk
  by_cases z : q = r
  · subst z; rw [if_pos rfl, if_pos rfl]; exact Or.inr ⟨a, N, f, if_pos rfl, rfl, hN, hf⟩
  · rw [if_neg z, if_neg z]
    have e : (cTx σ r (some (a, N, f))).tx q = σ.tx q := if_neg z
    rw [e]; exact h.2 q hq
theorem upk_same {β : Type} {f : Nat → β} {k : Nat} : upk f k (f k) = f := by
  funext j
  unfold upk
  by_cases z : j = k
  · rw [if_pos z, z]
  · rw [if_neg z]
theorem cDt_lay {rs : Nat → Int} {rd : Nat → Nat → Int32} {ts : Nat → Int} {tb : Nat → Nat → Int} {σ : cS} {r a N i : Nat} {f : Nat → Int32} {x : Int32} (h : cDt rs rd ts tb σ) (hr : r < 6) (hx : σ.ro r = some (a, N, f)) : cDt rs (upk rd r (upk (rd r) i x)) ts tb (cRo σ r (some (a, N, upd f i x))) := by
  rcases h.1 r hr with ⟨z1, z2⟩ | ⟨a', N', f', z1, z2, z3, z4⟩
  · rw [z2] at hx; cases hx
  · rw [hx] at z1; cases z1
    have e := cDt_ro (a := a) (N := N) (r := r) (f := upd f i x) (g := upk (rd r) i x) h z3 (fun j hj => by
      unfold upd upk
      by_cases z : j = i
      · rw [if_pos z, if_pos z]
      · rw [if_neg z, if_neg z]; exact z4 j hj)
    rwa [← z2, upk_same] at e
theorem cDt_put {rs : Nat → Int} {rd : Nat → Nat → Int32} {ts : Nat → Int} {tb : Nat → Nat → Int} {σ : cS} {r a N i : Nat} {f : Nat → Int32} {x : Int} {v : Int32} (h : cDt rs rd ts tb σ) (hr : r < 4) (hv : v = zI x) (hx : σ.tx r = some (a, N, f)) : cDt rs rd ts (upk tb r (upk (tb r) i x)) (cTx σ r (some (a, N, upd f i v))) := by
  rcases h.2 r hr with ⟨z1, z2⟩ | ⟨a', N', f', z1, z2, z3, z4⟩
  · rw [z2] at hx; cases hx
  · rw [hx] at z1; cases z1
    have e := cDt_tx (a := a) (N := N) (r := r) (f := upd f i v) (g := upk (tb r) i x) h z3 (fun j hj => by
      unfold upd upk
      by_cases z : j = i
      · rw [if_pos z, if_pos z, hv]
      · rw [if_neg z, if_neg z]; exact z4 j hj)
    rwa [← z2, upk_same] at e
theorem vp_out {z : Int} {N : Nat} (hN : N ≤ 1000000) (rz : zR z) (h : ¬ (0 ≤ z ∧ z < N)) : ¬ vp_in (zI z) N := by
  intro q
  have q1 : ¬ (zI z < 0) := fun y => q (Or.inl y)
  have q2 : ¬ (N ≤ (zI z).toNatClampNeg) := fun y => q (Or.inr y)
  have z0 : 0 ≤ z := by
    rcases Int.lt_or_le z 0 with y | y
    · exact absurd ((zI_lt rz zR_0).mpr y) q1
    · exact y
  have e : (zI z).toInt = z := zI_toInt rz
  have : (zI z).toNatClampNeg = z.toNat := by show (zI z).toInt.toNat = _; rw [e]
  omega
theorem c_row_bad {E : jEnv} {α : Nat → Nat} {σ : cS} {Q : Option Value → cS → Prop} {v n : Int} (rv : zR v) (rn : zR n) (hv : ¬ (0 ≤ v ∧ v ≤ 5) ∨ 40 < n) (hq : Q (some (.int (zI (-1)))) σ) : jX0_row E α 0 [some (.ref (α 0)), some (.int (zI (v))), some (.int (zI (n))), none] [] σ Q := by
  refine J_iload_n dX0_row_0 rfl ?_
  refine CC_X0_isRow (by decide) (by decide) (Nat.le_of_ble_eq_true rfl) dX0_row_1 ?_
  refine c_isRow (by unfold zR at *; omega) (fun b1 => ?_) (fun b1 => ?_)
  · refine J_ri ?_
    refine J_if_eq_n (tgt := 13) dX0_row_4 (by decide) (by decide) ?_
    refine J_iload_n dX0_row_7 rfl ?_
    refine J_bipush (zI 40) dX0_row_8 rfl ?_
    refine J_icmp_le_z (tgt := 15) dX0_row_10 (by decide) (by unfold zR at *; omega) (by unfold zR at *; omega) (fun c10 => ?_) (fun c10 => ?_)
    · exfalso; omega
    · skip
      refine J_iconst (zI (-1)) dX0_row_13 rfl ?_
      exact J_iret rfl dX0_row_14 (by exact hq)
  · refine J_ri ?_
    refine J_if_eq_y (tgt := 13) dX0_row_4 (by decide) (by decide) ?_
    refine J_iconst (zI (-1)) dX0_row_13 rfl ?_
    exact J_iret rfl dX0_row_14 (by exact hq)
theorem c_row_neg {E : jEnv} {α : Nat → Nat} {σ : cS} {Q : Option Value → cS → Prop} {r : Nat} {n : Int} (hr : r < 6) (rn : zR n) (hn : n < 0) (hq : Q (some (.int (zI (-3)))) (cAr (cI σ 0 (zI 5)) 1 (upd (σ.a 1) 5 (σ.a 1 5 + zI 1)))) : jX0_row E α 0 [some (.ref (α 0)), some (.int (zI (r : Nat))), some (.int (zI (n))), none] [] σ Q := by
  have hn0 : zI n < 0 := (zI_lt rn zR_0).mpr hn
  refine J_iload_n dX0_row_0 rfl ?_
  refine CC_X0_isRow (by decide) (by decide) (Nat.le_of_ble_eq_true rfl) dX0_row_1 ?_
  refine c_isRow (by unfold zR at *; omega) (fun b1 => ?_) (fun b1 => ?_)
  · refine J_ri ?_
    refine J_if_eq_n (tgt := 13) dX0_row_4 (by decide) (by decide) ?_
    refine J_iload_n dX0_row_7 rfl ?_
    refine J_bipush (zI 40) dX0_row_8 rfl ?_
    refine J_icmp_le_z (tgt := 15) dX0_row_10 (by decide) (by unfold zR at *; omega) (by unfold zR at *; omega) (fun c10 => ?_) (fun c10 => ?_)
    · skip
      refine J_aload_n dX0_row_15 rfl ?_
      refine CG_rows dX0_row_16 ?_
      refine J_iload_n dX0_row_19 rfl ?_
      refine J_iload_n dX0_row_20 rfl ?_
      refine J_newaZ hn0 dX0_row_21 (fun tx htx => ?_)
      refine JN_catch (y := yX0_row) (hh := [(15, 25, 26, 86)]) (names := ["java/lang/RuntimeException", "java/lang/Exception"]) (nb := 44) [] ⟨15, 25, 26, 86⟩ [] rfl rfl q281 ex_neg exg_neg (by decide +kernel) (by rw [htx]; exact negative_text_modelled hn0) (by rw [htx]; exact negative_text_bytes _) (by decide) (by decide) (Nat.le_of_ble_eq_true rfl) (by decide) (by decide) rfl (fun z hz => by cases hz) rfl (by decide) q282 q345 (fun q9 => ?_)
      refine J_astore_n dX0_row_26 rfl (by decide) _ rfl ?_
      refine J_aload_n dX0_row_27 rfl ?_
      refine J_iconst (zI 5) dX0_row_28 rfl ?_
      refine CC_X0_found (by decide) (by decide) (Nat.le_of_ble_eq_true rfl) dX0_row_29 ?_
      refine c_found (m := _) (by decide) ?_
      refine J_ri ?_
      exact J_iret rfl dX0_row_32 (by exact hq)
    · exfalso; omega
  · exfalso; omega
theorem c_row {E : jEnv} {α : Nat → Nat} {σ : cS} {Q : Option Value → cS → Prop} {rs : Nat → Int} {rd : Nat → Nat → Int32} {ts : Nat → Int} {tb : Nat → Nat → Int} {r n : Nat} (hDt : cDt rs rd ts tb σ) (hd : σ.d 0 = none) (hr : r < 6) (hn : n ≤ 40) (hq : ∀ σ1, cT [] σ σ1 → cDt (upk rs r n) (upk rd r (fun _ => zI 0)) ts tb σ1 → Q (some (.int (zI (n : Nat)))) σ1) : jX0_row E α 0 [some (.ref (α 0)), some (.int (zI (r : Nat))), some (.int (zI (n : Nat))), none] [] σ Q := by
  refine J_iload_n dX0_row_0 rfl ?_
  refine CC_X0_isRow (by decide) (by decide) (Nat.le_of_ble_eq_true rfl) dX0_row_1 ?_
  refine c_isRow (by unfold zR at *; omega) (fun b1 => ?_) (fun b1 => ?_)
  · refine J_ri ?_
    refine J_if_eq_n (tgt := 13) dX0_row_4 (by decide) (by decide) ?_
    refine J_iload_n dX0_row_7 rfl ?_
    refine J_bipush (zI 40) dX0_row_8 rfl ?_
    refine J_icmp_le_z (tgt := 15) dX0_row_10 (by decide) (by unfold zR at *; omega) (by unfold zR at *; omega) (fun c10 => ?_) (fun c10 => ?_)
    · skip
      refine J_aload_n dX0_row_15 rfl ?_
      refine CG_rows dX0_row_16 ?_
      refine J_iload_n dX0_row_19 rfl ?_
      refine J_iload_n dX0_row_20 rfl ?_
      refine J_newa_int (σ' := fun a1 => cD σ 0 (some (a1, .inl (E.2.2 0, n, .inl (fun _ => zI 0))))) 200 n q159 rfl (by omega) (by decide) (show 0 + n ≤ 400 by omega) (fun a1 => wC_D 0 _) dX0_row_21 (fun a1 => ?_)
      refine CA_roS hr rfl rfl dX0_row_23 ?_
      refine J_w (σ' := cRo σ r (some (a1, n, fun _ => zI 0))) (cD_none (σ := cRo σ r (some (a1, n, fun _ => zI 0))) hd) ?_
      refine J_iload_n dX0_row_24 rfl ?_
      exact J_iret rfl dX0_row_25 (by exact hq _ cT.refl.ro (cDt_ro hDt hn (fun _ _ => rfl)))
    · exfalso; omega
  · exfalso; omega
theorem c_at_bad {E : jEnv} {α : Nat → Nat} {σ : cS} {Q : Option Value → cS → Prop} {v i : Int} (rv : zR v) (hv : ¬ (0 ≤ v ∧ v ≤ 5)) (hq : Q (some (.int (zI (-1)))) σ) : jX0_at E α 0 [some (.ref (α 0)), some (.int (zI (v))), some (.int (zI (i))), none] [] σ Q := by
  refine J_iload_n dX0_at_0 rfl ?_
  refine CC_X0_isRow (by decide) (by decide) (Nat.le_of_ble_eq_true rfl) dX0_at_1 ?_
  refine c_isRow (by unfold zR at *; omega) (fun b1 => ?_) (fun b1 => ?_)
  · exfalso; omega
  · refine J_ri ?_
    refine J_if_ne_n (tgt := 9) dX0_at_4 (by decide) (by decide) ?_
    refine J_iconst (zI (-1)) dX0_at_7 rfl ?_
    exact J_iret rfl dX0_at_8 (by exact hq)
theorem c_at_no {E : jEnv} {α : Nat → Nat} {σ : cS} {Q : Option Value → cS → Prop} {rs : Nat → Int} {rd : Nat → Nat → Int32} {ts : Nat → Int} {tb : Nat → Nat → Int} {r : Nat} {i : Int} (hDt : cDt rs rd ts tb σ) (hr : r < 6) (h0 : rs r = -1) (hq : Q (some (.int (zI (-3)))) (cAr (cI σ 0 (zI 1)) 1 (upd (σ.a 1) 1 (σ.a 1 1 + zI 1)))) : jX0_at E α 0 [some (.ref (α 0)), some (.int (zI (r : Nat))), some (.int (zI (i))), none] [] σ Q := by
  have hn : σ.ro r = none := by
    rcases hDt.1 r hr with z | ⟨a, N, g, z2, z3, z4⟩
    · exact z.2
    · omega
  refine J_iload_n dX0_at_0 rfl ?_
  refine CC_X0_isRow (by decide) (by decide) (Nat.le_of_ble_eq_true rfl) dX0_at_1 ?_
  refine c_isRow (by unfold zR at *; omega) (fun b1 => ?_) (fun b1 => ?_)
  · refine J_ri ?_
    refine J_if_ne_y (tgt := 9) dX0_at_4 (by decide) (by decide) ?_
    refine J_aload_n dX0_at_9 rfl ?_
    refine J_aload_n dX0_at_10 rfl ?_
    refine CG_rows dX0_at_11 ?_
    refine J_iload_n dX0_at_14 rfl ?_
    refine CA_roN hn (by omega) (by omega) dX0_at_15 ?_
    refine J_iload_n dX0_at_16 rfl ?_
    refine J_ialdX dX0_at_17 ?_
    refine JNn_catch (y := yX0_at) (hh := [(9, 22, 23, 99), (9, 22, 30, 101)]) [] ⟨9, 22, 23, 99⟩ [⟨9, 22, 30, 101⟩] rfl rfl q385 (by decide) (Nat.le_of_ble_eq_true rfl) (by decide) (by decide) rfl (fun z hz => by cases hz) rfl (by decide) q386 q408 (fun q9 => ?_)
    refine J_astore_n dX0_at_23 rfl (by decide) _ rfl ?_
    refine J_aload_n dX0_at_24 rfl ?_
    refine J_iconst (zI 1) dX0_at_25 rfl ?_
    refine CC_X0_found (by decide) (by decide) (Nat.le_of_ble_eq_true rfl) dX0_at_26 ?_
    refine c_found (m := _) (by decide) ?_
    refine J_ri ?_
    exact J_iret rfl dX0_at_29 (by exact hq)
  · exfalso; omega
theorem c_at_out {E : jEnv} {α : Nat → Nat} {σ : cS} {Q : Option Value → cS → Prop} {rs : Nat → Int} {rd : Nat → Nat → Int32} {ts : Nat → Int} {tb : Nat → Nat → Int} {r : Nat} {i : Int} (hDt : cDt rs rd ts tb σ) (hr : r < 6) (h0 : 0 ≤ rs r) (ri : zR i) (hi : ¬ (0 ≤ i ∧ i < rs r)) (hq : Q (some (.int (zI (-3)))) (cAr (cI σ 0 (zI 2)) 1 (upd (σ.a 1) 2 (σ.a 1 2 + zI 1)))) : jX0_at E α 0 [some (.ref (α 0)), some (.int (zI (r : Nat))), some (.int (zI (i))), none] [] σ Q := by
  obtain ⟨a, N, g, hx, hN, hN4, hg⟩ : ∃ a N f, σ.ro r = some (a, N, f) ∧ rs r = (N : Nat) ∧ N ≤ 40 ∧ ∀ i, i < N → f i = rd r i := by
    rcases hDt.1 r hr with z | z
    · omega
    · exact z
  rw [hN] at hi
  refine J_iload_n dX0_at_0 rfl ?_
  refine CC_X0_isRow (by decide) (by decide) (Nat.le_of_ble_eq_true rfl) dX0_at_1 ?_
  refine c_isRow (by unfold zR at *; omega) (fun b1 => ?_) (fun b1 => ?_)
  · refine J_ri ?_
    refine J_if_ne_y (tgt := 9) dX0_at_4 (by decide) (by decide) ?_
    refine J_aload_n dX0_at_9 rfl ?_
    refine J_aload_n dX0_at_10 rfl ?_
    refine CG_rows dX0_at_11 ?_
    refine J_iload_n dX0_at_14 rfl ?_
    refine CA_ro hx (by omega) (by omega) dX0_at_15 ?_
    refine J_iload_n dX0_at_16 rfl ?_
    refine J_ialdZ (N := N) (f := g) (100 + r) (by rw [wC_ro hr, hx]; rfl) (vp_out (by omega) ri hi) dX0_at_17 (fun tx htx => ?_)
    refine JN_catch (y := yX0_at) (hh := [(9, 22, 23, 99), (9, 22, 30, 101)]) (names := ["java/lang/IndexOutOfBoundsException", "java/lang/RuntimeException", "java/lang/Exception"]) (nb := 212) [⟨9, 22, 23, 99⟩] ⟨9, 22, 30, 101⟩ [] rfl rfl q385 ex_ix exg_ix (by decide +kernel) (by rw [htx]; exact index_text_modelled _ _) (by rw [htx]; exact index_text_bytes _ (by omega)) (by decide) (by decide) (Nat.le_of_ble_eq_true rfl) (by decide) (by decide) rfl (fun z hz => by
      rw [List.mem_singleton] at hz
      subst hz
      exact Or.inr ⟨by decide, _, q386, by decide⟩) rfl (by decide) q411 q426 (fun q9 => ?_)
    refine J_astore_n dX0_at_30 rfl (by decide) _ rfl ?_
    refine J_aload_n dX0_at_31 rfl ?_
    refine J_iconst (zI 2) dX0_at_32 rfl ?_
    refine CC_X0_found (by decide) (by decide) (Nat.le_of_ble_eq_true rfl) dX0_at_33 ?_
    refine c_found (m := _) (by decide) ?_
    refine J_ri ?_
    exact J_iret rfl dX0_at_36 (by exact hq)
  · exfalso; omega
theorem c_at {E : jEnv} {α : Nat → Nat} {σ : cS} {Q : Option Value → cS → Prop} {rs : Nat → Int} {rd : Nat → Nat → Int32} {ts : Nat → Int} {tb : Nat → Nat → Int} {r i : Nat} (hDt : cDt rs rd ts tb σ) (hr : r < 6) (hi : (i : Int) < rs r) (hq : Q (some (.int (zI 1))) (cI σ 2 (rd r i))) : jX0_at E α 0 [some (.ref (α 0)), some (.int (zI (r : Nat))), some (.int (zI (i : Nat))), none] [] σ Q := by
  obtain ⟨a, N, g, hx, hN, hN4, hg⟩ : ∃ a N f, σ.ro r = some (a, N, f) ∧ rs r = (N : Nat) ∧ N ≤ 40 ∧ ∀ i, i < N → f i = rd r i := by
    rcases hDt.1 r hr with z | z
    · omega
    · exact z
  refine J_iload_n dX0_at_0 rfl ?_
  refine CC_X0_isRow (by decide) (by decide) (Nat.le_of_ble_eq_true rfl) dX0_at_1 ?_
  refine c_isRow (by unfold zR at *; omega) (fun b1 => ?_) (fun b1 => ?_)
  · refine J_ri ?_
    refine J_if_ne_y (tgt := 9) dX0_at_4 (by decide) (by decide) ?_
    refine J_aload_n dX0_at_9 rfl ?_
    refine J_aload_n dX0_at_10 rfl ?_
    refine CG_rows dX0_at_11 ?_
    refine J_iload_n dX0_at_14 rfl ?_
    refine CA_ro hx (by omega) (by omega) dX0_at_15 ?_
    refine J_iload_n dX0_at_16 rfl ?_
    refine CR_iald i hr hx (by omega) (by omega) (by omega) dX0_at_17 ?_
    refine J_top (rd r i) (hg i (by omega)) ?_
    refine J_iconst (zI 1) dX0_at_18 rfl ?_
    refine CC_X0_ask (by decide) (by decide) (Nat.le_of_ble_eq_true rfl) dX0_at_19 ?_
    refine c_ask  ?_
    refine J_ri ?_
    exact J_iret rfl dX0_at_22 (by exact hq)
  · exfalso; omega
section CCW
variable {E : jEnv} {α : Nat → Nat} {o : Option MethodName} {cc : ByteArray} {mL : Nat} {ret : Option FieldType} {R : Room} {k n pc : Nat} {L : List (Option Value)} {st : List Value} {σ : cS} {Q : Option Value → cS → Prop}
theorem CC_X0_at {x0 : Int32} {x1 : Int32} (hR : 10 ≤ R.frames ∧ 10440 ≤ R.locals) (hcs : k + 12 ≤ R.cells ∧ n + 400 ≤ R.slots) (hst : (st.map fun v => v.category).sum ≤ 8) (d : decode cc pc = .ok (.invokevirtual 92, 3)) (hJ : jX0_at E α 0 [some (.ref (α 0)), some (.int x0), some (.int x1), none] [] σ (fun v σ' => J E (wC E α) (cX E, o) cc mL ret RX0 R (k + 12) (n + 400) (pc + 3) L (v.toList ++ st) σ' Q)) : J E (wC E α) (cX E, o) cc mL ret RX0 R k n (pc) L (.int x1 :: .int x0 :: .ref (α 0) :: st) σ Q :=
  J_eVW (y := yX0_at) (R' := jRx 9 12 400) (C := RX0) (ci := 1) (hh := [(9, 22, 23, 99), (9, 22, 30, 101)]) [.int x0, .int x1] 2 0 rfl rfl q382 q383 q384 q105 q385 (by decide +kernel) cX_1 (show 9 + 1 ≤ R.frames ∧ 8 + (4 + 11) + 10400 ≤ R.locals by omega) hcs rfl hst d (JE.ofW (X' := (cX E, some yX0_at)) (by decide +kernel) (Nat.le_of_ble_eq_true rfl) (fun z h => (Option.some.inj h).symm) hJ)
end CCW
abbrev jL (E : jEnv) (α : Nat → Nat) := J E (wC E α) (cX E, none) cX0_lay 5 (some .int) RX0 { frames := 10, cells := 12, slots := 400, locals := 10450 } 0 0
theorem c_mean_bad {E : jEnv} {α : Nat → Nat} {σ : cS} {Q : Option Value → cS → Prop} {v : Int} (rv : zR v) (hv : ¬ (0 ≤ v ∧ v ≤ 5)) (hq : Q (some (.int (zI (-1)))) σ) : jX0_mean E α 0 [some (.ref (α 0)), some (.int (zI (v))), none, none, none, none, none, none] [] σ Q := by
  refine J_iload_n dX0_mean_0 rfl ?_
  refine CC_X0_isRow (by decide) (by decide) (Nat.le_of_ble_eq_true rfl) dX0_mean_1 ?_
  refine c_isRow (by unfold zR at *; omega) (fun b1 => ?_) (fun b1 => ?_)
  · exfalso; omega
  · refine J_ri ?_
    refine J_if_ne_n (tgt := 9) dX0_mean_4 (by decide) (by decide) ?_
    refine J_iconst (zI (-1)) dX0_mean_7 rfl ?_
    exact J_iret rfl dX0_mean_8 (by exact hq)
theorem c_mean_no {E : jEnv} {α : Nat → Nat} {σ : cS} {Q : Option Value → cS → Prop} {rs : Nat → Int} {rd : Nat → Nat → Int32} {ts : Nat → Int} {tb : Nat → Nat → Int} {r : Nat} (hDt : cDt rs rd ts tb σ) (hr : r < 6) (h0 : rs r = -1) (hq : Q (some (.int (zI (-3)))) (cAr (cI σ 0 (zI 1)) 1 (upd (σ.a 1) 1 (σ.a 1 1 + zI 1)))) : jX0_mean E α 0 [some (.ref (α 0)), some (.int (zI (r : Nat))), none, none, none, none, none, none] [] σ Q := by
  have hn : σ.ro r = none := by
    rcases hDt.1 r hr with z | ⟨a, N, g, z2, z3, z4⟩
    · exact z.2
    · omega
  refine J_iload_n dX0_mean_0 rfl ?_
  refine CC_X0_isRow (by decide) (by decide) (Nat.le_of_ble_eq_true rfl) dX0_mean_1 ?_
  refine c_isRow (by unfold zR at *; omega) (fun b1 => ?_) (fun b1 => ?_)
  · refine J_ri ?_
    refine J_if_ne_y (tgt := 9) dX0_mean_4 (by decide) (by decide) ?_
    refine J_lconst 0 dX0_mean_9 rfl ?_
    refine J_lstore_n dX0_mean_10 rfl (by decide) _ rfl ?_
    refine J_aload_n dX0_mean_11 rfl ?_
    refine CG_rows dX0_mean_12 ?_
    refine J_iload_n dX0_mean_15 rfl ?_
    refine CA_roN hn (by omega) (by omega) dX0_mean_16 ?_
    refine J_astoreN dX0_mean_17 rfl (by decide) _ rfl ?_
    refine J_aloadN dX0_mean_19 rfl ?_
    refine J_alenX dX0_mean_21 ?_
    refine JNn_catch (y := yX0_mean) (hh := [(9, 69, 70, 99), (9, 69, 77, 111)]) [] ⟨9, 69, 70, 99⟩ [⟨9, 69, 77, 111⟩] rfl rfl q450 (by decide) (Nat.le_of_ble_eq_true rfl) (by decide) (by decide) rfl (fun z hz => by cases hz) rfl (by decide) q386 q408 (fun q9 => ?_)
    refine J_astore_n dX0_mean_70 rfl (by decide) _ rfl ?_
    refine J_aload_n dX0_mean_71 rfl ?_
    refine J_iconst (zI 1) dX0_mean_72 rfl ?_
    refine CC_X0_found (by decide) (by decide) (Nat.le_of_ble_eq_true rfl) dX0_mean_73 ?_
    refine c_found (m := _) (by decide) ?_
    refine J_ri ?_
    exact J_iret rfl dX0_mean_76 (by exact hq)
  · exfalso; omega
theorem c_text_bad {E : jEnv} {α : Nat → Nat} {σ : cS} {Q : Option Value → cS → Prop} {v n : Int} (rv : zR v) (rn : zR n) (hv : ¬ (0 ≤ v ∧ v ≤ 3) ∨ 120 < n) (hq : Q (some (.int (zI (-1)))) σ) : jX0_text E α 0 [some (.ref (α 0)), some (.int (zI (v))), some (.int (zI (n))), none, none] [] σ Q := by
  refine J_iload_n dX0_text_0 rfl ?_
  refine CC_X0_isText (by decide) (by decide) (Nat.le_of_ble_eq_true rfl) dX0_text_1 ?_
  refine c_isText (by unfold zR at *; omega) (fun b1 => ?_) (fun b1 => ?_)
  · refine J_ri ?_
    refine J_if_eq_n (tgt := 13) dX0_text_4 (by decide) (by decide) ?_
    refine J_iload_n dX0_text_7 rfl ?_
    refine J_bipush (zI 120) dX0_text_8 rfl ?_
    refine J_icmp_le_z (tgt := 15) dX0_text_10 (by decide) (by unfold zR at *; omega) (by unfold zR at *; omega) (fun c10 => ?_) (fun c10 => ?_)
    · exfalso; omega
    · skip
      refine J_iconst (zI (-1)) dX0_text_13 rfl ?_
      exact J_iret rfl dX0_text_14 (by exact hq)
  · refine J_ri ?_
    refine J_if_eq_y (tgt := 13) dX0_text_4 (by decide) (by decide) ?_
    refine J_iconst (zI (-1)) dX0_text_13 rfl ?_
    exact J_iret rfl dX0_text_14 (by exact hq)
theorem c_text_neg {E : jEnv} {α : Nat → Nat} {σ : cS} {Q : Option Value → cS → Prop} {r : Nat} {n : Int} (hr : r < 4) (rn : zR n) (hn : n < 0) (hq : Q (some (.int (zI (-3)))) (cAr (cI σ 0 (zI 5)) 1 (upd (σ.a 1) 5 (σ.a 1 5 + zI 1)))) : jX0_text E α 0 [some (.ref (α 0)), some (.int (zI (r : Nat))), some (.int (zI (n))), none, none] [] σ Q := by
  have hn0 : zI n < 0 := (zI_lt rn zR_0).mpr hn
  refine J_iload_n dX0_text_0 rfl ?_
  refine CC_X0_isText (by decide) (by decide) (Nat.le_of_ble_eq_true rfl) dX0_text_1 ?_
  refine c_isText (by unfold zR at *; omega) (fun b1 => ?_) (fun b1 => ?_)
  · refine J_ri ?_
    refine J_if_eq_n (tgt := 13) dX0_text_4 (by decide) (by decide) ?_
    refine J_iload_n dX0_text_7 rfl ?_
    refine J_bipush (zI 120) dX0_text_8 rfl ?_
    refine J_icmp_le_z (tgt := 15) dX0_text_10 (by decide) (by unfold zR at *; omega) (by unfold zR at *; omega) (fun c10 => ?_) (fun c10 => ?_)
    · skip
      refine J_iload_n dX0_text_15 rfl ?_
      refine J_newaZ hn0 dX0_text_16 (fun tx htx => ?_)
      refine JN_catch (y := yX0_text) (hh := [(15, 48, 49, 86)]) (names := ["java/lang/RuntimeException", "java/lang/Exception"]) (nb := 44) [] ⟨15, 48, 49, 86⟩ [] rfl rfl q468 ex_neg exg_neg (by decide +kernel) (by rw [htx]; exact negative_text_modelled hn0) (by rw [htx]; exact negative_text_bytes _) (by decide) (by decide) (Nat.le_of_ble_eq_true rfl) (by decide) (by decide) rfl (fun z hz => by cases hz) rfl (by decide) q282 q345 (fun q9 => ?_)
      refine J_astore_n dX0_text_49 rfl (by decide) _ rfl ?_
      refine J_aload_n dX0_text_50 rfl ?_
      refine J_iconst (zI 5) dX0_text_51 rfl ?_
      refine CC_X0_found (by decide) (by decide) (Nat.le_of_ble_eq_true rfl) dX0_text_52 ?_
      refine c_found (m := _) (by decide) ?_
      refine J_ri ?_
      exact J_iret rfl dX0_text_55 (by exact hq)
    · exfalso; omega
  · exfalso; omega
theorem tx_step {E : jEnv} {α : Nat → Nat} {σ : cS} {a1 cn i : Nat} (hi : i < cn) (hn : cn ≤ 1000000) : wC E α (cD σ 0 (some (a1, .inl (E.2.2 1, cn, .inl (fun j => if j < i + 1 then zI 32 else zI 0))))) = j_up (wC E α (cD σ 0 (some (a1, .inl (E.2.2 1, cn, .inl (fun j => if j < i then zI 32 else zI 0)))))) 200 (some (a1, .inl (E.2.2 1, cn, .inl (upd (fun j => if j < i then zI 32 else zI 0) (zI (i : Nat)).toNatClampNeg (zI 32).toInt8.toInt32)))) := by
  have e : upd (fun j => if j < i then zI 32 else zI 0) (zI (i : Nat)).toNatClampNeg (zI 32).toInt8.toInt32 = fun j => if j < i + 1 then zI 32 else zI 0 := by
    rw [(zI_in (m := i) (N := cn) rfl hi hn).2]
    funext j
    unfold upd
    by_cases z : j = i
    · rw [if_pos z, if_pos (by omega)]; rfl
    · rw [if_neg z]
      show (if j < i then zI 32 else zI 0) = _
      by_cases y : j < i
      · rw [if_pos y, if_pos (by omega)]
      · rw [if_neg y, if_neg (by omega)]
  rw [e]
  funext q
  have h := congrFun (wC_D (E := E) (α := α) (σ := σ) 0 (some (a1, .inl (E.2.2 1, cn, .inl (fun j => if j < i + 1 then zI 32 else zI 0))))) q
  have h2 := congrFun (wC_D (E := E) (α := α) (σ := σ) 0 (some (a1, .inl (E.2.2 1, cn, .inl (fun j => if j < i then zI 32 else zI 0))))) q
  rw [h]
  unfold j_up at *
  by_cases z : q = 200
  · rw [if_pos z, if_pos z]
  · rw [if_neg z] at h2 ⊢
    rw [if_neg z, h2]
theorem cl_text22 {E : jEnv} {α : Nat → Nat} {σ : cS} {Q : Option Value → cS → Prop} {rs : Nat → Int} {rd : Nat → Nat → Int32} {ts : Nat → Int} {tb : Nat → Nat → Int} {r cn a1 nn : Nat} (hDt : cDt rs rd ts tb σ) (hnn : nn = 0 + cn) (hd : σ.d 0 = none) (hr : r < 4) (hn9 : cn ≤ 120) (hq : ∀ σ1, cT [] σ σ1 → cDt rs rd (upk ts r cn) (upk tb r (fun _ => 32)) σ1 → Q (some (.int (zI (cn : Nat)))) σ1) : ∀ (n : Nat) (i : Nat), i ≤ cn → cn - i < n → J E (wC E α) (cX E, some yX0_text) cX0_text 5 (some .int) RX0 (jRx 9 12 400) (0 + 1) (nn) 22 [some (.ref (α 0)), some (.int (zI (r : Nat))), some (.int (zI (cn : Nat))), some (.ref a1), some (.int (zI (i : Nat)))] [] (cD σ 0 (some (a1, .inl (E.2.2 1, cn, .inl (fun j => if j < i then zI 32 else zI 0))))) Q := by
  intro n
  induction n with
  | zero => intro i h1 hn; exact absurd hn (Nat.not_lt_zero _)
  | succ n ih =>
    intro i h1 hn
    refine J_iload dX0_text_22 rfl ?_
    refine J_iload_n dX0_text_24 rfl ?_
    refine J_icmp_ge_z (tgt := 40) dX0_text_25 (by decide) (by unfold zR; omega) (by unfold zR; omega) (fun c25 => ?_) (fun c25 => ?_)
    · skip
      obtain rfl : i = cn := by omega
      refine J_aload_n dX0_text_40 rfl ?_
      refine CG_texts dX0_text_41 ?_
      refine J_iload_n dX0_text_44 rfl ?_
      refine J_aload_n dX0_text_45 rfl ?_
      refine CA_txS hr rfl rfl dX0_text_46 ?_
      refine J_w (σ' := cTx σ r (some (a1, i, fun j => if j < i then zI 32 else zI 0))) (cD_none (σ := cTx σ r (some (a1, i, fun j => if j < i then zI 32 else zI 0))) hd) ?_
      refine J_iload_n dX0_text_47 rfl ?_
      exact J_iret rfl dX0_text_48 (by exact hq _ cT.refl.tx (cDt_tx hDt hn9 (fun j hj => if_pos hj)))
    · skip
      refine J_aload_n dX0_text_28 rfl ?_
      refine J_iload dX0_text_29 rfl ?_
      refine J_bipush (zI 32) dX0_text_31 rfl ?_
      refine J_bast (σ' := (cD σ 0 (some (a1, .inl (E.2.2 1, cn, .inl (fun j => if j < (i + 1) then zI 32 else zI 0)))))) (N := cn) (f := fun j => if j < i then zI 32 else zI 0) 200 (wC_d 0) (zI_in (m := i) rfl (by omega) (by omega)).1 (tx_step (by omega) (by omega)) dX0_text_33 ?_
      refine J_iinc_z ((((i + 1)) : Nat) : Int) (by omega) dX0_text_34 rfl rfl (by decide) _ rfl ?_
      refine J_goto (tgt := 22) dX0_text_37 (by decide) ?_
      exact ih (i + 1) (by omega) (by omega)
theorem c_text {E : jEnv} {α : Nat → Nat} {σ : cS} {Q : Option Value → cS → Prop} {rs : Nat → Int} {rd : Nat → Nat → Int32} {ts : Nat → Int} {tb : Nat → Nat → Int} {r n : Nat} (hDt : cDt rs rd ts tb σ) (hd : σ.d 0 = none) (hr : r < 4) (hn : n ≤ 120) (hq : ∀ σ1, cT [] σ σ1 → cDt rs rd (upk ts r n) (upk tb r (fun _ => 32)) σ1 → Q (some (.int (zI (n : Nat)))) σ1) : jX0_text E α 0 [some (.ref (α 0)), some (.int (zI (r : Nat))), some (.int (zI (n : Nat))), none, none] [] σ Q := by
  refine J_iload_n dX0_text_0 rfl ?_
  refine CC_X0_isText (by decide) (by decide) (Nat.le_of_ble_eq_true rfl) dX0_text_1 ?_
  refine c_isText (by unfold zR at *; omega) (fun b1 => ?_) (fun b1 => ?_)
  · refine J_ri ?_
    refine J_if_eq_n (tgt := 13) dX0_text_4 (by decide) (by decide) ?_
    refine J_iload_n dX0_text_7 rfl ?_
    refine J_bipush (zI 120) dX0_text_8 rfl ?_
    refine J_icmp_le_z (tgt := 15) dX0_text_10 (by decide) (by unfold zR at *; omega) (by unfold zR at *; omega) (fun c10 => ?_) (fun c10 => ?_)
    · skip
      refine J_iload_n dX0_text_15 rfl ?_
      refine J_newa_byte (σ' := fun a1 => cD σ 0 (some (a1, .inl (E.2.2 1, n, .inl (fun _ => zI 0))))) 200 n q363 rfl (by omega) (by decide) (show 0 + n ≤ 400 by omega) (fun a1 => wC_D 0 _) dX0_text_16 (fun a1 => ?_)
      refine J_astore_n dX0_text_18 rfl (by decide) _ rfl ?_
      refine J_iconst (zI 0) dX0_text_19 rfl ?_
      refine J_istore dX0_text_20 rfl (by decide) _ rfl ?_
      refine J_w (σ' := (cD σ 0 (some (a1, .inl (E.2.2 1, n, .inl (fun j => if j < 0 then zI 32 else zI 0)))))) rfl ?_
      refine J_fg (L' := [some (.ref (α 0)), some (.int (zI (r : Nat))), some (.int (zI (n : Nat))), some (.ref a1), some (.int (zI ((0 : Nat))))]) (by repeat' constructor) ?_
      exact cl_text22 hDt rfl hd hr hn hq _ 0 (by omega) (Nat.lt_succ_self _)
    · exfalso; omega
  · exfalso; omega
theorem c_put_bad {E : jEnv} {α : Nat → Nat} {σ : cS} {Q : Option Value → cS → Prop} {v i x : Int} (rv : zR v) (hv : ¬ (0 ≤ v ∧ v ≤ 3)) (hq : Q (some (.int (zI (-1)))) σ) : jX0_put E α 0 [some (.ref (α 0)), some (.int (zI (v))), some (.int (zI (i))), some (.int (zI (x))), none] [] σ Q := by
  refine J_iload_n dX0_put_0 rfl ?_
  refine CC_X0_isText (by decide) (by decide) (Nat.le_of_ble_eq_true rfl) dX0_put_1 ?_
  refine c_isText (by unfold zR at *; omega) (fun b1 => ?_) (fun b1 => ?_)
  · exfalso; omega
  · refine J_ri ?_
    refine J_if_ne_n (tgt := 9) dX0_put_4 (by decide) (by decide) ?_
    refine J_iconst (zI (-1)) dX0_put_7 rfl ?_
    exact J_iret rfl dX0_put_8 (by exact hq)
theorem c_put_no {E : jEnv} {α : Nat → Nat} {σ : cS} {Q : Option Value → cS → Prop} {rs : Nat → Int} {rd : Nat → Nat → Int32} {ts : Nat → Int} {tb : Nat → Nat → Int} {r : Nat} {i x : Int} (hDt : cDt rs rd ts tb σ) (hr : r < 4) (h0 : ts r = -1) (hq : Q (some (.int (zI (-3)))) (cAr (cI σ 0 (zI 1)) 1 (upd (σ.a 1) 1 (σ.a 1 1 + zI 1)))) : jX0_put E α 0 [some (.ref (α 0)), some (.int (zI (r : Nat))), some (.int (zI (i))), some (.int (zI (x))), none] [] σ Q := by
  have hn : σ.tx r = none := by
    rcases hDt.2 r hr with z | ⟨a, N, g, z2, z3, z4⟩
    · exact z.2
    · omega
  refine J_iload_n dX0_put_0 rfl ?_
  refine CC_X0_isText (by decide) (by decide) (Nat.le_of_ble_eq_true rfl) dX0_put_1 ?_
  refine c_isText (by unfold zR at *; omega) (fun b1 => ?_) (fun b1 => ?_)
  · refine J_ri ?_
    refine J_if_ne_y (tgt := 9) dX0_put_4 (by decide) (by decide) ?_
    refine J_aload_n dX0_put_9 rfl ?_
    refine CG_texts dX0_put_10 ?_
    refine J_iload_n dX0_put_13 rfl ?_
    refine CA_txN hn (by omega) (by omega) dX0_put_14 ?_
    refine J_iload_n dX0_put_15 rfl ?_
    refine J_baldX dX0_put_16 ?_
    refine JNn_catch (y := yX0_put) (hh := [(9, 35, 36, 99), (9, 35, 44, 101)]) [] ⟨9, 35, 36, 99⟩ [⟨9, 35, 44, 101⟩] rfl rfl q475 (by decide) (Nat.le_of_ble_eq_true rfl) (by decide) (by decide) rfl (fun z hz => by cases hz) rfl (by decide) q386 q408 (fun q9 => ?_)
    refine J_astore dX0_put_36 rfl (by decide) _ rfl ?_
    refine J_aload_n dX0_put_38 rfl ?_
    refine J_iconst (zI 1) dX0_put_39 rfl ?_
    refine CC_X0_found (by decide) (by decide) (Nat.le_of_ble_eq_true rfl) dX0_put_40 ?_
    refine c_found (m := _) (by decide) ?_
    refine J_ri ?_
    exact J_iret rfl dX0_put_43 (by exact hq)
  · exfalso; omega
theorem c_put_out {E : jEnv} {α : Nat → Nat} {σ : cS} {Q : Option Value → cS → Prop} {rs : Nat → Int} {rd : Nat → Nat → Int32} {ts : Nat → Int} {tb : Nat → Nat → Int} {r : Nat} {i x : Int} (hDt : cDt rs rd ts tb σ) (hr : r < 4) (h0 : 0 ≤ ts r) (ri : zR i) (hi : ¬ (0 ≤ i ∧ i < ts r)) (hq : Q (some (.int (zI (-3)))) (cAr (cI σ 0 (zI 2)) 1 (upd (σ.a 1) 2 (σ.a 1 2 + zI 1)))) : jX0_put E α 0 [some (.ref (α 0)), some (.int (zI (r : Nat))), some (.int (zI (i))), some (.int (zI (x))), none] [] σ Q := by
  obtain ⟨a, N, g, hx, hN, hN4, hg⟩ : ∃ a N f, σ.tx r = some (a, N, f) ∧ ts r = (N : Nat) ∧ N ≤ 120 ∧ ∀ i, i < N → f i = zI (tb r i) := by
    rcases hDt.2 r hr with z | z
    · omega
    · exact z
  rw [hN] at hi
  refine J_iload_n dX0_put_0 rfl ?_
  refine CC_X0_isText (by decide) (by decide) (Nat.le_of_ble_eq_true rfl) dX0_put_1 ?_
  refine c_isText (by unfold zR at *; omega) (fun b1 => ?_) (fun b1 => ?_)
  · refine J_ri ?_
    refine J_if_ne_y (tgt := 9) dX0_put_4 (by decide) (by decide) ?_
    refine J_aload_n dX0_put_9 rfl ?_
    refine CG_texts dX0_put_10 ?_
    refine J_iload_n dX0_put_13 rfl ?_
    refine CA_tx hx (by omega) (by omega) dX0_put_14 ?_
    refine J_iload_n dX0_put_15 rfl ?_
    refine J_baldZ (N := N) (f := g) (110 + r) (by rw [wC_tx hr, hx]; rfl) (vp_out (by omega) ri hi) dX0_put_16 (fun tx htx => ?_)
    refine JN_catch (y := yX0_put) (hh := [(9, 35, 36, 99), (9, 35, 44, 101)]) (names := ["java/lang/IndexOutOfBoundsException", "java/lang/RuntimeException", "java/lang/Exception"]) (nb := 212) [⟨9, 35, 36, 99⟩] ⟨9, 35, 44, 101⟩ [] rfl rfl q475 ex_ix exg_ix (by decide +kernel) (by rw [htx]; exact index_text_modelled _ _) (by rw [htx]; exact index_text_bytes _ (by omega)) (by decide) (by decide) (Nat.le_of_ble_eq_true rfl) (by decide) (by decide) rfl (fun z hz => by
      rw [List.mem_singleton] at hz
      subst hz
      exact Or.inr ⟨by decide, _, q386, by decide⟩) rfl (by decide) q411 q426 (fun q9 => ?_)
    refine J_astore dX0_put_44 rfl (by decide) _ rfl ?_
    refine J_aload_n dX0_put_46 rfl ?_
    refine J_iconst (zI 2) dX0_put_47 rfl ?_
    refine CC_X0_found (by decide) (by decide) (Nat.le_of_ble_eq_true rfl) dX0_put_48 ?_
    refine c_found (m := _) (by decide) ?_
    refine J_ri ?_
    exact J_iret rfl dX0_put_51 (by exact hq)
  · exfalso; omega
theorem c_put {E : jEnv} {α : Nat → Nat} {σ : cS} {Q : Option Value → cS → Prop} {rs : Nat → Int} {rd : Nat → Nat → Int32} {ts : Nat → Int} {tb : Nat → Nat → Int} {r i : Nat} {x : Int} (hDt : cDt rs rd ts tb σ) (hr : r < 4) (hi : (i : Int) < ts r) (hq : ∀ σ1, cT [] σ σ1 → cDt rs rd ts (upk tb r (upk (tb r) i (by8 x))) σ1 → Q (some (.int (zI (1000 + tb r i)))) σ1) : jX0_put E α 0 [some (.ref (α 0)), some (.int (zI (r : Nat))), some (.int (zI (i : Nat))), some (.int (zI (x))), none] [] σ Q := by
  obtain ⟨a, N, g, hx, hN, hN4, hg⟩ : ∃ a N f, σ.tx r = some (a, N, f) ∧ ts r = (N : Nat) ∧ N ≤ 120 ∧ ∀ i, i < N → f i = zI (tb r i) := by
    rcases hDt.2 r hr with z | z
    · omega
    · exact z
  refine J_iload_n dX0_put_0 rfl ?_
  refine CC_X0_isText (by decide) (by decide) (Nat.le_of_ble_eq_true rfl) dX0_put_1 ?_
  refine c_isText (by unfold zR at *; omega) (fun b1 => ?_) (fun b1 => ?_)
  · refine J_ri ?_
    refine J_if_ne_y (tgt := 9) dX0_put_4 (by decide) (by decide) ?_
    refine J_aload_n dX0_put_9 rfl ?_
    refine CG_texts dX0_put_10 ?_
    refine J_iload_n dX0_put_13 rfl ?_
    refine CA_tx hx (by omega) (by omega) dX0_put_14 ?_
    refine J_iload_n dX0_put_15 rfl ?_
    refine CX_bald i hr hx (by omega) (by omega) (by omega) dX0_put_16 ?_
    refine J_top (zI (tb r i)) (hg i (by omega)) ?_
    refine J_istore dX0_put_17 rfl (by decide) _ rfl ?_
    refine J_aload_n dX0_put_19 rfl ?_
    refine CG_texts dX0_put_20 ?_
    refine J_iload_n dX0_put_23 rfl ?_
    refine CA_tx hx (by omega) (by omega) dX0_put_24 ?_
    refine J_iload_n dX0_put_25 rfl ?_
    refine J_iload_n dX0_put_26 rfl ?_
    refine J_i2b dX0_put_27 ?_
    refine CX_bast i hr hx (by omega) (by omega) (by omega) dX0_put_28 ?_
    refine J_iload dX0_put_29 rfl ?_
    refine J_sipush (zI 1000) dX0_put_31 rfl ?_
    refine J_iadd_z dX0_put_34 ?_
    refine J_iret rfl dX0_put_35 ?_
    rw [show (1000 + tb r i) = tb r i + 1000 from Int.add_comm _ _] at hq
    exact hq _ cT.refl.tx (cDt_put hDt hr (by8_z x) hx)
  · exfalso; omega
theorem cl_mean27 {E : jEnv} {α : Nat → Nat} {σ : cS} {Q : Option Value → cS → Prop} {rd : Nat → Nat → Int32} {r a cn : Nat} {g : Nat → Int32} (hr : r < 6) (hx : σ.ro r = some (a, cn, g)) (hn4 : cn ≤ 40) (hg : ∀ i, i < cn → g i = rd r i) (hk : jX0_mean E α 53 [some (.ref (α 0)), some (.int (zI (r : Nat))), some (.long (mnS (rd r) cn)), none, none, none, none, none] [] σ Q) : ∀ (n : Nat) (i : Nat), i ≤ cn → cn - i < n → jX0_mean E α 27 [some (.ref (α 0)), some (.int (zI (r : Nat))), some (.long (mnS (rd r) i)), none, some (.ref a), some (.int (zI (cn : Nat))), some (.int (zI (i : Nat))), none] [] σ Q := by
  intro n
  induction n with
  | zero => intro i h1 hn; exact absurd hn (Nat.not_lt_zero _)
  | succ n ih =>
    intro i h1 hn
    refine J_iload dX0_mean_27 rfl ?_
    refine J_iload dX0_mean_29 rfl ?_
    refine J_icmp_ge_z (tgt := 53) dX0_mean_31 (by decide) (by unfold zR; omega) (by unfold zR; omega) (fun c31 => ?_) (fun c31 => ?_)
    · skip
      obtain rfl : i = cn := by omega
      refine J_fg (L' := [some (.ref (α 0)), some (.int (zI (r : Nat))), some (.long (mnS (rd r) i)), none, none, none, none, none]) (by repeat' constructor) ?_
      exact hk
    · skip
      refine J_aload dX0_mean_34 rfl ?_
      refine J_iload dX0_mean_36 rfl ?_
      refine CR_iald i hr hx (by omega) (by omega) (by omega) dX0_mean_38 ?_
      refine J_top (rd r i) (hg i (by omega)) ?_
      refine J_istore dX0_mean_39 rfl (by decide) _ rfl ?_
      refine J_lload_n dX0_mean_41 rfl ?_
      refine J_iload dX0_mean_42 rfl ?_
      refine J_i2l dX0_mean_44 ?_
      refine J_ladd dX0_mean_45 ?_
      refine J_lstore_n dX0_mean_46 rfl (by decide) _ rfl ?_
      refine J_iinc_z ((((i + 1)) : Nat) : Int) (by omega) dX0_mean_47 rfl rfl (by decide) _ rfl ?_
      refine J_goto (tgt := 27) dX0_mean_50 (by decide) ?_
      refine J_fg (L' := [some (.ref (α 0)), some (.int (zI (r : Nat))), some (.long (mnS (rd r) (i + 1))), none, some (.ref a), some (.int (zI (cn : Nat))), some (.int (zI ((i + 1 : Nat)))), none]) (by repeat' constructor) ?_
      exact ih (i + 1) (by omega) (by omega)
theorem c_mean_0 {E : jEnv} {α : Nat → Nat} {σ : cS} {Q : Option Value → cS → Prop} {rs : Nat → Int} {rd : Nat → Nat → Int32} {ts : Nat → Int} {tb : Nat → Nat → Int} {r : Nat} (hDt : cDt rs rd ts tb σ) (hr : r < 6) (h0 : rs r = 0) (hq : Q (some (.int (zI (-3)))) (cAr (cI σ 0 (zI 4)) 1 (upd (σ.a 1) 4 (σ.a 1 4 + zI 1)))) : jX0_mean E α 0 [some (.ref (α 0)), some (.int (zI (r : Nat))), none, none, none, none, none, none] [] σ Q := by
  obtain ⟨a, N, g, hx, hN, hN4, hg⟩ : ∃ a N f, σ.ro r = some (a, N, f) ∧ rs r = (N : Nat) ∧ N ≤ 40 ∧ ∀ i, i < N → f i = rd r i := by
    rcases hDt.1 r hr with z | z
    · omega
    · exact z
  obtain rfl : N = 0 := by omega
  refine J_iload_n dX0_mean_0 rfl ?_
  refine CC_X0_isRow (by decide) (by decide) (Nat.le_of_ble_eq_true rfl) dX0_mean_1 ?_
  refine c_isRow (by unfold zR at *; omega) (fun b1 => ?_) (fun b1 => ?_)
  · refine J_ri ?_
    refine J_if_ne_y (tgt := 9) dX0_mean_4 (by decide) (by decide) ?_
    refine J_lconst 0 dX0_mean_9 rfl ?_
    refine J_lstore_n dX0_mean_10 rfl (by decide) _ rfl ?_
    refine J_aload_n dX0_mean_11 rfl ?_
    refine CG_rows dX0_mean_12 ?_
    refine J_iload_n dX0_mean_15 rfl ?_
    refine CA_ro hx (by omega) (by omega) dX0_mean_16 ?_
    refine J_astore dX0_mean_17 rfl (by decide) _ rfl ?_
    refine J_aload dX0_mean_19 rfl ?_
    refine CR_alen hr hx dX0_mean_21 ?_
    refine J_istore dX0_mean_22 rfl (by decide) _ rfl ?_
    refine J_iconst (zI 0) dX0_mean_24 rfl ?_
    refine J_istore dX0_mean_25 rfl (by decide) _ rfl ?_
    refine J_fg (L' := [some (.ref (α 0)), some (.int (zI (r : Nat))), some (.long (mnS (rd r) 0)), none, some (.ref a), some (.int (zI ((0 : Nat)))), some (.int (zI ((0 : Nat)))), none]) (by repeat' constructor) ?_
    refine cl_mean27 hr hx (by omega) hg ?_ _ 0 (by omega) (Nat.lt_succ_self _)
    refine J_aload_n dX0_mean_53 rfl ?_
    refine J_lload_n dX0_mean_54 rfl ?_
    refine J_aload_n dX0_mean_55 rfl ?_
    refine CG_rows dX0_mean_56 ?_
    refine J_iload_n dX0_mean_59 rfl ?_
    refine CA_ro hx (by omega) (by omega) dX0_mean_60 ?_
    refine CR_alen hr hx dX0_mean_61 ?_
    refine J_i2l dX0_mean_62 ?_
    refine J_ldivZ rfl dX0_mean_63 ?_
    refine JN_catch (y := yX0_mean) (hh := [(9, 69, 70, 99), (9, 69, 77, 111)]) (names := ["java/lang/RuntimeException", "java/lang/Exception"]) (nb := 20) [⟨9, 69, 70, 99⟩] ⟨9, 69, 77, 111⟩ [] rfl rfl q450 ex_ar exg_ar (by decide +kernel) (by decide +kernel) (by decide +kernel) (by decide) (by decide) (Nat.le_of_ble_eq_true rfl) (by decide) (by decide) rfl (fun z hz => by
      rw [List.mem_singleton] at hz
      subst hz
      exact Or.inr ⟨by decide, _, q386, by decide⟩) rfl (by decide) q451 q463 (fun q9 => ?_)
    refine J_astore_n dX0_mean_77 rfl (by decide) _ rfl ?_
    refine J_aload_n dX0_mean_78 rfl ?_
    refine J_iconst (zI 4) dX0_mean_79 rfl ?_
    refine CC_X0_found (by decide) (by decide) (Nat.le_of_ble_eq_true rfl) dX0_mean_80 ?_
    refine c_found (m := _) (by decide) ?_
    refine J_ri ?_
    exact J_iret rfl dX0_mean_83 (by exact hq)
  · exfalso; omega
theorem c_mean {E : jEnv} {α : Nat → Nat} {σ : cS} {Q : Option Value → cS → Prop} {rs : Nat → Int} {rd : Nat → Nat → Int32} {ts : Nat → Int} {tb : Nat → Nat → Int} {r cn : Nat} (hDt : cDt rs rd ts tb σ) (hr : r < 6) (h0 : rs r = cn) (hn0 : 0 < cn) (hq : Q (some (.int (zI 1))) (cI σ 2 (mnS (rd r) cn / lN cn).toInt32)) : jX0_mean E α 0 [some (.ref (α 0)), some (.int (zI (r : Nat))), none, none, none, none, none, none] [] σ Q := by
  obtain ⟨a, N, g, hx, hN, hN4, hg⟩ : ∃ a N f, σ.ro r = some (a, N, f) ∧ rs r = (N : Nat) ∧ N ≤ 40 ∧ ∀ i, i < N → f i = rd r i := by
    rcases hDt.1 r hr with z | z
    · omega
    · exact z
  obtain rfl : N = cn := by omega
  refine J_iload_n dX0_mean_0 rfl ?_
  refine CC_X0_isRow (by decide) (by decide) (Nat.le_of_ble_eq_true rfl) dX0_mean_1 ?_
  refine c_isRow (by unfold zR at *; omega) (fun b1 => ?_) (fun b1 => ?_)
  · refine J_ri ?_
    refine J_if_ne_y (tgt := 9) dX0_mean_4 (by decide) (by decide) ?_
    refine J_lconst 0 dX0_mean_9 rfl ?_
    refine J_lstore_n dX0_mean_10 rfl (by decide) _ rfl ?_
    refine J_aload_n dX0_mean_11 rfl ?_
    refine CG_rows dX0_mean_12 ?_
    refine J_iload_n dX0_mean_15 rfl ?_
    refine CA_ro hx (by omega) (by omega) dX0_mean_16 ?_
    refine J_astore dX0_mean_17 rfl (by decide) _ rfl ?_
    refine J_aload dX0_mean_19 rfl ?_
    refine CR_alen hr hx dX0_mean_21 ?_
    refine J_istore dX0_mean_22 rfl (by decide) _ rfl ?_
    refine J_iconst (zI 0) dX0_mean_24 rfl ?_
    refine J_istore dX0_mean_25 rfl (by decide) _ rfl ?_
    refine J_fg (L' := [some (.ref (α 0)), some (.int (zI (r : Nat))), some (.long (mnS (rd r) 0)), none, some (.ref a), some (.int (zI ((N : Nat)))), some (.int (zI ((0 : Nat)))), none]) (by repeat' constructor) ?_
    refine cl_mean27 hr hx (by omega) hg ?_ _ 0 (by omega) (Nat.lt_succ_self _)
    refine J_aload_n dX0_mean_53 rfl ?_
    refine J_lload_n dX0_mean_54 rfl ?_
    refine J_aload_n dX0_mean_55 rfl ?_
    refine CG_rows dX0_mean_56 ?_
    refine J_iload_n dX0_mean_59 rfl ?_
    refine CA_ro hx (by omega) (by omega) dX0_mean_60 ?_
    refine CR_alen hr hx dX0_mean_61 ?_
    refine J_i2l dX0_mean_62 ?_
    refine J_topl (lN N) (l_of (by omega)) ?_
    refine J_ldiv dX0_mean_63 (l_ne (by omega) hn0) ?_
    refine J_l2i dX0_mean_64 ?_
    refine J_iconst (zI 1) dX0_mean_65 rfl ?_
    refine CC_X0_ask (by decide) (by decide) (Nat.le_of_ble_eq_true rfl) dX0_mean_66 ?_
    refine c_ask  ?_
    refine J_ri ?_
    exact J_iret rfl dX0_mean_69 (by exact hq)
  · exfalso; omega
theorem c_lay_bad {E : jEnv} {α : Nat → Nat} {σ : cS} {Q : Option Value → cS → Prop} {v i : Int} {x : Int32} (rv : zR v) (hv : ¬ (0 ≤ v ∧ v ≤ 5)) (hq : Q (some (.int (zI (-1)))) σ) : jL E α 0 [some (.ref (α 0)), some (.int (zI (v))), some (.int (zI (i))), some (.int (x)), none] [] σ Q := by
  refine J_aload_n dX0_lay_0 rfl ?_
  refine J_iload_n dX0_lay_1 rfl ?_
  refine J_iload_n dX0_lay_2 rfl ?_
  refine CC_X0_at (by decide) (by decide) (Nat.le_of_ble_eq_true rfl) dX0_lay_3 ?_
  refine c_at_bad rv hv ?_
  refine J_ri ?_
  refine J_istore dX0_lay_6 rfl (by decide) _ rfl ?_
  refine J_iload dX0_lay_8 rfl ?_
  refine J_iconst (zI 1) dX0_lay_10 rfl ?_
  refine J_icmp_ne_y (tgt := 23) dX0_lay_11 (by decide) (by decide) ?_
  refine J_iload dX0_lay_23 rfl ?_
  exact J_iret rfl dX0_lay_25 (by exact hq)
theorem c_lay_no {E : jEnv} {α : Nat → Nat} {σ : cS} {Q : Option Value → cS → Prop} {rs : Nat → Int} {rd : Nat → Nat → Int32} {ts : Nat → Int} {tb : Nat → Nat → Int} {r : Nat} {i : Int} {x : Int32} (hDt : cDt rs rd ts tb σ) (hr : r < 6) (h0 : rs r = -1) (hq : Q (some (.int (zI (-3)))) (cAr (cI σ 0 (zI 1)) 1 (upd (σ.a 1) 1 (σ.a 1 1 + zI 1)))) : jL E α 0 [some (.ref (α 0)), some (.int (zI (r : Nat))), some (.int (zI (i))), some (.int (x)), none] [] σ Q := by
  refine J_aload_n dX0_lay_0 rfl ?_
  refine J_iload_n dX0_lay_1 rfl ?_
  refine J_iload_n dX0_lay_2 rfl ?_
  refine CC_X0_at (by decide) (by decide) (Nat.le_of_ble_eq_true rfl) dX0_lay_3 ?_
  refine c_at_no hDt hr h0 ?_
  refine J_ri ?_
  refine J_istore dX0_lay_6 rfl (by decide) _ rfl ?_
  refine J_iload dX0_lay_8 rfl ?_
  refine J_iconst (zI 1) dX0_lay_10 rfl ?_
  refine J_icmp_ne_y (tgt := 23) dX0_lay_11 (by decide) (by decide) ?_
  refine J_iload dX0_lay_23 rfl ?_
  exact J_iret rfl dX0_lay_25 (by exact hq)
theorem c_lay_out {E : jEnv} {α : Nat → Nat} {σ : cS} {Q : Option Value → cS → Prop} {rs : Nat → Int} {rd : Nat → Nat → Int32} {ts : Nat → Int} {tb : Nat → Nat → Int} {r : Nat} {i : Int} {x : Int32} (hDt : cDt rs rd ts tb σ) (hr : r < 6) (h0 : 0 ≤ rs r) (ri : zR i) (hi : ¬ (0 ≤ i ∧ i < rs r)) (hq : Q (some (.int (zI (-3)))) (cAr (cI σ 0 (zI 2)) 1 (upd (σ.a 1) 2 (σ.a 1 2 + zI 1)))) : jL E α 0 [some (.ref (α 0)), some (.int (zI (r : Nat))), some (.int (zI (i))), some (.int (x)), none] [] σ Q := by
  refine J_aload_n dX0_lay_0 rfl ?_
  refine J_iload_n dX0_lay_1 rfl ?_
  refine J_iload_n dX0_lay_2 rfl ?_
  refine CC_X0_at (by decide) (by decide) (Nat.le_of_ble_eq_true rfl) dX0_lay_3 ?_
  refine c_at_out hDt hr h0 ri hi ?_
  refine J_ri ?_
  refine J_istore dX0_lay_6 rfl (by decide) _ rfl ?_
  refine J_iload dX0_lay_8 rfl ?_
  refine J_iconst (zI 1) dX0_lay_10 rfl ?_
  refine J_icmp_ne_y (tgt := 23) dX0_lay_11 (by decide) (by decide) ?_
  refine J_iload dX0_lay_23 rfl ?_
  exact J_iret rfl dX0_lay_25 (by exact hq)
theorem c_layR {E : jEnv} {α : Nat → Nat} {σ : cS} {Q : Option Value → cS → Prop} {rs : Nat → Int} {rd : Nat → Nat → Int32} {ts : Nat → Int} {tb : Nat → Nat → Int} {r i : Nat} {x : Int32} (hDt : cDt rs rd ts tb σ) (hr : r < 6) (hi : (i : Int) < rs r) (hq : ∀ σ1, cT [2] σ σ1 → cDt rs (upk rd r (upk (rd r) i x)) ts tb σ1 → σ1.i 2 = rd r i → Q (some (.int (zI 1))) σ1) : jL E α 0 [some (.ref (α 0)), some (.int (zI (r : Nat))), some (.int (zI (i : Nat))), some (.int (x)), none] [] σ Q := by
  obtain ⟨a, N, g, hx, hN, hN4, hg⟩ : ∃ a N f, σ.ro r = some (a, N, f) ∧ rs r = (N : Nat) ∧ N ≤ 40 ∧ ∀ i, i < N → f i = rd r i := by
    rcases hDt.1 r hr with z | z
    · omega
    · exact z
  refine J_aload_n dX0_lay_0 rfl ?_
  refine J_iload_n dX0_lay_1 rfl ?_
  refine J_iload_n dX0_lay_2 rfl ?_
  refine CC_X0_at (by decide) (by decide) (Nat.le_of_ble_eq_true rfl) dX0_lay_3 ?_
  refine c_at hDt hr hi ?_
  refine J_ri ?_
  refine J_istore dX0_lay_6 rfl (by decide) _ rfl ?_
  refine J_iload dX0_lay_8 rfl ?_
  refine J_iconst (zI 1) dX0_lay_10 rfl ?_
  refine J_icmp_ne_n (tgt := 23) dX0_lay_11 (by decide) (by decide) ?_
  refine J_aload_n dX0_lay_14 rfl ?_
  refine CG_rows dX0_lay_15 ?_
  refine J_iload_n dX0_lay_18 rfl ?_
  refine CA_ro hx (by omega) (by omega) dX0_lay_19 ?_
  refine J_iload_n dX0_lay_20 rfl ?_
  refine J_iload_n dX0_lay_21 rfl ?_
  refine CR_iast i hr hx (by omega) (by omega) (by omega) dX0_lay_22 ?_
  refine J_iload dX0_lay_23 rfl ?_
  exact J_iret rfl dX0_lay_25 (by exact hq _ ((cT.refl.sI (by decide)).ro) (cDt_lay (σ := cI σ 2 (rd r i)) hDt hr hx) rfl)
