set_option maxRecDepth 100000
/-! the component: a new frame -/
theorem wC_D2 {E : jEnv} {α : Nat → Nat} {σ : cS} (k : Nat) (x y : Option (Nat × jE)) : wC E α (cD σ k y) = j_up (wC E α (cD σ k x)) (200 + k) y := by
  rw [wC_D, wC_D]
  funext q
  unfold j_up
  by_cases z : q = 200 + k
  · rw [if_pos z, if_pos z]
  · rw [if_neg z, if_neg z, if_neg z]
theorem cD_cD {σ : cS} {k : Nat} {x y : Option (Nat × jE)} : cD (cD σ k x) k y = cD σ k y := by
  have e : (fun i => if i = k then y else if i = k then x else σ.d i) = fun i => if i = k then y else σ.d i := by
    funext i
    by_cases z : i = k
    · rw [if_pos z, if_pos z]
    · rw [if_neg z, if_neg z, if_neg z]
  rw [cD_dd (σ := σ) (x := x), cD_dd2, e]
  rfl
def frC0 : Nat → Int := fun k => if k = 0 then -9 else 0
theorem fV_new {g : Nat → Int} : updV (updV (updV (updV (updV (updV (updV (fun _ => Value.int (zI 0)) 6 (.int (zI (-9)))) 0 (.int (zI (g 1)))) 1 (.int (zI (g 2)))) 2 (.int (zI (g 3)))) 3 (.int (zI (g 4)))) 4 (.int (zI (g 5)))) 5 (.int (zI (g 6))) = fV g frC0 := by
  funext j
  unfold updV fV frC0
  match j with
  | 0 => rfl
  | 1 => rfl
  | 2 => rfl
  | 3 => rfl
  | 4 => rfl
  | 5 => rfl
  | 6 => rfl
  | n + 7 =>
    simp
    intro h
    exfalso
    omega
theorem fr_init0 {E : jEnv} {α : Nat → Nat} {σ : cS} {Q : Option Value → cS → Prop} {a b : Nat} {g : Nat → Int} {t : Nat → Int32} (h0 : σ.d 0 = some (a, .inr (2, (fun _ => .int (zI 0))))) (h1 : σ.d 1 = some (b, .inl (E.2.2 0, 4, .inl t))) (ht : t 0 = zI (g 3) ∧ t 1 = zI (g 4) ∧ t 2 = zI (g 5) ∧ t 3 = zI (g 6)) (hq : Q none (cD σ 0 (some (a, .inr (2, fV g frC0))))) : J E (wC E α) (cX E, some yX3_init) cX3_init 4 none RX3 (jR 2 0 0) 0 0 0 [some (.ref a), some (.int (zI (g 1))), some (.int (zI (g 2))), some (.ref b)] [] σ Q := by
  refine J_aload_n dX3_init_0 rfl ?_
  refine J_objInit q804 q144 q145 (Nat.le_of_ble_eq_true rfl) (by decide) dX3_init_1 ?_
  refine J_aload_n dX3_init_4 rfl ?_
  refine J_bipush (zI (-9)) dX3_init_5 rfl ?_
  refine J_put (σ' := (cD σ 0 (some (a, .inr (2, (updV (fun _ => .int (zI 0)) 6 (.int (zI (-9))))))))) (V := (fun _ => .int (zI 0))) 200 6 ((wC_d 0).trans h0) rfl in_X3 tyX3_ok nmX3 (by decide) q815 rfl rfl rfl rfl (wC_D 0 _) dX3_init_7 ?_
  refine J_aload_n dX3_init_10 rfl ?_
  refine J_iload_n dX3_init_11 rfl ?_
  refine J_putF (σ' := (cD σ 0 (some (a, .inr (2, (updV (updV (fun _ => .int (zI 0)) 6 (.int (zI (-9)))) 0 (.int (zI (g 1))))))))) (V := (updV (fun _ => .int (zI 0)) 6 (.int (zI (-9))))) 200 0 (wC_d 0) rfl in_X3 tyX3_ok nmX3 (by decide) q805 rfl rfl rfl rfl rfl rfl (wC_D2 0 _ _) dX3_init_12 ?_
  refine J_aload_n dX3_init_15 rfl ?_
  refine J_iload_n dX3_init_16 rfl ?_
  refine J_putF (σ' := (cD σ 0 (some (a, .inr (2, (updV (updV (updV (fun _ => .int (zI 0)) 6 (.int (zI (-9)))) 0 (.int (zI (g 1)))) 1 (.int (zI (g 2))))))))) (V := (updV (updV (fun _ => .int (zI 0)) 6 (.int (zI (-9)))) 0 (.int (zI (g 1))))) 200 1 (wC_d 0) rfl in_X3 tyX3_ok nmX3 (by decide) q807 rfl rfl rfl rfl rfl rfl (wC_D2 0 _ _) dX3_init_17 ?_
  refine J_aload_n dX3_init_20 rfl ?_
  refine J_aload_n dX3_init_21 rfl ?_
  refine J_iconst (zI 0) dX3_init_22 rfl ?_
  refine J_iald (N := 4) (f := t) 201 ((wC_d 1).trans h1) (zI_in (m := 0) rfl (by decide) (by decide)).1 dX3_init_23 ?_
  refine J_top (zI (g 3)) ht.1 ?_
  refine J_putF (σ' := (cD σ 0 (some (a, .inr (2, (updV (updV (updV (updV (fun _ => .int (zI 0)) 6 (.int (zI (-9)))) 0 (.int (zI (g 1)))) 1 (.int (zI (g 2)))) 2 (.int (zI (g 3))))))))) (V := (updV (updV (updV (fun _ => .int (zI 0)) 6 (.int (zI (-9)))) 0 (.int (zI (g 1)))) 1 (.int (zI (g 2))))) 200 2 (wC_d 0) rfl in_X3 tyX3_ok nmX3 (by decide) q809 rfl rfl rfl rfl rfl rfl (wC_D2 0 _ _) dX3_init_24 ?_
  refine J_aload_n dX3_init_27 rfl ?_
  refine J_aload_n dX3_init_28 rfl ?_
  refine J_iconst (zI 1) dX3_init_29 rfl ?_
  refine J_iald (N := 4) (f := t) 201 ((wC_d 1).trans h1) (zI_in (m := 1) rfl (by decide) (by decide)).1 dX3_init_30 ?_
  refine J_top (zI (g 4)) ht.2.1 ?_
  refine J_putF (σ' := (cD σ 0 (some (a, .inr (2, (updV (updV (updV (updV (updV (fun _ => .int (zI 0)) 6 (.int (zI (-9)))) 0 (.int (zI (g 1)))) 1 (.int (zI (g 2)))) 2 (.int (zI (g 3)))) 3 (.int (zI (g 4))))))))) (V := (updV (updV (updV (updV (fun _ => .int (zI 0)) 6 (.int (zI (-9)))) 0 (.int (zI (g 1)))) 1 (.int (zI (g 2)))) 2 (.int (zI (g 3))))) 200 3 (wC_d 0) rfl in_X3 tyX3_ok nmX3 (by decide) q810 rfl rfl rfl rfl rfl rfl (wC_D2 0 _ _) dX3_init_31 ?_
  refine J_aload_n dX3_init_34 rfl ?_
  refine J_aload_n dX3_init_35 rfl ?_
  refine J_iconst (zI 2) dX3_init_36 rfl ?_
  refine J_iald (N := 4) (f := t) 201 ((wC_d 1).trans h1) (zI_in (m := 2) rfl (by decide) (by decide)).1 dX3_init_37 ?_
  refine J_top (zI (g 5)) ht.2.2.1 ?_
  refine J_putF (σ' := (cD σ 0 (some (a, .inr (2, (updV (updV (updV (updV (updV (updV (fun _ => .int (zI 0)) 6 (.int (zI (-9)))) 0 (.int (zI (g 1)))) 1 (.int (zI (g 2)))) 2 (.int (zI (g 3)))) 3 (.int (zI (g 4)))) 4 (.int (zI (g 5))))))))) (V := (updV (updV (updV (updV (updV (fun _ => .int (zI 0)) 6 (.int (zI (-9)))) 0 (.int (zI (g 1)))) 1 (.int (zI (g 2)))) 2 (.int (zI (g 3)))) 3 (.int (zI (g 4))))) 200 4 (wC_d 0) rfl in_X3 tyX3_ok nmX3 (by decide) q811 rfl rfl rfl rfl rfl rfl (wC_D2 0 _ _) dX3_init_38 ?_
  refine J_aload_n dX3_init_41 rfl ?_
  refine J_aload_n dX3_init_42 rfl ?_
  refine J_iconst (zI 3) dX3_init_43 rfl ?_
  refine J_iald (N := 4) (f := t) 201 ((wC_d 1).trans h1) (zI_in (m := 3) rfl (by decide) (by decide)).1 dX3_init_44 ?_
  refine J_top (zI (g 6)) ht.2.2.2 ?_
  refine J_putF (σ' := (cD σ 0 (some (a, .inr (2, (updV (updV (updV (updV (updV (updV (updV (fun _ => .int (zI 0)) 6 (.int (zI (-9)))) 0 (.int (zI (g 1)))) 1 (.int (zI (g 2)))) 2 (.int (zI (g 3)))) 3 (.int (zI (g 4)))) 4 (.int (zI (g 5)))) 5 (.int (zI (g 6))))))))) (V := (updV (updV (updV (updV (updV (updV (fun _ => .int (zI 0)) 6 (.int (zI (-9)))) 0 (.int (zI (g 1)))) 1 (.int (zI (g 2)))) 2 (.int (zI (g 3)))) 3 (.int (zI (g 4)))) 4 (.int (zI (g 5))))) 200 5 (wC_d 0) rfl in_X3 tyX3_ok nmX3 (by decide) q813 rfl rfl rfl rfl rfl rfl (wC_D2 0 _ _) dX3_init_45 ?_
  refine J_w (σ' := cD σ 0 (some (a, .inr (2, fV g frC0)))) (congrArg (fun V => cD σ 0 (some (a, .inr (2, V)))) fV_new) ?_
  exact J_vret rfl dX3_init_48 hq
theorem fr_init1 {E : jEnv} {α : Nat → Nat} {σ : cS} {Q : Option Value → cS → Prop} {a b : Nat} {g : Nat → Int} {t : Nat → Int32} (h0 : σ.d 0 = some (a, .inr (3, (fun _ => .int (zI 0))))) (h1 : σ.d 1 = some (b, .inl (E.2.2 0, 4, .inl t))) (ht : t 0 = zI (g 3) ∧ t 1 = zI (g 4) ∧ t 2 = zI (g 5) ∧ t 3 = zI (g 6)) (hq : Q none (cD σ 0 (some (a, .inr (3, fV g frC0))))) : J E (wC E α) (cX E, some yX3_init) cX3_init 4 none RX3 (jR 2 0 0) 0 0 0 [some (.ref a), some (.int (zI (g 1))), some (.int (zI (g 2))), some (.ref b)] [] σ Q := by
  refine J_aload_n dX3_init_0 rfl ?_
  refine J_objInit q804 q144 q145 (Nat.le_of_ble_eq_true rfl) (by decide) dX3_init_1 ?_
  refine J_aload_n dX3_init_4 rfl ?_
  refine J_bipush (zI (-9)) dX3_init_5 rfl ?_
  refine J_put (σ' := (cD σ 0 (some (a, .inr (3, (updV (fun _ => .int (zI 0)) 6 (.int (zI (-9))))))))) (V := (fun _ => .int (zI 0))) 200 6 ((wC_d 0).trans h0) rfl in_X4 tyX4_ok nmX4 (by decide) q815 rfl rfl rfl rfl (wC_D 0 _) dX3_init_7 ?_
  refine J_aload_n dX3_init_10 rfl ?_
  refine J_iload_n dX3_init_11 rfl ?_
  refine J_putF (σ' := (cD σ 0 (some (a, .inr (3, (updV (updV (fun _ => .int (zI 0)) 6 (.int (zI (-9)))) 0 (.int (zI (g 1))))))))) (V := (updV (fun _ => .int (zI 0)) 6 (.int (zI (-9))))) 200 0 (wC_d 0) rfl in_X4 tyX4_ok nmX4 (by decide) q805 rfl rfl rfl rfl rfl rfl (wC_D2 0 _ _) dX3_init_12 ?_
  refine J_aload_n dX3_init_15 rfl ?_
  refine J_iload_n dX3_init_16 rfl ?_
  refine J_putF (σ' := (cD σ 0 (some (a, .inr (3, (updV (updV (updV (fun _ => .int (zI 0)) 6 (.int (zI (-9)))) 0 (.int (zI (g 1)))) 1 (.int (zI (g 2))))))))) (V := (updV (updV (fun _ => .int (zI 0)) 6 (.int (zI (-9)))) 0 (.int (zI (g 1))))) 200 1 (wC_d 0) rfl in_X4 tyX4_ok nmX4 (by decide) q807 rfl rfl rfl rfl rfl rfl (wC_D2 0 _ _) dX3_init_17 ?_
  refine J_aload_n dX3_init_20 rfl ?_
  refine J_aload_n dX3_init_21 rfl ?_
  refine J_iconst (zI 0) dX3_init_22 rfl ?_
  refine J_iald (N := 4) (f := t) 201 ((wC_d 1).trans h1) (zI_in (m := 0) rfl (by decide) (by decide)).1 dX3_init_23 ?_
  refine J_top (zI (g 3)) ht.1 ?_
  refine J_putF (σ' := (cD σ 0 (some (a, .inr (3, (updV (updV (updV (updV (fun _ => .int (zI 0)) 6 (.int (zI (-9)))) 0 (.int (zI (g 1)))) 1 (.int (zI (g 2)))) 2 (.int (zI (g 3))))))))) (V := (updV (updV (updV (fun _ => .int (zI 0)) 6 (.int (zI (-9)))) 0 (.int (zI (g 1)))) 1 (.int (zI (g 2))))) 200 2 (wC_d 0) rfl in_X4 tyX4_ok nmX4 (by decide) q809 rfl rfl rfl rfl rfl rfl (wC_D2 0 _ _) dX3_init_24 ?_
  refine J_aload_n dX3_init_27 rfl ?_
  refine J_aload_n dX3_init_28 rfl ?_
  refine J_iconst (zI 1) dX3_init_29 rfl ?_
  refine J_iald (N := 4) (f := t) 201 ((wC_d 1).trans h1) (zI_in (m := 1) rfl (by decide) (by decide)).1 dX3_init_30 ?_
  refine J_top (zI (g 4)) ht.2.1 ?_
  refine J_putF (σ' := (cD σ 0 (some (a, .inr (3, (updV (updV (updV (updV (updV (fun _ => .int (zI 0)) 6 (.int (zI (-9)))) 0 (.int (zI (g 1)))) 1 (.int (zI (g 2)))) 2 (.int (zI (g 3)))) 3 (.int (zI (g 4))))))))) (V := (updV (updV (updV (updV (fun _ => .int (zI 0)) 6 (.int (zI (-9)))) 0 (.int (zI (g 1)))) 1 (.int (zI (g 2)))) 2 (.int (zI (g 3))))) 200 3 (wC_d 0) rfl in_X4 tyX4_ok nmX4 (by decide) q810 rfl rfl rfl rfl rfl rfl (wC_D2 0 _ _) dX3_init_31 ?_
  refine J_aload_n dX3_init_34 rfl ?_
  refine J_aload_n dX3_init_35 rfl ?_
  refine J_iconst (zI 2) dX3_init_36 rfl ?_
  refine J_iald (N := 4) (f := t) 201 ((wC_d 1).trans h1) (zI_in (m := 2) rfl (by decide) (by decide)).1 dX3_init_37 ?_
  refine J_top (zI (g 5)) ht.2.2.1 ?_
  refine J_putF (σ' := (cD σ 0 (some (a, .inr (3, (updV (updV (updV (updV (updV (updV (fun _ => .int (zI 0)) 6 (.int (zI (-9)))) 0 (.int (zI (g 1)))) 1 (.int (zI (g 2)))) 2 (.int (zI (g 3)))) 3 (.int (zI (g 4)))) 4 (.int (zI (g 5))))))))) (V := (updV (updV (updV (updV (updV (fun _ => .int (zI 0)) 6 (.int (zI (-9)))) 0 (.int (zI (g 1)))) 1 (.int (zI (g 2)))) 2 (.int (zI (g 3)))) 3 (.int (zI (g 4))))) 200 4 (wC_d 0) rfl in_X4 tyX4_ok nmX4 (by decide) q811 rfl rfl rfl rfl rfl rfl (wC_D2 0 _ _) dX3_init_38 ?_
  refine J_aload_n dX3_init_41 rfl ?_
  refine J_aload_n dX3_init_42 rfl ?_
  refine J_iconst (zI 3) dX3_init_43 rfl ?_
  refine J_iald (N := 4) (f := t) 201 ((wC_d 1).trans h1) (zI_in (m := 3) rfl (by decide) (by decide)).1 dX3_init_44 ?_
  refine J_top (zI (g 6)) ht.2.2.2 ?_
  refine J_putF (σ' := (cD σ 0 (some (a, .inr (3, (updV (updV (updV (updV (updV (updV (updV (fun _ => .int (zI 0)) 6 (.int (zI (-9)))) 0 (.int (zI (g 1)))) 1 (.int (zI (g 2)))) 2 (.int (zI (g 3)))) 3 (.int (zI (g 4)))) 4 (.int (zI (g 5)))) 5 (.int (zI (g 6))))))))) (V := (updV (updV (updV (updV (updV (updV (fun _ => .int (zI 0)) 6 (.int (zI (-9)))) 0 (.int (zI (g 1)))) 1 (.int (zI (g 2)))) 2 (.int (zI (g 3)))) 3 (.int (zI (g 4)))) 4 (.int (zI (g 5))))) 200 5 (wC_d 0) rfl in_X4 tyX4_ok nmX4 (by decide) q813 rfl rfl rfl rfl rfl rfl (wC_D2 0 _ _) dX3_init_45 ?_
  refine J_w (σ' := cD σ 0 (some (a, .inr (3, fV g frC0)))) (congrArg (fun V => cD σ 0 (some (a, .inr (3, V)))) fV_new) ?_
  exact J_vret rfl dX3_init_48 hq
theorem fr_init2 {E : jEnv} {α : Nat → Nat} {σ : cS} {Q : Option Value → cS → Prop} {a b : Nat} {g : Nat → Int} {t : Nat → Int32} (h0 : σ.d 0 = some (a, .inr (4, (fun _ => .int (zI 0))))) (h1 : σ.d 1 = some (b, .inl (E.2.2 0, 4, .inl t))) (ht : t 0 = zI (g 3) ∧ t 1 = zI (g 4) ∧ t 2 = zI (g 5) ∧ t 3 = zI (g 6)) (hq : Q none (cD σ 0 (some (a, .inr (4, fV g frC0))))) : J E (wC E α) (cX E, some yX3_init) cX3_init 4 none RX3 (jR 2 0 0) 0 0 0 [some (.ref a), some (.int (zI (g 1))), some (.int (zI (g 2))), some (.ref b)] [] σ Q := by
  refine J_aload_n dX3_init_0 rfl ?_
  refine J_objInit q804 q144 q145 (Nat.le_of_ble_eq_true rfl) (by decide) dX3_init_1 ?_
  refine J_aload_n dX3_init_4 rfl ?_
  refine J_bipush (zI (-9)) dX3_init_5 rfl ?_
  refine J_put (σ' := (cD σ 0 (some (a, .inr (4, (updV (fun _ => .int (zI 0)) 6 (.int (zI (-9))))))))) (V := (fun _ => .int (zI 0))) 200 6 ((wC_d 0).trans h0) rfl in_X5 tyX5_ok nmX5 (by decide) q815 rfl rfl rfl rfl (wC_D 0 _) dX3_init_7 ?_
  refine J_aload_n dX3_init_10 rfl ?_
  refine J_iload_n dX3_init_11 rfl ?_
  refine J_putF (σ' := (cD σ 0 (some (a, .inr (4, (updV (updV (fun _ => .int (zI 0)) 6 (.int (zI (-9)))) 0 (.int (zI (g 1))))))))) (V := (updV (fun _ => .int (zI 0)) 6 (.int (zI (-9))))) 200 0 (wC_d 0) rfl in_X5 tyX5_ok nmX5 (by decide) q805 rfl rfl rfl rfl rfl rfl (wC_D2 0 _ _) dX3_init_12 ?_
  refine J_aload_n dX3_init_15 rfl ?_
  refine J_iload_n dX3_init_16 rfl ?_
  refine J_putF (σ' := (cD σ 0 (some (a, .inr (4, (updV (updV (updV (fun _ => .int (zI 0)) 6 (.int (zI (-9)))) 0 (.int (zI (g 1)))) 1 (.int (zI (g 2))))))))) (V := (updV (updV (fun _ => .int (zI 0)) 6 (.int (zI (-9)))) 0 (.int (zI (g 1))))) 200 1 (wC_d 0) rfl in_X5 tyX5_ok nmX5 (by decide) q807 rfl rfl rfl rfl rfl rfl (wC_D2 0 _ _) dX3_init_17 ?_
  refine J_aload_n dX3_init_20 rfl ?_
  refine J_aload_n dX3_init_21 rfl ?_
  refine J_iconst (zI 0) dX3_init_22 rfl ?_
  refine J_iald (N := 4) (f := t) 201 ((wC_d 1).trans h1) (zI_in (m := 0) rfl (by decide) (by decide)).1 dX3_init_23 ?_
  refine J_top (zI (g 3)) ht.1 ?_
  refine J_putF (σ' := (cD σ 0 (some (a, .inr (4, (updV (updV (updV (updV (fun _ => .int (zI 0)) 6 (.int (zI (-9)))) 0 (.int (zI (g 1)))) 1 (.int (zI (g 2)))) 2 (.int (zI (g 3))))))))) (V := (updV (updV (updV (fun _ => .int (zI 0)) 6 (.int (zI (-9)))) 0 (.int (zI (g 1)))) 1 (.int (zI (g 2))))) 200 2 (wC_d 0) rfl in_X5 tyX5_ok nmX5 (by decide) q809 rfl rfl rfl rfl rfl rfl (wC_D2 0 _ _) dX3_init_24 ?_
  refine J_aload_n dX3_init_27 rfl ?_
  refine J_aload_n dX3_init_28 rfl ?_
  refine J_iconst (zI 1) dX3_init_29 rfl ?_
  refine J_iald (N := 4) (f := t) 201 ((wC_d 1).trans h1) (zI_in (m := 1) rfl (by decide) (by decide)).1 dX3_init_30 ?_
  refine J_top (zI (g 4)) ht.2.1 ?_
  refine J_putF (σ' := (cD σ 0 (some (a, .inr (4, (updV (updV (updV (updV (updV (fun _ => .int (zI 0)) 6 (.int (zI (-9)))) 0 (.int (zI (g 1)))) 1 (.int (zI (g 2)))) 2 (.int (zI (g 3)))) 3 (.int (zI (g 4))))))))) (V := (updV (updV (updV (updV (fun _ => .int (zI 0)) 6 (.int (zI (-9)))) 0 (.int (zI (g 1)))) 1 (.int (zI (g 2)))) 2 (.int (zI (g 3))))) 200 3 (wC_d 0) rfl in_X5 tyX5_ok nmX5 (by decide) q810 rfl rfl rfl rfl rfl rfl (wC_D2 0 _ _) dX3_init_31 ?_
  refine J_aload_n dX3_init_34 rfl ?_
  refine J_aload_n dX3_init_35 rfl ?_
  refine J_iconst (zI 2) dX3_init_36 rfl ?_
  refine J_iald (N := 4) (f := t) 201 ((wC_d 1).trans h1) (zI_in (m := 2) rfl (by decide) (by decide)).1 dX3_init_37 ?_
  refine J_top (zI (g 5)) ht.2.2.1 ?_
  refine J_putF (σ' := (cD σ 0 (some (a, .inr (4, (updV (updV (updV (updV (updV (updV (fun _ => .int (zI 0)) 6 (.int (zI (-9)))) 0 (.int (zI (g 1)))) 1 (.int (zI (g 2)))) 2 (.int (zI (g 3)))) 3 (.int (zI (g 4)))) 4 (.int (zI (g 5))))))))) (V := (updV (updV (updV (updV (updV (fun _ => .int (zI 0)) 6 (.int (zI (-9)))) 0 (.int (zI (g 1)))) 1 (.int (zI (g 2)))) 2 (.int (zI (g 3)))) 3 (.int (zI (g 4))))) 200 4 (wC_d 0) rfl in_X5 tyX5_ok nmX5 (by decide) q811 rfl rfl rfl rfl rfl rfl (wC_D2 0 _ _) dX3_init_38 ?_
  refine J_aload_n dX3_init_41 rfl ?_
  refine J_aload_n dX3_init_42 rfl ?_
  refine J_iconst (zI 3) dX3_init_43 rfl ?_
  refine J_iald (N := 4) (f := t) 201 ((wC_d 1).trans h1) (zI_in (m := 3) rfl (by decide) (by decide)).1 dX3_init_44 ?_
  refine J_top (zI (g 6)) ht.2.2.2 ?_
  refine J_putF (σ' := (cD σ 0 (some (a, .inr (4, (updV (updV (updV (updV (updV (updV (updV (fun _ => .int (zI 0)) 6 (.int (zI (-9)))) 0 (.int (zI (g 1)))) 1 (.int (zI (g 2)))) 2 (.int (zI (g 3)))) 3 (.int (zI (g 4)))) 4 (.int (zI (g 5)))) 5 (.int (zI (g 6))))))))) (V := (updV (updV (updV (updV (updV (updV (fun _ => .int (zI 0)) 6 (.int (zI (-9)))) 0 (.int (zI (g 1)))) 1 (.int (zI (g 2)))) 2 (.int (zI (g 3)))) 3 (.int (zI (g 4)))) 4 (.int (zI (g 5))))) 200 5 (wC_d 0) rfl in_X5 tyX5_ok nmX5 (by decide) q813 rfl rfl rfl rfl rfl rfl (wC_D2 0 _ _) dX3_init_45 ?_
  refine J_w (σ' := cD σ 0 (some (a, .inr (4, fV g frC0)))) (congrArg (fun V => cD σ 0 (some (a, .inr (4, V)))) fV_new) ?_
  exact J_vret rfl dX3_init_48 hq
theorem fr_init3 {E : jEnv} {α : Nat → Nat} {σ : cS} {Q : Option Value → cS → Prop} {a b : Nat} {g : Nat → Int} {t : Nat → Int32} (h0 : σ.d 0 = some (a, .inr (5, (fun _ => .int (zI 0))))) (h1 : σ.d 1 = some (b, .inl (E.2.2 0, 4, .inl t))) (ht : t 0 = zI (g 3) ∧ t 1 = zI (g 4) ∧ t 2 = zI (g 5) ∧ t 3 = zI (g 6)) (hq : Q none (cD σ 0 (some (a, .inr (5, fV g frC0))))) : J E (wC E α) (cX E, some yX3_init) cX3_init 4 none RX3 (jR 2 0 0) 0 0 0 [some (.ref a), some (.int (zI (g 1))), some (.int (zI (g 2))), some (.ref b)] [] σ Q := by
  refine J_aload_n dX3_init_0 rfl ?_
  refine J_objInit q804 q144 q145 (Nat.le_of_ble_eq_true rfl) (by decide) dX3_init_1 ?_
  refine J_aload_n dX3_init_4 rfl ?_
  refine J_bipush (zI (-9)) dX3_init_5 rfl ?_
  refine J_put (σ' := (cD σ 0 (some (a, .inr (5, (updV (fun _ => .int (zI 0)) 6 (.int (zI (-9))))))))) (V := (fun _ => .int (zI 0))) 200 6 ((wC_d 0).trans h0) rfl in_X6 tyX6_ok nmX6 (by decide) q815 rfl rfl rfl rfl (wC_D 0 _) dX3_init_7 ?_
  refine J_aload_n dX3_init_10 rfl ?_
  refine J_iload_n dX3_init_11 rfl ?_
  refine J_putF (σ' := (cD σ 0 (some (a, .inr (5, (updV (updV (fun _ => .int (zI 0)) 6 (.int (zI (-9)))) 0 (.int (zI (g 1))))))))) (V := (updV (fun _ => .int (zI 0)) 6 (.int (zI (-9))))) 200 0 (wC_d 0) rfl in_X6 tyX6_ok nmX6 (by decide) q805 rfl rfl rfl rfl rfl rfl (wC_D2 0 _ _) dX3_init_12 ?_
  refine J_aload_n dX3_init_15 rfl ?_
  refine J_iload_n dX3_init_16 rfl ?_
  refine J_putF (σ' := (cD σ 0 (some (a, .inr (5, (updV (updV (updV (fun _ => .int (zI 0)) 6 (.int (zI (-9)))) 0 (.int (zI (g 1)))) 1 (.int (zI (g 2))))))))) (V := (updV (updV (fun _ => .int (zI 0)) 6 (.int (zI (-9)))) 0 (.int (zI (g 1))))) 200 1 (wC_d 0) rfl in_X6 tyX6_ok nmX6 (by decide) q807 rfl rfl rfl rfl rfl rfl (wC_D2 0 _ _) dX3_init_17 ?_
  refine J_aload_n dX3_init_20 rfl ?_
  refine J_aload_n dX3_init_21 rfl ?_
  refine J_iconst (zI 0) dX3_init_22 rfl ?_
  refine J_iald (N := 4) (f := t) 201 ((wC_d 1).trans h1) (zI_in (m := 0) rfl (by decide) (by decide)).1 dX3_init_23 ?_
  refine J_top (zI (g 3)) ht.1 ?_
  refine J_putF (σ' := (cD σ 0 (some (a, .inr (5, (updV (updV (updV (updV (fun _ => .int (zI 0)) 6 (.int (zI (-9)))) 0 (.int (zI (g 1)))) 1 (.int (zI (g 2)))) 2 (.int (zI (g 3))))))))) (V := (updV (updV (updV (fun _ => .int (zI 0)) 6 (.int (zI (-9)))) 0 (.int (zI (g 1)))) 1 (.int (zI (g 2))))) 200 2 (wC_d 0) rfl in_X6 tyX6_ok nmX6 (by decide) q809 rfl rfl rfl rfl rfl rfl (wC_D2 0 _ _) dX3_init_24 ?_
  refine J_aload_n dX3_init_27 rfl ?_
  refine J_aload_n dX3_init_28 rfl ?_
  refine J_iconst (zI 1) dX3_init_29 rfl ?_
  refine J_iald (N := 4) (f := t) 201 ((wC_d 1).trans h1) (zI_in (m := 1) rfl (by decide) (by decide)).1 dX3_init_30 ?_
  refine J_top (zI (g 4)) ht.2.1 ?_
  refine J_putF (σ' := (cD σ 0 (some (a, .inr (5, (updV (updV (updV (updV (updV (fun _ => .int (zI 0)) 6 (.int (zI (-9)))) 0 (.int (zI (g 1)))) 1 (.int (zI (g 2)))) 2 (.int (zI (g 3)))) 3 (.int (zI (g 4))))))))) (V := (updV (updV (updV (updV (fun _ => .int (zI 0)) 6 (.int (zI (-9)))) 0 (.int (zI (g 1)))) 1 (.int (zI (g 2)))) 2 (.int (zI (g 3))))) 200 3 (wC_d 0) rfl in_X6 tyX6_ok nmX6 (by decide) q810 rfl rfl rfl rfl rfl rfl (wC_D2 0 _ _) dX3_init_31 ?_
  refine J_aload_n dX3_init_34 rfl ?_
  refine J_aload_n dX3_init_35 rfl ?_
  refine J_iconst (zI 2) dX3_init_36 rfl ?_
  refine J_iald (N := 4) (f := t) 201 ((wC_d 1).trans h1) (zI_in (m := 2) rfl (by decide) (by decide)).1 dX3_init_37 ?_
  refine J_top (zI (g 5)) ht.2.2.1 ?_
  refine J_putF (σ' := (cD σ 0 (some (a, .inr (5, (updV (updV (updV (updV (updV (updV (fun _ => .int (zI 0)) 6 (.int (zI (-9)))) 0 (.int (zI (g 1)))) 1 (.int (zI (g 2)))) 2 (.int (zI (g 3)))) 3 (.int (zI (g 4)))) 4 (.int (zI (g 5))))))))) (V := (updV (updV (updV (updV (updV (fun _ => .int (zI 0)) 6 (.int (zI (-9)))) 0 (.int (zI (g 1)))) 1 (.int (zI (g 2)))) 2 (.int (zI (g 3)))) 3 (.int (zI (g 4))))) 200 4 (wC_d 0) rfl in_X6 tyX6_ok nmX6 (by decide) q811 rfl rfl rfl rfl rfl rfl (wC_D2 0 _ _) dX3_init_38 ?_
  refine J_aload_n dX3_init_41 rfl ?_
  refine J_aload_n dX3_init_42 rfl ?_
  refine J_iconst (zI 3) dX3_init_43 rfl ?_
  refine J_iald (N := 4) (f := t) 201 ((wC_d 1).trans h1) (zI_in (m := 3) rfl (by decide) (by decide)).1 dX3_init_44 ?_
  refine J_top (zI (g 6)) ht.2.2.2 ?_
  refine J_putF (σ' := (cD σ 0 (some (a, .inr (5, (updV (updV (updV (updV (updV (updV (updV (fun _ => .int (zI 0)) 6 (.int (zI (-9)))) 0 (.int (zI (g 1)))) 1 (.int (zI (g 2)))) 2 (.int (zI (g 3)))) 3 (.int (zI (g 4)))) 4 (.int (zI (g 5)))) 5 (.int (zI (g 6))))))))) (V := (updV (updV (updV (updV (updV (updV (fun _ => .int (zI 0)) 6 (.int (zI (-9)))) 0 (.int (zI (g 1)))) 1 (.int (zI (g 2)))) 2 (.int (zI (g 3)))) 3 (.int (zI (g 4)))) 4 (.int (zI (g 5))))) 200 5 (wC_d 0) rfl in_X6 tyX6_ok nmX6 (by decide) q813 rfl rfl rfl rfl rfl rfl (wC_D2 0 _ _) dX3_init_45 ?_
  refine J_w (σ' := cD σ 0 (some (a, .inr (5, fV g frC0)))) (congrArg (fun V => cD σ 0 (some (a, .inr (5, V)))) fV_new) ?_
  exact J_vret rfl dX3_init_48 hq
theorem ic_init {E : jEnv} {α : Nat → Nat} {σ : cS} {Q : Option Value → cS → Prop} {a b : Nat} {g : Nat → Int} {t : Nat → Int32} (h0 : σ.d 0 = some (a, .inr (3, (fun _ => .int (zI 0))))) (h1 : σ.d 1 = some (b, .inl (E.2.2 0, 4, .inl t))) (ht : t 0 = zI (g 3) ∧ t 1 = zI (g 4) ∧ t 2 = zI (g 5) ∧ t 3 = zI (g 6)) (hq : Q none (cD σ 0 (some (a, .inr (3, fV g frC0))))) : J E (wC E α) (cX E, some yX4_init) cX4_init 4 none RX4 (jR 3 0 0) 0 0 0 [some (.ref a), some (.int (zI (g 1))), some (.int (zI (g 2))), some (.ref b)] [] σ Q := by
  refine J_aload_n dX4_init_0 rfl ?_
  refine J_iload_n dX4_init_1 rfl ?_
  refine J_iload_n dX4_init_2 rfl ?_
  refine J_aload_n dX4_init_3 rfl ?_
  refine J_eI (y := yX3_init) (R' := jR 2 0 0) [.int (zI (g 1)), .int (zI (g 2)), .ref b] 3 q801 q802 q126 q803 rfl (by decide +kernel) cX_1 (by decide) (by decide) rfl (Nat.le_of_ble_eq_true rfl) dX4_init_4 (JE.of (X' := (cX E, some yX3_init)) (by decide +kernel) (Nat.le_of_ble_eq_true rfl) (fun z h => (Option.some.inj h).symm) (fr_init1 h0 h1 ht (J_rv ?_)))
  exact J_vret rfl dX4_init_7 hq
theorem bo_init {E : jEnv} {α : Nat → Nat} {σ : cS} {Q : Option Value → cS → Prop} {a b : Nat} {g : Nat → Int} {t : Nat → Int32} (h0 : σ.d 0 = some (a, .inr (4, (fun _ => .int (zI 0))))) (h1 : σ.d 1 = some (b, .inl (E.2.2 0, 4, .inl t))) (ht : t 0 = zI (g 3) ∧ t 1 = zI (g 4) ∧ t 2 = zI (g 5) ∧ t 3 = zI (g 6)) (hq : Q none (cD σ 0 (some (a, .inr (4, fV g frC0))))) : J E (wC E α) (cX E, some yX5_init) cX5_init 4 none RX5 (jR 3 0 0) 0 0 0 [some (.ref a), some (.int (zI (g 1))), some (.int (zI (g 2))), some (.ref b)] [] σ Q := by
  refine J_aload_n dX5_init_0 rfl ?_
  refine J_iload_n dX5_init_1 rfl ?_
  refine J_iload_n dX5_init_2 rfl ?_
  refine J_aload_n dX5_init_3 rfl ?_
  refine J_eI (y := yX3_init) (R' := jR 2 0 0) [.int (zI (g 1)), .int (zI (g 2)), .ref b] 3 q849 q802 q126 q803 rfl (by decide +kernel) cX_1 (by decide) (by decide) rfl (Nat.le_of_ble_eq_true rfl) dX5_init_4 (JE.of (X' := (cX E, some yX3_init)) (by decide +kernel) (Nat.le_of_ble_eq_true rfl) (fun z h => (Option.some.inj h).symm) (fr_init2 h0 h1 ht (J_rv ?_)))
  exact J_vret rfl dX5_init_7 hq
theorem lo3_init {E : jEnv} {α : Nat → Nat} {σ : cS} {Q : Option Value → cS → Prop} {a b : Nat} {g : Nat → Int} {t : Nat → Int32} (h0 : σ.d 0 = some (a, .inr (5, (fun _ => .int (zI 0))))) (h1 : σ.d 1 = some (b, .inl (E.2.2 0, 4, .inl t))) (ht : t 0 = zI (g 3) ∧ t 1 = zI (g 4) ∧ t 2 = zI (g 5) ∧ t 3 = zI (g 6)) (hq : Q none (cD σ 0 (some (a, .inr (5, fV g frC0))))) : J E (wC E α) (cX E, some yX4_init) cX4_init 4 none RX4 (jR 3 0 0) 0 0 0 [some (.ref a), some (.int (zI (g 1))), some (.int (zI (g 2))), some (.ref b)] [] σ Q := by
  refine J_aload_n dX4_init_0 rfl ?_
  refine J_iload_n dX4_init_1 rfl ?_
  refine J_iload_n dX4_init_2 rfl ?_
  refine J_aload_n dX4_init_3 rfl ?_
  refine J_eI (y := yX3_init) (R' := jR 2 0 0) [.int (zI (g 1)), .int (zI (g 2)), .ref b] 3 q801 q802 q126 q803 rfl (by decide +kernel) cX_1 (by decide) (by decide) rfl (Nat.le_of_ble_eq_true rfl) dX4_init_4 (JE.of (X' := (cX E, some yX3_init)) (by decide +kernel) (Nat.le_of_ble_eq_true rfl) (fun z h => (Option.some.inj h).symm) (fr_init3 h0 h1 ht (J_rv ?_)))
  exact J_vret rfl dX4_init_7 hq
theorem lo_init {E : jEnv} {α : Nat → Nat} {σ : cS} {Q : Option Value → cS → Prop} {a b : Nat} {g : Nat → Int} {t : Nat → Int32} (h0 : σ.d 0 = some (a, .inr (5, (fun _ => .int (zI 0))))) (h1 : σ.d 1 = some (b, .inl (E.2.2 0, 4, .inl t))) (ht : t 0 = zI (g 3) ∧ t 1 = zI (g 4) ∧ t 2 = zI (g 5) ∧ t 3 = zI (g 6)) (hq : Q none (cD σ 0 (some (a, .inr (5, fV g frC0))))) : J E (wC E α) (cX E, some yX6_init) cX6_init 4 none RX6 (jR 4 0 0) 0 0 0 [some (.ref a), some (.int (zI (g 1))), some (.int (zI (g 2))), some (.ref b)] [] σ Q := by
  refine J_aload_n dX6_init_0 rfl ?_
  refine J_iload_n dX6_init_1 rfl ?_
  refine J_iload_n dX6_init_2 rfl ?_
  refine J_aload_n dX6_init_3 rfl ?_
  refine J_eI (y := yX4_init) (R' := jR 3 0 0) [.int (zI (g 1)), .int (zI (g 2)), .ref b] 3 q866 q799 q127 q800 rfl (by decide +kernel) cX_1 (by decide) (by decide) rfl (Nat.le_of_ble_eq_true rfl) dX6_init_4 (JE.of (X' := (cX E, some yX4_init)) (by decide +kernel) (Nat.le_of_ble_eq_true rfl) (fun z h => (Option.some.inj h).symm) (lo3_init h0 h1 ht (J_rv ?_)))
  exact J_vret rfl dX6_init_7 hq
theorem d1_none {E : jEnv} {α : Nat → Nat} {σ : cS} {x y : Option (Nat × jE)} (h1 : σ.d 1 = none) {X : jX} {cc : ByteArray} {mL : Nat} {ret : Option FieldType} {own : String} {R : Room} {k n pc : Nat} {L : List (Option Value)} {st : List Value} {Q : Option Value → cS → Prop} (kk : J E (wC E α) X cc mL ret own R k n pc L st (cD σ 0 x) Q) : J E (wC E α) X cc mL ret own R k n pc L st (cD (cD σ 1 y) 0 x) Q := by
  refine J_toId (J_map _ (fun q => q) (fun r z hz => ?_) (fun r1 r2 z1 z2 _ _ e => e) kk)
  rw [wC_D] at hz ⊢
  unfold j_up at *
  by_cases z : r = 200 + 0
  · rw [if_pos z] at hz ⊢; exact hz
  · rw [if_neg z] at hz ⊢
    rw [wC_D]
    unfold j_up
    by_cases y : r = 200 + 1
    · subst y
      rw [wC_d 1, h1] at hz
      cases hz
    · rw [if_neg y]; exact hz
theorem c_newFrame0 {E : jEnv} {α : Nat → Nat} {σ : cS} {Q : Option Value → cS → Prop} {t6 : Nat} {tt : Nat → Int32} {g : Nat → Int} (h1 : σ.d 1 = none) (h2 : σ.d 2 = some (t6, .inl (E.2.2 0, 6, .inl tt))) (ht : ∀ i, i < 6 → tt i = zI (g (i + 1))) (hq : ∀ a, Q (some (.ref a)) (cD σ 0 (some (a, .inr (2, fV g frC0))))) : jX0_newFrame E α 0 [some (.int (zI 0)), some (.ref t6), none] [] σ Q := by
  refine J_iconst (zI 4) dX0_newFrame_0 rfl ?_
  refine J_newa_int (σ' := fun b => cD σ 1 (some (b, .inl (E.2.2 0, 4, .inl (fun _ => zI 0))))) 201 4 q159 rfl (by decide) (by decide) (by decide) (fun b => wC_D 1 _) dX0_newFrame_1 (fun b => ?_)
  refine J_astore_n dX0_newFrame_3 rfl (by decide) _ rfl ?_
  refine J_aload_n dX0_newFrame_4 rfl ?_
  refine J_iconst (zI 2) dX0_newFrame_5 rfl ?_
  refine J_aload_n dX0_newFrame_6 rfl ?_
  refine J_iconst (zI 0) dX0_newFrame_7 rfl ?_
  refine J_iconst (zI 4) dX0_newFrame_8 rfl ?_
  refine J_acopy (σ' := cD σ 1 (some (b, .inl (E.2.2 0, 4, .inl (va_cpy tt (fun _ => zI 0) 2 0 4))))) (sp := 2) (dp := 0) (cn := 4) (N0 := 6) (N1 := 4) (f := tt) (g := fun _ => zI 0) (ty := .int) 0 202 201 ((wC_d 2).trans h2) (wC_d 1) rfl rfl (fun _ _ => rfl) (by decide) (by decide) (by decide) q444 q446 q445 q116 (Nat.le_of_ble_eq_true rfl |> fun h => ⟨by decide, h⟩) (Nat.le_of_ble_eq_true rfl) (wC_D2 1 _ _) dX0_newFrame_9 ?_
  refine J_iload_n dX0_newFrame_12 rfl ?_
  refine J_tableOut (tgt := 91) dX0_newFrame_13 (by decide) (by decide) ?_
  refine J_new (σ' := fun a => cD (cD σ 1 (some (b, .inl (E.2.2 0, 4, .inl (va_cpy tt (fun _ => zI 0) 2 0 4))))) 0 (some (a, .inr (2, (fun _ => .int (zI 0)))))) (ci := 2) (N := 10) 200 tyX3 rfl in_X3 tyX3_ok q150 q878 q126 (by decide) (by decide) (by decide) (fun a => wC_D 0 _) dX0_newFrame_91 (fun a => ?_)
  refine J_dup dX0_newFrame_94 rfl ?_
  refine J_aload_n dX0_newFrame_95 rfl ?_
  refine J_iconst (zI 0) dX0_newFrame_96 rfl ?_
  refine J_iald (N := 6) (f := tt) 202 ((wC_d 2).trans h2) (zI_in (m := 0) rfl (by decide) (by decide)).1 dX0_newFrame_97 ?_
  refine J_top (zI (g 1)) (ht 0 (by decide)) ?_
  refine J_aload_n dX0_newFrame_98 rfl ?_
  refine J_iconst (zI 1) dX0_newFrame_99 rfl ?_
  refine J_iald (N := 6) (f := tt) 202 ((wC_d 2).trans h2) (zI_in (m := 1) rfl (by decide) (by decide)).1 dX0_newFrame_100 ?_
  refine J_top (zI (g 2)) (ht 1 (by decide)) ?_
  refine J_aload_n dX0_newFrame_101 rfl ?_
  refine J_eI (y := yX3_init) (R' := jR 2 0 0) [.int (zI (g 1)), .int (zI (g 2)), .ref b] 3 q879 q802 q126 q803 rfl (by decide +kernel) cX_1 (by decide) (by decide) rfl (Nat.le_of_ble_eq_true rfl) dX0_newFrame_102 (JE.of (X' := (cX E, some yX3_init)) (by decide +kernel) (Nat.le_of_ble_eq_true rfl) (fun z h => (Option.some.inj h).symm) (fr_init0 rfl rfl ⟨ht 2 (by decide), ht 3 (by decide), ht 4 (by decide), ht 5 (by decide)⟩ (J_rv ?_)))
  refine J_w (σ' := cD (cD σ 1 (some (b, .inl (E.2.2 0, 4, .inl (va_cpy tt (fun _ => zI 0) 2 0 4))))) 0 (some (a, .inr (2, fV g frC0)))) cD_cD ?_
  refine d1_none h1 ?_
  exact J_aret rfl dX0_newFrame_105 (by exact hq a)
theorem c_newFrame1 {E : jEnv} {α : Nat → Nat} {σ : cS} {Q : Option Value → cS → Prop} {t6 : Nat} {tt : Nat → Int32} {g : Nat → Int} (h1 : σ.d 1 = none) (h2 : σ.d 2 = some (t6, .inl (E.2.2 0, 6, .inl tt))) (ht : ∀ i, i < 6 → tt i = zI (g (i + 1))) (hq : ∀ a, Q (some (.ref a)) (cD σ 0 (some (a, .inr (3, fV g frC0))))) : jX0_newFrame E α 0 [some (.int (zI 1)), some (.ref t6), none] [] σ Q := by
  refine J_iconst (zI 4) dX0_newFrame_0 rfl ?_
  refine J_newa_int (σ' := fun b => cD σ 1 (some (b, .inl (E.2.2 0, 4, .inl (fun _ => zI 0))))) 201 4 q159 rfl (by decide) (by decide) (by decide) (fun b => wC_D 1 _) dX0_newFrame_1 (fun b => ?_)
  refine J_astore_n dX0_newFrame_3 rfl (by decide) _ rfl ?_
  refine J_aload_n dX0_newFrame_4 rfl ?_
  refine J_iconst (zI 2) dX0_newFrame_5 rfl ?_
  refine J_aload_n dX0_newFrame_6 rfl ?_
  refine J_iconst (zI 0) dX0_newFrame_7 rfl ?_
  refine J_iconst (zI 4) dX0_newFrame_8 rfl ?_
  refine J_acopy (σ' := cD σ 1 (some (b, .inl (E.2.2 0, 4, .inl (va_cpy tt (fun _ => zI 0) 2 0 4))))) (sp := 2) (dp := 0) (cn := 4) (N0 := 6) (N1 := 4) (f := tt) (g := fun _ => zI 0) (ty := .int) 0 202 201 ((wC_d 2).trans h2) (wC_d 1) rfl rfl (fun _ _ => rfl) (by decide) (by decide) (by decide) q444 q446 q445 q116 (Nat.le_of_ble_eq_true rfl |> fun h => ⟨by decide, h⟩) (Nat.le_of_ble_eq_true rfl) (wC_D2 1 _ _) dX0_newFrame_9 ?_
  refine J_iload_n dX0_newFrame_12 rfl ?_
  refine J_tableIn (tgt := 40) (27) dX0_newFrame_13 (by decide) (by decide) rfl (by decide) ?_
  refine J_new (σ' := fun a => cD (cD σ 1 (some (b, .inl (E.2.2 0, 4, .inl (va_cpy tt (fun _ => zI 0) 2 0 4))))) 0 (some (a, .inr (3, (fun _ => .int (zI 0)))))) (ci := 3) (N := 10) 200 tyX4 rfl in_X4 tyX4_ok q796 q797 q127 (by decide) (by decide) (by decide) (fun a => wC_D 0 _) dX0_newFrame_40 (fun a => ?_)
  refine J_dup dX0_newFrame_43 rfl ?_
  refine J_aload_n dX0_newFrame_44 rfl ?_
  refine J_iconst (zI 0) dX0_newFrame_45 rfl ?_
  refine J_iald (N := 6) (f := tt) 202 ((wC_d 2).trans h2) (zI_in (m := 0) rfl (by decide) (by decide)).1 dX0_newFrame_46 ?_
  refine J_top (zI (g 1)) (ht 0 (by decide)) ?_
  refine J_aload_n dX0_newFrame_47 rfl ?_
  refine J_iconst (zI 1) dX0_newFrame_48 rfl ?_
  refine J_iald (N := 6) (f := tt) 202 ((wC_d 2).trans h2) (zI_in (m := 1) rfl (by decide) (by decide)).1 dX0_newFrame_49 ?_
  refine J_top (zI (g 2)) (ht 1 (by decide)) ?_
  refine J_aload_n dX0_newFrame_50 rfl ?_
  refine J_eI (y := yX4_init) (R' := jR 3 0 0) [.int (zI (g 1)), .int (zI (g 2)), .ref b] 3 q798 q799 q127 q800 rfl (by decide +kernel) cX_1 (by decide) (by decide) rfl (Nat.le_of_ble_eq_true rfl) dX0_newFrame_51 (JE.of (X' := (cX E, some yX4_init)) (by decide +kernel) (Nat.le_of_ble_eq_true rfl) (fun z h => (Option.some.inj h).symm) (ic_init rfl rfl ⟨ht 2 (by decide), ht 3 (by decide), ht 4 (by decide), ht 5 (by decide)⟩ (J_rv ?_)))
  refine J_w (σ' := cD (cD σ 1 (some (b, .inl (E.2.2 0, 4, .inl (va_cpy tt (fun _ => zI 0) 2 0 4))))) 0 (some (a, .inr (3, fV g frC0)))) cD_cD ?_
  refine d1_none h1 ?_
  refine J_goto (tgt := 105) dX0_newFrame_54 (by decide) ?_
  exact J_aret rfl dX0_newFrame_105 (by exact hq a)
theorem c_newFrame2 {E : jEnv} {α : Nat → Nat} {σ : cS} {Q : Option Value → cS → Prop} {t6 : Nat} {tt : Nat → Int32} {g : Nat → Int} (h1 : σ.d 1 = none) (h2 : σ.d 2 = some (t6, .inl (E.2.2 0, 6, .inl tt))) (ht : ∀ i, i < 6 → tt i = zI (g (i + 1))) (hq : ∀ a, Q (some (.ref a)) (cD σ 0 (some (a, .inr (4, fV g frC0))))) : jX0_newFrame E α 0 [some (.int (zI 2)), some (.ref t6), none] [] σ Q := by
  refine J_iconst (zI 4) dX0_newFrame_0 rfl ?_
  refine J_newa_int (σ' := fun b => cD σ 1 (some (b, .inl (E.2.2 0, 4, .inl (fun _ => zI 0))))) 201 4 q159 rfl (by decide) (by decide) (by decide) (fun b => wC_D 1 _) dX0_newFrame_1 (fun b => ?_)
  refine J_astore_n dX0_newFrame_3 rfl (by decide) _ rfl ?_
  refine J_aload_n dX0_newFrame_4 rfl ?_
  refine J_iconst (zI 2) dX0_newFrame_5 rfl ?_
  refine J_aload_n dX0_newFrame_6 rfl ?_
  refine J_iconst (zI 0) dX0_newFrame_7 rfl ?_
  refine J_iconst (zI 4) dX0_newFrame_8 rfl ?_
  refine J_acopy (σ' := cD σ 1 (some (b, .inl (E.2.2 0, 4, .inl (va_cpy tt (fun _ => zI 0) 2 0 4))))) (sp := 2) (dp := 0) (cn := 4) (N0 := 6) (N1 := 4) (f := tt) (g := fun _ => zI 0) (ty := .int) 0 202 201 ((wC_d 2).trans h2) (wC_d 1) rfl rfl (fun _ _ => rfl) (by decide) (by decide) (by decide) q444 q446 q445 q116 (Nat.le_of_ble_eq_true rfl |> fun h => ⟨by decide, h⟩) (Nat.le_of_ble_eq_true rfl) (wC_D2 1 _ _) dX0_newFrame_9 ?_
  refine J_iload_n dX0_newFrame_12 rfl ?_
  refine J_tableIn (tgt := 57) (44) dX0_newFrame_13 (by decide) (by decide) rfl (by decide) ?_
  refine J_new (σ' := fun a => cD (cD σ 1 (some (b, .inl (E.2.2 0, 4, .inl (va_cpy tt (fun _ => zI 0) 2 0 4))))) 0 (some (a, .inr (4, (fun _ => .int (zI 0)))))) (ci := 4) (N := 10) 200 tyX5 rfl in_X5 tyX5_ok q844 q845 q128 (by decide) (by decide) (by decide) (fun a => wC_D 0 _) dX0_newFrame_57 (fun a => ?_)
  refine J_dup dX0_newFrame_60 rfl ?_
  refine J_aload_n dX0_newFrame_61 rfl ?_
  refine J_iconst (zI 0) dX0_newFrame_62 rfl ?_
  refine J_iald (N := 6) (f := tt) 202 ((wC_d 2).trans h2) (zI_in (m := 0) rfl (by decide) (by decide)).1 dX0_newFrame_63 ?_
  refine J_top (zI (g 1)) (ht 0 (by decide)) ?_
  refine J_aload_n dX0_newFrame_64 rfl ?_
  refine J_iconst (zI 1) dX0_newFrame_65 rfl ?_
  refine J_iald (N := 6) (f := tt) 202 ((wC_d 2).trans h2) (zI_in (m := 1) rfl (by decide) (by decide)).1 dX0_newFrame_66 ?_
  refine J_top (zI (g 2)) (ht 1 (by decide)) ?_
  refine J_aload_n dX0_newFrame_67 rfl ?_
  refine J_eI (y := yX5_init) (R' := jR 3 0 0) [.int (zI (g 1)), .int (zI (g 2)), .ref b] 3 q846 q847 q128 q848 rfl (by decide +kernel) cX_1 (by decide) (by decide) rfl (Nat.le_of_ble_eq_true rfl) dX0_newFrame_68 (JE.of (X' := (cX E, some yX5_init)) (by decide +kernel) (Nat.le_of_ble_eq_true rfl) (fun z h => (Option.some.inj h).symm) (bo_init rfl rfl ⟨ht 2 (by decide), ht 3 (by decide), ht 4 (by decide), ht 5 (by decide)⟩ (J_rv ?_)))
  refine J_w (σ' := cD (cD σ 1 (some (b, .inl (E.2.2 0, 4, .inl (va_cpy tt (fun _ => zI 0) 2 0 4))))) 0 (some (a, .inr (4, fV g frC0)))) cD_cD ?_
  refine d1_none h1 ?_
  refine J_goto (tgt := 105) dX0_newFrame_71 (by decide) ?_
  exact J_aret rfl dX0_newFrame_105 (by exact hq a)
theorem c_newFrame3 {E : jEnv} {α : Nat → Nat} {σ : cS} {Q : Option Value → cS → Prop} {t6 : Nat} {tt : Nat → Int32} {g : Nat → Int} (h1 : σ.d 1 = none) (h2 : σ.d 2 = some (t6, .inl (E.2.2 0, 6, .inl tt))) (ht : ∀ i, i < 6 → tt i = zI (g (i + 1))) (hq : ∀ a, Q (some (.ref a)) (cD σ 0 (some (a, .inr (5, fV g frC0))))) : jX0_newFrame E α 0 [some (.int (zI 3)), some (.ref t6), none] [] σ Q := by
  refine J_iconst (zI 4) dX0_newFrame_0 rfl ?_
  refine J_newa_int (σ' := fun b => cD σ 1 (some (b, .inl (E.2.2 0, 4, .inl (fun _ => zI 0))))) 201 4 q159 rfl (by decide) (by decide) (by decide) (fun b => wC_D 1 _) dX0_newFrame_1 (fun b => ?_)
  refine J_astore_n dX0_newFrame_3 rfl (by decide) _ rfl ?_
  refine J_aload_n dX0_newFrame_4 rfl ?_
  refine J_iconst (zI 2) dX0_newFrame_5 rfl ?_
  refine J_aload_n dX0_newFrame_6 rfl ?_
  refine J_iconst (zI 0) dX0_newFrame_7 rfl ?_
  refine J_iconst (zI 4) dX0_newFrame_8 rfl ?_
  refine J_acopy (σ' := cD σ 1 (some (b, .inl (E.2.2 0, 4, .inl (va_cpy tt (fun _ => zI 0) 2 0 4))))) (sp := 2) (dp := 0) (cn := 4) (N0 := 6) (N1 := 4) (f := tt) (g := fun _ => zI 0) (ty := .int) 0 202 201 ((wC_d 2).trans h2) (wC_d 1) rfl rfl (fun _ _ => rfl) (by decide) (by decide) (by decide) q444 q446 q445 q116 (Nat.le_of_ble_eq_true rfl |> fun h => ⟨by decide, h⟩) (Nat.le_of_ble_eq_true rfl) (wC_D2 1 _ _) dX0_newFrame_9 ?_
  refine J_iload_n dX0_newFrame_12 rfl ?_
  refine J_tableIn (tgt := 74) (61) dX0_newFrame_13 (by decide) (by decide) rfl (by decide) ?_
  refine J_new (σ' := fun a => cD (cD σ 1 (some (b, .inl (E.2.2 0, 4, .inl (va_cpy tt (fun _ => zI 0) 2 0 4))))) 0 (some (a, .inr (5, (fun _ => .int (zI 0)))))) (ci := 5) (N := 10) 200 tyX6 rfl in_X6 tyX6_ok q861 q862 q129 (by decide) (by decide) (by decide) (fun a => wC_D 0 _) dX0_newFrame_74 (fun a => ?_)
  refine J_dup dX0_newFrame_77 rfl ?_
  refine J_aload_n dX0_newFrame_78 rfl ?_
  refine J_iconst (zI 0) dX0_newFrame_79 rfl ?_
  refine J_iald (N := 6) (f := tt) 202 ((wC_d 2).trans h2) (zI_in (m := 0) rfl (by decide) (by decide)).1 dX0_newFrame_80 ?_
  refine J_top (zI (g 1)) (ht 0 (by decide)) ?_
  refine J_aload_n dX0_newFrame_81 rfl ?_
  refine J_iconst (zI 1) dX0_newFrame_82 rfl ?_
  refine J_iald (N := 6) (f := tt) 202 ((wC_d 2).trans h2) (zI_in (m := 1) rfl (by decide) (by decide)).1 dX0_newFrame_83 ?_
  refine J_top (zI (g 2)) (ht 1 (by decide)) ?_
  refine J_aload_n dX0_newFrame_84 rfl ?_
  refine J_eI (y := yX6_init) (R' := jR 4 0 0) [.int (zI (g 1)), .int (zI (g 2)), .ref b] 3 q863 q864 q129 q865 rfl (by decide +kernel) cX_1 (by decide) (by decide) rfl (Nat.le_of_ble_eq_true rfl) dX0_newFrame_85 (JE.of (X' := (cX E, some yX6_init)) (by decide +kernel) (Nat.le_of_ble_eq_true rfl) (fun z h => (Option.some.inj h).symm) (lo_init rfl rfl ⟨ht 2 (by decide), ht 3 (by decide), ht 4 (by decide), ht 5 (by decide)⟩ (J_rv ?_)))
  refine J_w (σ' := cD (cD σ 1 (some (b, .inl (E.2.2 0, 4, .inl (va_cpy tt (fun _ => zI 0) 2 0 4))))) 0 (some (a, .inr (5, fV g frC0)))) cD_cD ?_
  refine d1_none h1 ?_
  refine J_goto (tgt := 105) dX0_newFrame_88 (by decide) ?_
  exact J_aret rfl dX0_newFrame_105 (by exact hq a)
