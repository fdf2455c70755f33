set_option maxRecDepth 100000
/-! the component: keep, on -/
theorem kV_new {a a1 a2 : Nat} {f g : Nat → Int32} : updV (updV (fun j => if j = 0 then .int (zI 0) else .null) 1 (.ref a1)) 2 (.ref a2) = kV ((a, a1, a2), zI 0, f, g) := by
  funext j
  unfold updV kV
  by_cases z2 : j = 2
  · subst z2; rfl
  · by_cases z1 : j = 1
    · subst z1; rfl
    · by_cases z0 : j = 0
      · subst z0; rfl
      · simp only [if_neg z0, if_neg z1, if_neg z2]
theorem k_init {E : jEnv} {α : Nat → Nat} {σ : cS} {Q : Option Value → cS → Prop} {a : Nat} (h0 : σ.d 0 = some (a, .inr (6, (fun j => if j = 0 then .int (zI 0) else .null)))) (hq : ∀ a1 a2, Q none (cD (cD (cD (cD σ 1 (some (a1, .inl (E.2.2 0, 1320, .inl (fun _ => zI 0))))) 0 (some (a, .inr (6, updV (fun j => if j = 0 then .int (zI 0) else .null) 1 (.ref a1))))) 2 (some (a2, .inl (E.2.2 0, 33, .inl (fun _ => zI 0))))) 0 (some (a, .inr (6, updV (updV (fun j => if j = 0 then .int (zI 0) else .null) 1 (.ref a1)) 2 (.ref a2)))))) : J E (wC E α) (cX E, some yX11_init) cX11_init 1 none RX11 (jR 2 2 1353) 0 0 0 [some (.ref a)] [] σ Q := by
  refine J_aload_n dX11_init_0 rfl ?_
  refine J_objInit q1415 q144 q145 (Nat.le_of_ble_eq_true rfl) (by decide) dX11_init_1 ?_
  refine J_aload_n dX11_init_4 rfl ?_
  refine J_sipush (zI 1320) dX11_init_5 rfl ?_
  refine J_newa_int (σ' := fun a1 => cD σ 1 (some (a1, .inl (E.2.2 0, 1320, .inl (fun _ => zI 0))))) 201 1320 q159 rfl (by decide) (by decide) (by decide) (fun a1 => wC_D 1 _) dX11_init_8 (fun a1 => ?_)
  refine J_putF (σ' := cD (cD σ 1 (some (a1, .inl (E.2.2 0, 1320, .inl (fun _ => zI 0))))) 0 (some (a, .inr (6, updV (fun j => if j = 0 then .int (zI 0) else .null) 1 (.ref a1))))) (V := (fun j => if j = 0 then .int (zI 0) else .null)) 200 1 ((wC_d 0).trans h0) rfl in_X11 tyX11_ok nmX11 (by decide) q1417 rfl rfl rfl rfl rfl rfl (wC_D 0 _) dX11_init_10 ?_
  refine J_aload_n dX11_init_13 rfl ?_
  refine J_bipush (zI 33) dX11_init_14 rfl ?_
  refine J_newa_int (σ' := fun a2 => cD (cD (cD σ 1 (some (a1, .inl (E.2.2 0, 1320, .inl (fun _ => zI 0))))) 0 (some (a, .inr (6, updV (fun j => if j = 0 then .int (zI 0) else .null) 1 (.ref a1))))) 2 (some (a2, .inl (E.2.2 0, 33, .inl (fun _ => zI 0))))) 202 33 q159 rfl (by decide) (by decide) (by decide) (fun a2 => wC_D 2 _) dX11_init_16 (fun a2 => ?_)
  refine J_putF (σ' := cD (cD (cD (cD σ 1 (some (a1, .inl (E.2.2 0, 1320, .inl (fun _ => zI 0))))) 0 (some (a, .inr (6, updV (fun j => if j = 0 then .int (zI 0) else .null) 1 (.ref a1))))) 2 (some (a2, .inl (E.2.2 0, 33, .inl (fun _ => zI 0))))) 0 (some (a, .inr (6, updV (updV (fun j => if j = 0 then .int (zI 0) else .null) 1 (.ref a1)) 2 (.ref a2))))) (V := updV (fun j => if j = 0 then .int (zI 0) else .null) 1 (.ref a1)) 200 2 (wC_d 0) rfl in_X11 tyX11_ok nmX11 (by decide) q1419 rfl rfl rfl rfl rfl rfl (wC_D 0 _) dX11_init_18 ?_
  exact J_vret rfl dX11_init_21 (hq a1 a2)
section NK
variable {E : jEnv} {α : Nat → Nat} {o : Option MethodName} {cc : ByteArray} {mL : Nat} {ret : Option FieldType} {R : Room} {k n pc : Nat} {L : List (Option Value)} {st : List Value} {σ : cS} {Q : Option Value → cS → Prop}
theorem N_newK (hk1 : k + 1 ≤ R.cells) (hn1 : n + 3 ≤ R.slots) (d : decode cc pc = .ok (.new 66, 3)) (kk : ∀ a, J E (wC E α) (cX E, o) cc mL ret RX0 R (k + 1) (n + 3) (pc + 3) L (.ref a :: st) (cD σ 0 (some (a, .inr (6, (fun j => if j = 0 then .int (zI 0) else .null))))) Q) : J E (wC E α) (cX E, o) cc mL ret RX0 R k n (pc) L (st) σ Q :=
  J_new (σ' := fun a => cD σ 0 (some (a, .inr (6, (fun j => if j = 0 then .int (zI 0) else .null))))) (ci := 6) (N := 3) 200 tyX11 rfl in_X11 tyX11_ok q160 q1411 q137 (by decide) hk1 hn1 (fun a => wC_D 0 _) d kk
theorem N_iniK {a : Nat} (h0 : σ.d 0 = some (a, .inr (6, (fun j => if j = 0 then .int (zI 0) else .null)))) (hR : 3 ≤ R.frames ∧ 144 ≤ R.locals) (hcs : k + 2 ≤ R.cells ∧ n + 1353 ≤ R.slots) (hst : (st.map fun v => v.category).sum ≤ 8) (d : decode cc pc = .ok (.invokespecial 438, 3)) (kk : ∀ a1 a2, J E (wC E α) (cX E, o) cc mL ret RX0 R (k + 2) (n + 1353) (pc + 3) L (st) (cD (cD (cD (cD σ 1 (some (a1, .inl (E.2.2 0, 1320, .inl (fun _ => zI 0))))) 0 (some (a, .inr (6, updV (fun j => if j = 0 then .int (zI 0) else .null) 1 (.ref a1))))) 2 (some (a2, .inl (E.2.2 0, 33, .inl (fun _ => zI 0))))) 0 (some (a, .inr (6, updV (updV (fun j => if j = 0 then .int (zI 0) else .null) 1 (.ref a1)) 2 (.ref a2))))) Q) : J E (wC E α) (cX E, o) cc mL ret RX0 R k n (pc) L (.ref a :: st) σ Q :=
  J_eIN (y := yX11_init) (R' := jR 2 2 1353) [] 0 (fun A s h => h.1 _ q1412 rfl) q1413 q137 q1414 rfl (by decide +kernel) cX_1 (show 2 + 1 ≤ R.frames ∧ 8 + (1 + 11) + 48 * 2 ≤ R.locals by omega) hcs rfl hst d (JE.of (X' := (cX E, some yX11_init)) (by decide +kernel) (Nat.le_of_ble_eq_true rfl) (fun z h => (Option.some.inj h).symm) (k_init h0 (fun a1 a2 => J_rv (kk a1 a2))))
theorem CA_kpS {z : Int} {j a a1 a2 : Nat} {v : Int32} {f g : Nat → Int32} (hj : j < 3) (h : z = j) (h0 : σ.d 0 = some (a, .inr (6, kV ((a, a1, a2), v, f, g)))) (h1 : σ.d 1 = some (a1, .inl (E.2.2 0, 1320, .inl f))) (h2 : σ.d 2 = some (a2, .inl (E.2.2 0, 33, .inl g))) (d : decode cc pc = .ok (.aastore, 1)) (kk : J E (wC E α) (cX E, o) cc mL ret RX0 R k n (pc + 1) L (st) (cD (cD (cD (cKp σ j (some ((a, a1, a2), v, f, g))) 0 none) 1 none) 2 none) Q) : J E (wC E α) (cX E, o) cc mL ret RX0 R k n (pc) L (.ref a :: .int (zI z) :: .ref (α 33) :: st) σ Q := by
  obtain ⟨i1, i2⟩ := zI_in (N := 3) h hj (by decide)
  refine J_toId (J_aast (t0 := 6) (C := "FrameSheets$Kept") (N := 3) (f := fun j => (σ.kp j).map (fun x => x.1.1)) (V := kV ((a, a1, a2), v, f, g)) 33 200 rfl rfl (by rw [wC_d 0]; exact h0) rfl (Or.inl rfl) i1 rfl d ?_)
  rw [i2]
  refine J_map _ (fun q => if q = 140 + j then 200 else if q = 143 + j then 201 else if q = 146 + j then 202 else q) (fun q x hq => (wC_KpS hj h0 h1 h2 q x hq).1) (fun r1 r2 x1 x2 e1 e2 e => ?_) kk
  have b1 := (wC_KpS hj h0 h1 h2 r1 x1 e1).2
  have b2 := (wC_KpS hj h0 h1 h2 r2 x2 e2).2
  have key : ∀ q, q ≠ 200 ∧ q ≠ 201 ∧ q ≠ 202 → (q = 140 + j ∧ (if q = 140 + j then 200 else if q = 143 + j then 201 else if q = 146 + j then 202 else q) = 200) ∨ (q = 143 + j ∧ (if q = 140 + j then 200 else if q = 143 + j then 201 else if q = 146 + j then 202 else q) = 201) ∨ (q = 146 + j ∧ (if q = 140 + j then 200 else if q = 143 + j then 201 else if q = 146 + j then 202 else q) = 202) ∨ ((if q = 140 + j then 200 else if q = 143 + j then 201 else if q = 146 + j then 202 else q) = q ∧ q ≠ 140 + j ∧ q ≠ 143 + j ∧ q ≠ 146 + j) := by
    intro q hq
    by_cases z0 : q = 140 + j
    · exact Or.inl ⟨z0, if_pos z0⟩
    · rw [if_neg z0]
      by_cases z1 : q = 143 + j
      · exact Or.inr (Or.inl ⟨z1, if_pos z1⟩)
      · rw [if_neg z1]
        by_cases z2 : q = 146 + j
        · exact Or.inr (Or.inr (Or.inl ⟨z2, if_pos z2⟩))
        · rw [if_neg z2]
          exact Or.inr (Or.inr (Or.inr ⟨rfl, z0, z1, z2⟩))
  have c1 := key r1 b1
  have c2 := key r2 b2
  generalize (if r1 = 140 + j then 200 else if r1 = 143 + j then 201 else if r1 = 146 + j then 202 else r1) = m1 at *
  generalize (if r2 = 140 + j then 200 else if r2 = 143 + j then 201 else if r2 = 146 + j then 202 else r2) = m2 at *
  have e' : m1 = m2 := e
  omega
end NK
def cDd (σ : cS) (d : jW) : cS := (σ.i, σ.a, σ.h, σ.ro, σ.tx, σ.fr, σ.rf, σ.kp, σ.ru, σ.rd, d)
theorem cD_dd {σ : cS} {k : Nat} {x : Option (Nat × jE)} : cD σ k x = cDd σ (fun j => if j = k then x else σ.d j) := rfl
theorem cD_dd2 {σ : cS} {d : jW} {k : Nat} {x : Option (Nat × jE)} : cD (cDd σ d) k x = cDd σ (fun j => if j = k then x else d j) := rfl
theorem cKp_dd {σ : cS} {d : jW} {k : Nat} {x : _} : cKp (cDd σ d) k x = cDd (cKp σ k x) d := rfl
theorem kp_new {σ : cS} {j : Nat} {x y0 y1 y2 y3 : _} {v : _} (hd : ∀ i, σ.d i = none) : cD (cD (cD (cKp (cD (cD (cD (cD (cD σ 0 x) 1 y0) 0 y1) 2 y2) 0 y3) j v) 0 none) 1 none) 2 none = cKp σ j v := by
  have e : (fun i => if i = 2 then (none : Option (Nat × jE)) else if i = 1 then none else if i = 0 then none else if i = 0 then y3 else if i = 2 then y2 else if i = 0 then y1 else if i = 1 then y0 else if i = 0 then x else σ.d i) = σ.d := by
    funext i
    by_cases z2 : i = 2
    · rw [if_pos z2, hd]
    · rw [if_neg z2]
      by_cases z1 : i = 1
      · rw [if_pos z1, hd]
      · rw [if_neg z1]
        by_cases z0 : i = 0
        · rw [if_pos z0, hd]
        · simp only [if_neg z0, if_neg z1, if_neg z2]
  rw [cD_dd (σ := σ) (k := 0) (x := x), cD_dd2, cD_dd2, cD_dd2, cD_dd2, cKp_dd, cD_dd2, cD_dd2, cD_dd2, e]
  rfl
theorem va_cpy_0 {f g : Nat → Int32} {n i : Nat} (h : i < n) : va_cpy f g 0 0 n i = f i := by
  unfold va_cpy
  rw [if_pos (by omega)]
  congr 1
  omega
theorem cRow.cpy {many o n : Nat} {a g : Nat → Int32} {p : mPl} (hm : many ≤ 8) (h : cRow many a o p) (ho : o + 33 ≤ n) : cRow many (va_cpy a g 0 0 n) o p := by
  obtain ⟨h1, c, h2, h3⟩ := h
  exact ⟨(va_cpy_0 (by omega)).trans h1, c, h2, fun f k hf hk => (va_cpy_0 (by omega)).trans (h3 f k hf hk)⟩
theorem keep_c {many : Nat} {P c : Nat → Nat → Int} {rule : Int} {dm : Nat} {H : Nat → mPl} {kc : Nat → Int} {KH : Nat → Nat → mPl} {KN : Nat → mPl} {σ σ' : cS} {k : Nat} {ad : Nat × Nat × Nat} {g n0 : Nat → Int32} (hm : many ≤ 8) (hP : cPl many P c) (hL : cLg many dm H σ) (hd : dm ≤ 40) (hK : cKc many kc KH KN σ) (hk : k < 3) (e : kQ k σ σ') (hx : σ'.kp k = some (ad, zI (dm : Nat), va_cpy (σ.a 31) g 0 0 (33 * dm), wAt n0 0 33 (wRo many c rule))) : cKc many (upk kc k dm) (upk KH k H) (upk KN k (P, rule)) σ' := by
  intro j hj
  unfold upk
  by_cases z : j = k
  · subst z
    rw [if_pos rfl, if_pos rfl, if_pos rfl]
    refine Or.inr ⟨_, hx, by omega, by omega, rfl, wRo_row hm hP, fun d hd2 => ?_⟩
    exact (hL.2 d (by omega)).cpy hm (by omega)
  · rw [if_neg z, if_neg z, if_neg z, e.2.2.2.2.2.2.1 j z]
    exact hK j hj
theorem cl_keep41 {E : jEnv} {α : Nat → Nat} {σ : cS} {Q : Option Value → cS → Prop} {many : Nat} {wide high bl : Int} {G : Nat → Nat → Int} {ad : Nat → Nat} {c : Nat → Nat → Int} {P : Nat → Nat → Int} {rule : Int} {dm : Nat} {H : Nat → mPl} {kc : Nat → Int} {KH : Nat → Nat → mPl} {KN : Nat → mPl} {k kk nn : Nat} {σ0 : cS} {x : (Nat × Nat × Nat) × Int32 × (Nat → Int32) × (Nat → Int32)}  (hkk : kk ≤ 3 ∧ nn ≤ 1356) (hS : cSh many wide high bl G ad c σ) (hO : shOK many wide high bl G) (hP : cPl many P c) (hN : plOK many P rule) (hL : cLg many dm H σ0) (hd : dm ≤ 40) (hK : cKc many kc KH KN σ0) (hR : cRl rule σ) (hk : k < 3) (e0 : kQ k σ0 σ) (hx : σ.kp k = some x) (hq : ∀ σ', kQ k σ0 σ' → cKc many (upk kc k dm) (upk KH k H) (upk KN k (P, rule)) σ' → Q (some (.int (zI (dm : Nat)))) σ')  : J E (wC E α) (cX E, none) cX0_keep 3 (some .int) RX0 (jR 3 3 1356) (kk) (nn) 41 [some (.ref (α 0)), some (.int (zI (k : Nat))), none] [] σ Q := by
  have hO8 := hO.s
  have hD1 : σ.i 30 = zI (dm : Nat) := by rw [e0.1]; exact hL.1
  refine J_aload_n dX0_keep_41 rfl ?_
  refine CG_kept dX0_keep_42 ?_
  refine J_iload_n dX0_keep_45 rfl ?_
  refine CA_kp hx (by omega) (by omega) dX0_keep_46 ?_
  refine J_astore_n dX0_keep_47 rfl (by decide) _ rfl ?_
  refine J_aload_n dX0_keep_48 rfl ?_
  refine J_aload_n dX0_keep_49 rfl ?_
  refine CG_deedMany dX0_keep_50 ?_
  refine J_top (zI (dm)) hD1 ?_
  refine KP_deeds hk hx dX0_keep_53 ?_
  refine J_aload_n dX0_keep_56 rfl ?_
  refine CG_ahead dX0_keep_57 ?_
  refine J_iconst (zI 0) dX0_keep_60 rfl ?_
  refine J_aload_n dX0_keep_61 rfl ?_
  refine KG_notes (x := (x.1, zI (dm : Nat), x.2.2)) hk cKp_s dX0_keep_62 ?_
  refine J_iconst (zI 0) dX0_keep_65 rfl ?_
  refine J_bipush (zI 33) dX0_keep_66 rfl ?_
  refine J_aload_n dX0_keep_68 rfl ?_
  refine CG_deedMany dX0_keep_69 ?_
  refine J_top (zI (dm)) hD1 ?_
  refine J_imul_z dX0_keep_72 ?_
  refine J_top (zI ((33 * dm : Nat) : Int)) (congrArg zI (by omega)) ?_
  refine CC_toKept (x := (x.1, zI (dm : Nat), x.2.2)) hk cKp_s (by omega) (Nat.le_of_ble_eq_true rfl |> fun h => ⟨by decide, h⟩) (Nat.le_of_ble_eq_true rfl) dX0_keep_73 ?_
  refine J_aload_n dX0_keep_76 rfl ?_
  refine J_aload_n dX0_keep_77 rfl ?_
  refine KG_now (x := (x.1, zI (dm : Nat), va_cpy (σ.a 31) x.2.2.1 0 0 (33 * dm), x.2.2.2)) hk cKp_s dX0_keep_78 ?_
  refine J_iconst (zI 0) dX0_keep_81 rfl ?_
  refine CC_X0_write_2 (by decide) (show _ + 0 ≤ 3 ∧ _ + 0 ≤ 1356 by omega) (Nat.le_of_ble_eq_true rfl) dX0_keep_82 ?_
  refine c_writeK (x := (x.1, zI (dm : Nat), va_cpy (σ.a 31) x.2.2.1 0 0 (33 * dm), x.2.2.2)) (show cSh many wide high bl G ad c _ from hS) hO hP hN hk cKp_s (show cRl rule _ from hR) (fun σ3 e3 x3 => ?_)
  have e4 : kQ k σ0 σ3 := (e0.s.s).trans e3
  have hD3 : σ3.i 30 = zI (dm : Nat) := by rw [e4.1]; exact hL.1
  refine J_rv ?_
  refine J_aload_n dX0_keep_85 rfl ?_
  refine CG_deedMany dX0_keep_86 ?_
  refine J_top (zI (dm)) hD3 ?_
  refine J_iret rfl dX0_keep_89 ?_
  refine hq σ3 e4 (keep_c (by omega) hP hL hd hK hk e4 (ad := x.1) (g := x.2.2.1) (n0 := x.2.2.2) ?_)
  rw [x3, e0.2.1]
theorem c_keep_bad {E : jEnv} {α : Nat → Nat} {σ : cS} {Q : Option Value → cS → Prop} {v : Int} (rv : zR v) (hv : ¬ (0 ≤ v ∧ v ≤ 2)) (hq : Q (some (.int (zI (-1)))) σ) : jX0_keep E α 0 [some (.ref (α 0)), some (.int (zI (v))), none] [] σ Q := by
  refine J_iload_n dX0_keep_0 rfl ?_
  refine CC_X0_isKept (by decide) (by decide) (Nat.le_of_ble_eq_true rfl) dX0_keep_1 ?_
  refine c_isKept (by unfold zR at *; omega) (fun b1 => ?_) (fun b1 => ?_)
  · exfalso; omega
  · refine J_ri ?_
    refine J_if_ne_n (tgt := 9) dX0_keep_4 (by decide) (by decide) ?_
    refine J_iconst (zI (-1)) dX0_keep_7 rfl ?_
    exact J_iret rfl dX0_keep_8 (by exact hq)
theorem c_keep_no {E : jEnv} {α : Nat → Nat} {σ : cS} {Q : Option Value → cS → Prop} {many : Nat} {wide high bl : Int} {G : Nat → Nat → Int} {ad : Nat → Nat} {c : Nat → Nat → Int} {k : Nat} (hS : cSh many wide high bl G ad c σ) (hO : shOK many wide high bl G) (hk : k < 3) (hm : many = 0) (hq : Q (some (.int (zI (-4)))) σ) : jX0_keep E α 0 [some (.ref (α 0)), some (.int (zI (k : Nat))), none] [] σ Q := by
  have hO8 := hO.s
  refine J_iload_n dX0_keep_0 rfl ?_
  refine CC_X0_isKept (by decide) (by decide) (Nat.le_of_ble_eq_true rfl) dX0_keep_1 ?_
  refine c_isKept (by unfold zR at *; omega) (fun b1 => ?_) (fun b1 => ?_)
  · refine J_ri ?_
    refine J_if_ne_y (tgt := 9) dX0_keep_4 (by decide) (by decide) ?_
    refine J_aload_n dX0_keep_9 rfl ?_
    refine CG_many dX0_keep_10 ?_
    refine J_top (zI (many)) hS.1 ?_
    refine J_if_ne_z (tgt := 19) dX0_keep_13 (by decide) (by unfold zR; omega) (fun c13 => ?_) (fun c13 => ?_)
    · exfalso; omega
    · skip
      refine J_bipush (zI (-4)) dX0_keep_16 rfl ?_
      exact J_iret rfl dX0_keep_18 (by exact hq)
  · exfalso; omega
theorem c_keepN {E : jEnv} {α : Nat → Nat} {σ : cS} {Q : Option Value → cS → Prop} {many : Nat} {wide high bl : Int} {G : Nat → Nat → Int} {ad : Nat → Nat} {c : Nat → Nat → Int} {P : Nat → Nat → Int} {rule : Int} {dm : Nat} {H : Nat → mPl} {kc : Nat → Int} {KH : Nat → Nat → mPl} {KN : Nat → mPl} {k : Nat} (hS : cSh many wide high bl G ad c σ) (hO : shOK many wide high bl G) (hP : cPl many P c) (hN : plOK many P rule) (hL : cLg many dm H σ) (hd : dm ≤ 40) (hK : cKc many kc KH KN σ) (hR : cRl rule σ) (hk : k < 3) (hdn : ∀ i, σ.d i = none) (hm : 0 < many) (hx : σ.kp k = none) (hq : ∀ σ', kQ k σ σ' → cKc many (upk kc k dm) (upk KH k H) (upk KN k (P, rule)) σ' → Q (some (.int (zI (dm : Nat)))) σ')  : jX0_keep E α 0 [some (.ref (α 0)), some (.int (zI (k : Nat))), none] [] σ Q := by
  have hO8 := hO.s
  refine J_iload_n dX0_keep_0 rfl ?_
  refine CC_X0_isKept (by decide) (by decide) (Nat.le_of_ble_eq_true rfl) dX0_keep_1 ?_
  refine c_isKept (by unfold zR at *; omega) (fun b1 => ?_) (fun b1 => ?_)
  · refine J_ri ?_
    refine J_if_ne_y (tgt := 9) dX0_keep_4 (by decide) (by decide) ?_
    refine J_aload_n dX0_keep_9 rfl ?_
    refine CG_many dX0_keep_10 ?_
    refine J_top (zI (many)) hS.1 ?_
    refine J_if_ne_z (tgt := 19) dX0_keep_13 (by decide) (by unfold zR; omega) (fun c13 => ?_) (fun c13 => ?_)
    · skip
      refine J_aload_n dX0_keep_19 rfl ?_
      refine CG_kept dX0_keep_20 ?_
      refine J_iload_n dX0_keep_23 rfl ?_
      refine CA_kpN hx (by omega) (by omega) dX0_keep_24 ?_
      refine J_ifnonnullN dX0_keep_25 ?_
      refine J_aload_n dX0_keep_28 rfl ?_
      refine CG_kept dX0_keep_29 ?_
      refine J_iload_n dX0_keep_32 rfl ?_
      refine N_newK (by decide) (by decide) dX0_keep_33 (fun a => ?_)
      refine J_dup dX0_keep_36 rfl ?_
      refine N_iniK rfl (by decide) (by decide) (Nat.le_of_ble_eq_true rfl) dX0_keep_37 (fun a1 a2 => ?_)
      refine CA_kpS (a1 := a1) (a2 := a2) (v := zI 0) (f := fun _ => zI 0) (g := fun _ => zI 0) hk (by omega) (congrArg (fun V => some (a, Sum.inr (6, V))) kV_new) rfl rfl dX0_keep_40 ?_
      refine J_w (kp_new hdn) ?_
      exact cl_keep41 (x := ((a, a1, a2), zI 0, fun _ => zI 0, fun _ => zI 0)) ⟨by decide, by decide⟩ (show cSh many wide high bl G ad c _ from hS) hO hP hN hL hd hK (show cRl rule _ from hR) hk (kQ.refl.s) cKp_s hq
    · exfalso; omega
  · exfalso; omega
theorem c_keepS {E : jEnv} {α : Nat → Nat} {σ : cS} {Q : Option Value → cS → Prop} {many : Nat} {wide high bl : Int} {G : Nat → Nat → Int} {ad : Nat → Nat} {c : Nat → Nat → Int} {P : Nat → Nat → Int} {rule : Int} {dm : Nat} {H : Nat → mPl} {kc : Nat → Int} {KH : Nat → Nat → mPl} {KN : Nat → mPl} {k : Nat} {x : (Nat × Nat × Nat) × Int32 × (Nat → Int32) × (Nat → Int32)} (hS : cSh many wide high bl G ad c σ) (hO : shOK many wide high bl G) (hP : cPl many P c) (hN : plOK many P rule) (hL : cLg many dm H σ) (hd : dm ≤ 40) (hK : cKc many kc KH KN σ) (hR : cRl rule σ) (hk : k < 3) (hm : 0 < many) (hx : σ.kp k = some x) (hq : ∀ σ', kQ k σ σ' → cKc many (upk kc k dm) (upk KH k H) (upk KN k (P, rule)) σ' → Q (some (.int (zI (dm : Nat)))) σ')  : jX0_keep E α 0 [some (.ref (α 0)), some (.int (zI (k : Nat))), none] [] σ Q := by
  have hO8 := hO.s
  refine J_iload_n dX0_keep_0 rfl ?_
  refine CC_X0_isKept (by decide) (by decide) (Nat.le_of_ble_eq_true rfl) dX0_keep_1 ?_
  refine c_isKept (by unfold zR at *; omega) (fun b1 => ?_) (fun b1 => ?_)
  · refine J_ri ?_
    refine J_if_ne_y (tgt := 9) dX0_keep_4 (by decide) (by decide) ?_
    refine J_aload_n dX0_keep_9 rfl ?_
    refine CG_many dX0_keep_10 ?_
    refine J_top (zI (many)) hS.1 ?_
    refine J_if_ne_z (tgt := 19) dX0_keep_13 (by decide) (by unfold zR; omega) (fun c13 => ?_) (fun c13 => ?_)
    · skip
      refine J_aload_n dX0_keep_19 rfl ?_
      refine CG_kept dX0_keep_20 ?_
      refine J_iload_n dX0_keep_23 rfl ?_
      refine CA_kp hx (by omega) (by omega) dX0_keep_24 ?_
      refine J_ifnonnull (tgt := 41) dX0_keep_25 (by decide) ?_
      exact cl_keep41 ⟨by decide, by decide⟩ hS hO hP hN hL hd hK hR hk kQ.refl hx hq
    · exfalso; omega
  · exfalso; omega
theorem c_keep {E : jEnv} {α : Nat → Nat} {σ : cS} {Q : Option Value → cS → Prop} {many : Nat} {wide high bl : Int} {G : Nat → Nat → Int} {ad : Nat → Nat} {c : Nat → Nat → Int} {P : Nat → Nat → Int} {rule : Int} {dm : Nat} {H : Nat → mPl} {kc : Nat → Int} {KH : Nat → Nat → mPl} {KN : Nat → mPl} {k : Nat} (hS : cSh many wide high bl G ad c σ) (hO : shOK many wide high bl G) (hP : cPl many P c) (hN : plOK many P rule) (hL : cLg many dm H σ) (hd : dm ≤ 40) (hK : cKc many kc KH KN σ) (hR : cRl rule σ) (hk : k < 3) (hdn : ∀ i, σ.d i = none) (hm : 0 < many) (hq : ∀ σ', kQ k σ σ' → cKc many (upk kc k dm) (upk KH k H) (upk KN k (P, rule)) σ' → Q (some (.int (zI (dm : Nat)))) σ') : jX0_keep E α 0 [some (.ref (α 0)), some (.int (zI (k : Nat))), none] [] σ Q := by
  cases hx : σ.kp k with
  | none => exact c_keepN hS hO hP hN hL hd hK hR hk hdn hm hx hq
  | some x => exact c_keepS hS hO hP hN hL hd hK hR hk hm hx hq
theorem c_on_bad {E : jEnv} {α : Nat → Nat} {σ : cS} {Q : Option Value → cS → Prop} {v : Int} (rv : zR v) (hv : ¬ (0 ≤ v ∧ v ≤ 2)) (hq : Q (some (.int (zI (-1)))) σ) : jX0_on E α 0 [some (.ref (α 0)), some (.int (zI (v))), none] [] σ Q := by
  refine J_iload_n dX0_on_0 rfl ?_
  refine CC_X0_isKept (by decide) (by decide) (Nat.le_of_ble_eq_true rfl) dX0_on_1 ?_
  refine c_isKept (by unfold zR at *; omega) (fun b1 => ?_) (fun b1 => ?_)
  · exfalso; omega
  · refine J_ri ?_
    refine J_if_ne_n (tgt := 9) dX0_on_4 (by decide) (by decide) ?_
    refine J_iconst (zI (-1)) dX0_on_7 rfl ?_
    exact J_iret rfl dX0_on_8 (by exact hq)
theorem c_on_no {E : jEnv} {α : Nat → Nat} {σ : cS} {Q : Option Value → cS → Prop} {many : Nat} {kc : Nat → Int} {KH : Nat → Nat → mPl} {KN : Nat → mPl} {k : Nat} (hK : cKc many kc KH KN σ) (hk : k < 3) (h0 : kc k = -1) (hq : Q (some (.int (zI (-3)))) (cAr (cI σ 0 (zI 1)) 1 (upd (σ.a 1) 1 (σ.a 1 1 + zI 1)))) : jX0_on E α 0 [some (.ref (α 0)), some (.int (zI (k : Nat))), none] [] σ Q := by
  have hn : σ.kp k = none := by
    rcases hK k hk with z | ⟨x, z2, z3, z4⟩
    · exact z.2
    · omega
  refine J_iload_n dX0_on_0 rfl ?_
  refine CC_X0_isKept (by decide) (by decide) (Nat.le_of_ble_eq_true rfl) dX0_on_1 ?_
  refine c_isKept (by unfold zR at *; omega) (fun b1 => ?_) (fun b1 => ?_)
  · refine J_ri ?_
    refine J_if_ne_y (tgt := 9) dX0_on_4 (by decide) (by decide) ?_
    refine J_aload_n dX0_on_9 rfl ?_
    refine CG_kept dX0_on_10 ?_
    refine J_iload_n dX0_on_13 rfl ?_
    refine CA_kpN hn (by omega) (by omega) dX0_on_14 ?_
    refine J_ifnonnullN dX0_on_15 ?_
    refine J_aload_n dX0_on_18 rfl ?_
    refine J_iconst (zI 1) dX0_on_19 rfl ?_
    refine CC_X0_found (by decide) (by decide) (Nat.le_of_ble_eq_true rfl) dX0_on_20 ?_
    refine c_found (m := _) (by decide) ?_
    refine J_ri ?_
    exact J_iret rfl dX0_on_23 (by exact hq)
  · exfalso; omega
theorem c_on {E : jEnv} {α : Nat → Nat} {σ : cS} {Q : Option Value → cS → Prop} {many : Nat} {wide high bl : Int} {G : Nat → Nat → Int} {ad : Nat → Nat} {c : Nat → Nat → Int} {kc : Nat → Int} {KH : Nat → Nat → mPl} {KN : Nat → mPl} {k dm : Nat} (hS : cSh many wide high bl G ad c σ) (hO : shOK many wide high bl G) (hK : cKc many kc KH KN σ) (hd0 : σ.d 0 = none) (hk : k < 3) (hc : kc k = dm) (hp : 0 ≤ (KN k).2 ∧ (KN k).2 ≤ 3) (hq : ∀ σ' c', cP [30] [31] σ σ' → cSh many wide high bl G ad c' σ' → cPl many (KN k).1 c' → cRl (KN k).2 σ' → cLg many dm (KH k) σ' → Q (some (.int (zI (dm : Nat)))) σ') : jX0_on E α 0 [some (.ref (α 0)), some (.int (zI (k : Nat))), none] [] σ Q := by
  have hO8 := hO.s
  obtain ⟨x, hx, k1, k2, k3, k4, k5⟩ : ∃ x, σ.kp k = some x ∧ 0 ≤ kc k ∧ kc k ≤ 40 ∧ x.2.1 = zI (kc k) ∧ cRow many x.2.2.2 0 (KN k) ∧ ∀ d : Nat, (d : Int) < kc k → cRow many x.2.2.1 (33 * d) (KH k d) := by
    rcases hK k hk with z | z
    · omega
    · exact z
  rw [hc] at k3
  refine J_iload_n dX0_on_0 rfl ?_
  refine CC_X0_isKept (by decide) (by decide) (Nat.le_of_ble_eq_true rfl) dX0_on_1 ?_
  refine c_isKept (by unfold zR at *; omega) (fun b1 => ?_) (fun b1 => ?_)
  · refine J_ri ?_
    refine J_if_ne_y (tgt := 9) dX0_on_4 (by decide) (by decide) ?_
    refine J_aload_n dX0_on_9 rfl ?_
    refine CG_kept dX0_on_10 ?_
    refine J_iload_n dX0_on_13 rfl ?_
    refine CA_kp hx (by omega) (by omega) dX0_on_14 ?_
    refine J_ifnonnull (tgt := 24) dX0_on_15 (by decide) ?_
    refine J_aload_n dX0_on_24 rfl ?_
    refine CG_kept dX0_on_25 ?_
    refine J_iload_n dX0_on_28 rfl ?_
    refine CA_kp hx (by omega) (by omega) dX0_on_29 ?_
    refine J_astore_n dX0_on_30 rfl (by decide) _ rfl ?_
    refine J_aload_n dX0_on_31 rfl ?_
    refine J_aload_n dX0_on_32 rfl ?_
    refine KG_deeds hk hx dX0_on_33 ?_
    refine J_top (zI (dm : Nat)) k3 ?_
    refine CP_deedMany dX0_on_36 ?_
    refine J_aload_n dX0_on_39 rfl ?_
    refine KG_notes (x := x) hk hx dX0_on_40 ?_
    refine J_iconst (zI 0) dX0_on_43 rfl ?_
    refine J_aload_n dX0_on_44 rfl ?_
    refine CG_ahead dX0_on_45 ?_
    refine J_iconst (zI 0) dX0_on_48 rfl ?_
    refine J_bipush (zI 33) dX0_on_49 rfl ?_
    refine J_aload_n dX0_on_51 rfl ?_
    refine CG_deedMany dX0_on_52 ?_
    refine J_top (zI (dm)) rfl ?_
    refine J_imul_z dX0_on_55 ?_
    refine J_top (zI ((33 * dm : Nat) : Int)) (congrArg zI (by omega)) ?_
    refine CC_ofKept (x := x) hk hx (by omega) (Nat.le_of_ble_eq_true rfl |> fun h => ⟨by decide, h⟩) (Nat.le_of_ble_eq_true rfl) dX0_on_56 ?_
    refine J_aload_n dX0_on_59 rfl ?_
    refine J_aload_n dX0_on_60 rfl ?_
    refine KG_now (x := x) hk hx dX0_on_61 ?_
    refine J_iconst (zI 0) dX0_on_64 rfl ?_
    refine CC_X0_readBack (by decide) (by decide) (Nat.le_of_ble_eq_true rfl) dX0_on_65 ?_
    refine c_readBackK (x := x) (p := KN k) (show cSh many wide high bl G ad c (cAr (cI σ 30 (zI (dm : Nat))) 31 (va_cpy x.2.2.1 (σ.a 31) 0 0 (33 * dm))) from hS) hO hk hx hd0 k4 hp (fun σ1 c1 e1 s1 p1 r1 => ?_)
    refine J_rv ?_
    refine J_aload_n dX0_on_68 rfl ?_
    refine CG_deedMany dX0_on_69 ?_
    refine J_top (zI (dm)) (e1.1 30 (by decide)) ?_
    refine J_iret rfl dX0_on_72 ?_
    refine hq σ1 c1 (cP.trans ((cP.refl.sI (by decide)).sA (by decide)) (e1.mono (by decide) (by decide))) s1 p1 r1 ⟨e1.1 30 (by decide), fun d hd2 => ?_⟩
    rw [e1.2.1 31 (by decide)]
    exact (k5 d (by omega)).cpy (by omega) (by omega)
  · exfalso; omega
