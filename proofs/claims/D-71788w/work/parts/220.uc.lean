set_option maxRecDepth 100000
/-! the component's constructor -/
def cS0 (ru : Nat) : cS := (fun _ => zI 0, fun _ _ => zI 0, 0, fun _ => none, fun _ => none, fun _ => none, fun _ => none, fun _ => none, (ru, 0), none, fun _ => none)
def cPV (ru : Nat) (α : Nat → Nat) (b k : Nat) : Value := if cK k = 0 then .int (zI 0) else if cK k = 1 then (if k < b then .ref (α (k + 1)) else .null) else if cK k = 2 then .long 0 else if cK k = 3 then (if k < b then .ref ru else .null) else .null
def wCP (E : jEnv) (a0 ru : Nat) (α : Nat → Nat) (b : Nat) : jW := fun r => if r = 0 then some (a0, .inr (1, cPV ru α b)) else if r < 39 then (if cK (r - 1) = 1 ∧ r - 1 < b then some (α r, cA E (cS0 ru) (r - 1)) else none) else if r = 150 then (if 10 < b then some (ru, .inr (9, fun _ => .null)) else none) else none
theorem cK_b : ∀ k, k < 38 → (cK k = 3 ↔ k = 10) := by decide
theorem cK_3 {k : Nat} (h : cK k = 3) : k = 10 := by
  by_cases q : k < 38
  · exact (cK_b k q).mp h
  · obtain ⟨j, rfl⟩ : ∃ j, k = j + 38 := ⟨k - 38, by omega⟩
    cases h
theorem cK_1 {k : Nat} (h : cK k = 1) : k < 38 := by
  apply Classical.byContradiction
  intro q
  obtain ⟨j, rfl⟩ : ∃ j, k = j + 38 := ⟨k - 38, by omega⟩
  cases h
theorem wCP_s {E : jEnv} {a0 ru a b k : Nat} {α : Nat → Nat} (hk : cK k = 1) (hb : b ≤ k) (h : ∀ j, j < k → b ≤ j → cK j ≠ 1 ∧ cK j ≠ 3) : j_up (j_up (wCP E a0 ru α b) (k + 1) (some (a, cA E (cS0 ru) k))) 0 (some (a0, .inr (1, updV (cPV ru α b) k (.ref a)))) = wCP E a0 ru (upA α (k + 1) a) (k + 1) := by
  have hk38 := cK_1 hk
  have h10 : 10 < b ↔ 10 < k + 1 := by
    constructor
    · intro q; omega
    · intro q
      apply Classical.byContradiction
      intro z
      by_cases e : k = 10
      · subst e; cases hk
      · exact (h 10 (by omega) (by omega)).2 rfl
  funext r
  by_cases r0 : r = 0
  · subst r0
    show some (a0, (Sum.inr (1, updV (cPV ru α b) k (.ref a)) : jE)) = some (a0, .inr (1, cPV ru (upA α (k + 1) a) (k + 1)))
    have e : updV (cPV ru α b) k (.ref a) = cPV ru (upA α (k + 1) a) (k + 1) := by
      funext j
      by_cases z : j = k
      · subst z
        simp [updV, cPV, hk, upA]
      · have e1 : updV (cPV ru α b) k (.ref a) j = cPV ru α b j := by simp [updV, z]
        rw [e1]
        unfold cPV
        by_cases t0 : cK j = 0
        · rw [if_pos t0, if_pos t0]
        · rw [if_neg t0, if_neg t0]
          by_cases t1 : cK j = 1
          · rw [if_pos t1, if_pos t1]
            by_cases jb : j < b
            · rw [if_pos jb, if_pos (by omega)]
              unfold upA
              rw [if_neg (by omega)]
            · have hjk : ¬ j < k := fun q => (h j q (by omega)).1 t1
              rw [if_neg jb, if_neg (by omega)]
          · rw [if_neg t1, if_neg t1]
            by_cases t2 : cK j = 2
            · rw [if_pos t2, if_pos t2]
            · rw [if_neg t2, if_neg t2]
              by_cases t3 : cK j = 3
              · rw [if_pos t3, if_pos t3]
                have := cK_3 t3
                subst this
                by_cases q : 10 < b
                · rw [if_pos q, if_pos (h10.mp q)]
                · rw [if_neg q, if_neg (fun z => q (h10.mpr z))]
              · rw [if_neg t3, if_neg t3]
    rw [e]
  · simp only [j_up, if_neg r0]
    by_cases z : r = k + 1
    · subst z
      rw [if_pos rfl]
      unfold wCP
      rw [if_neg (by omega), if_pos (by omega), Nat.add_sub_cancel, if_pos ⟨hk, by omega⟩]
      unfold upA
      rw [if_pos rfl]
    · rw [if_neg z]
      unfold wCP
      rw [if_neg r0, if_neg r0]
      by_cases r39 : r < 39
      · rw [if_pos r39, if_pos r39]
        by_cases y : cK (r - 1) = 1 ∧ r - 1 < b
        · rw [if_pos y, if_pos ⟨y.1, by omega⟩]
          unfold upA
          rw [if_neg z]
        · rw [if_neg y]
          have : ¬ (cK (r - 1) = 1 ∧ r - 1 < k + 1) := fun q => by
            by_cases jb : r - 1 < b
            · exact y ⟨q.1, jb⟩
            · exact (h (r - 1) (by omega) (by omega)).1 q.1
          rw [if_neg this]
      · rw [if_neg r39, if_neg r39]
        by_cases q : 10 < b
        · simp only [if_pos q, if_pos (h10.mp q)]
        · simp only [if_neg q, if_neg (fun z => q (h10.mpr z))]
theorem wCP_r {E : jEnv} {a0 ru a : Nat} {α : Nat → Nat} : j_up (j_up (wCP E a0 ru α 10) 150 (some (a, .inr (9, fun _ => .null)))) 0 (some (a0, .inr (1, updV (cPV ru α 10) 10 (.ref a)))) = wCP E a0 a α 11 := by
  funext r
  by_cases r0 : r = 0
  · subst r0
    show some (a0, (Sum.inr (1, updV (cPV ru α 10) 10 (.ref a)) : jE)) = some (a0, .inr (1, cPV a α 11))
    have e : updV (cPV ru α 10) 10 (.ref a) = cPV a α 11 := by
      funext j
      by_cases z : j = 10
      · subst z; rfl
      · have e1 : updV (cPV ru α 10) 10 (.ref a) j = cPV ru α 10 j := by simp [updV, z]
        rw [e1]
        unfold cPV
        by_cases t0 : cK j = 0
        · rw [if_pos t0, if_pos t0]
        · rw [if_neg t0, if_neg t0]
          by_cases t1 : cK j = 1
          · rw [if_pos t1, if_pos t1]
            by_cases jb : j < 10
            · rw [if_pos jb, if_pos (by omega)]
            · rw [if_neg jb, if_neg (by omega)]
          · rw [if_neg t1, if_neg t1]
            by_cases t2 : cK j = 2
            · rw [if_pos t2, if_pos t2]
            · rw [if_neg t2, if_neg t2]
              have t3 : cK j ≠ 3 := fun q => z (cK_3 q)
              rw [if_neg t3, if_neg t3]
    rw [e]
  · simp only [j_up, if_neg r0]
    by_cases z : r = 150
    · subst z; rfl
    · rw [if_neg z]
      unfold wCP
      rw [if_neg r0, if_neg r0]
      by_cases r39 : r < 39
      · rw [if_pos r39, if_pos r39]
        by_cases y : cK (r - 1) = 1 ∧ r - 1 < 10
        · rw [if_pos y, if_pos ⟨y.1, by omega⟩]; rfl
        · rw [if_neg y]
          have : ¬ (cK (r - 1) = 1 ∧ r - 1 < 11) := fun q => by
            by_cases e : r - 1 = 10
            · rw [e] at q; exact absurd q.1 (by decide)
            · exact y ⟨q.1, by omega⟩
          rw [if_neg this]
      · rw [if_neg r39, if_neg r39, if_neg z, if_neg z]
theorem wCP_e {E : jEnv} {a0 ru b : Nat} {α : Nat → Nat} (hb : ∀ k, cK k = 1 → k < b) (hb10 : 10 < b) : wCP E a0 ru α b = wC E (upA α 0 a0) (cS0 ru) := by
  funext r
  by_cases r0 : r = 0
  · subst r0
    show some (a0, (Sum.inr (1, cPV ru α b) : jE)) = some (upA α 0 a0 0, .inr (1, cV (upA α 0 a0) (cS0 ru)))
    have e : cPV ru α b = cV (upA α 0 a0) (cS0 ru) := by
      funext k
      unfold cPV cV
      by_cases t0 : cK k = 0
      · rw [if_pos t0, if_pos t0]; rfl
      · rw [if_neg t0, if_neg t0]
        by_cases t1 : cK k = 1
        · rw [if_pos t1, if_pos t1, if_pos (hb k t1)]
          unfold upA
          rw [if_neg (by omega)]
        · rw [if_neg t1, if_neg t1]
          by_cases t2 : cK k = 2
          · rw [if_pos t2, if_pos t2]; rfl
          · rw [if_neg t2, if_neg t2]
            by_cases t3 : cK k = 3
            · rw [if_pos t3, if_pos t3, if_pos (by rw [cK_3 t3]; exact hb10)]; rfl
            · rw [if_neg t3, if_neg t3]; rfl
    rw [e]
    rfl
  · unfold wCP wC
    rw [if_neg r0, if_neg r0]
    by_cases r39 : r < 39
    · rw [if_pos r39, if_pos r39]
      by_cases t1 : cK (r - 1) = 1
      · rw [if_pos ⟨t1, hb _ t1⟩, if_pos t1]
        unfold upA
        rw [if_neg r0]
      · rw [if_neg (fun q => t1 q.1), if_neg t1]
    · rw [if_neg r39, if_neg r39]
      by_cases z : r = 150
      · subst z; rw [if_pos rfl, if_pos hb10]; rfl
      · rw [if_neg z]
        by_cases w100 : r < 100
        · rw [if_pos w100]
        · rw [if_neg w100]
          by_cases w106 : r < 106
          · rw [if_pos w106]; rfl
          · rw [if_neg w106]
            by_cases w110 : r < 110
            · rw [if_pos w110]
            · rw [if_neg w110]
              by_cases w114 : r < 114
              · rw [if_pos w114]; rfl
              · rw [if_neg w114]
                by_cases w120 : r < 120
                · rw [if_pos w120]
                · rw [if_neg w120]
                  by_cases w128 : r < 128
                  · rw [if_pos w128]; rfl
                  · rw [if_neg w128]
                    by_cases w140 : r < 140
                    · rw [if_pos w140]
                    · rw [if_neg w140]
                      by_cases w143 : r < 143
                      · rw [if_pos w143]; rfl
                      · rw [if_neg w143]
                        by_cases w146 : r < 146
                        · rw [if_pos w146]; rfl
                        · rw [if_neg w146]
                          by_cases w149 : r < 149
                          · rw [if_pos w149]; rfl
                          · rw [if_neg w149]
                            rw [if_neg z]
                            by_cases w200 : r < 200
                            · rw [if_pos w200]
                            · rw [if_neg w200]; rfl
theorem cS0_d {ru : Nat} : cI (cS0 ru) 30 (zI 0) = cS0 ru := by
  have e : (cI (cS0 ru) 30 (zI 0)).i = (cS0 ru).i := by
    funext j
    show (if j = 30 then zI 0 else zI 0) = zI 0
    split <;> rfl
  exact congrArg (fun i => ((i, (cS0 ru).a, (cS0 ru).h, (cS0 ru).ro, (cS0 ru).tx, (cS0 ru).fr, (cS0 ru).rf, (cS0 ru).kp, (cS0 ru).ru, (cS0 ru).rd, (cS0 ru).d) : cS)) e
theorem c_init {E : jEnv} {a0 ru : Nat} {α : Nat → Nat} {Q : Option Value → jW → Prop} (hq : ∀ β ru, β 0 = a0 → Q none (wC E β (cS0 ru))) : J E wI (cX E, some yX0_init) cX0_init 1 none RX0 (jR 3 14 3948) 0 0 0 [some (.ref a0)] [] (wCP E a0 ru α 0) Q := by
  refine J_aload_n dX0_init_0 rfl ?_
  refine J_objInit q143 q144 q145 (Nat.le_of_ble_eq_true rfl) ⟨Nat.le_of_ble_eq_true rfl, Nat.le_of_ble_eq_true rfl⟩ dX0_init_1 ?_
  refine J_aload_n dX0_init_4 rfl ?_
  refine J_bipush (zI 6) dX0_init_5 rfl ?_
  refine J_newa_int (σ' := fun a1 => j_up (wCP E a0 ru α 0) (1 + 1) (some (a1, cA E (cS0 ru) 1))) (1 + 1) 6 q159 rfl (Nat.le_of_ble_eq_true rfl) (Nat.le_of_ble_eq_true rfl) (Nat.le_of_ble_eq_true rfl) (fun a1 => rfl) dX0_init_7 (fun a1 => ?_)
  refine J_putF (σ' := j_up (j_up (wCP E a0 ru α 0) (1 + 1) (some (a1, cA E (cS0 ru) 1))) 0 (some (a0, .inr (1, updV (cPV ru α 0) 1 (.ref a1))))) 0 1 rfl rfl in_X0 tyX0_ok nmX0 (by decide) q163 rfl rfl rfl rfl rfl rfl rfl dX0_init_9 ?_
  refine J_w (wCP_s (k := 1) (b := 0) rfl (by decide) (by decide)) ?_
  generalize upA α (1 + 1) a1 = α1
  refine J_aload_n dX0_init_12 rfl ?_
  refine J_bipush (zI 6) dX0_init_13 rfl ?_
  refine J_anewI (σ' := fun a3 => j_up (wCP E a0 ru α1 2) (3 + 1) (some (a3, cA E (cS0 ru) 3))) (3 + 1) 6 q146 (fun A s h => h.1 _ q147 rfl) rfl (Nat.le_of_ble_eq_true rfl) (Nat.le_of_ble_eq_true rfl) (Nat.le_of_ble_eq_true rfl) (fun a3 => rfl) dX0_init_15 (fun a3 => ?_)
  refine J_putF (σ' := j_up (j_up (wCP E a0 ru α1 2) (3 + 1) (some (a3, cA E (cS0 ru) 3))) 0 (some (a0, .inr (1, updV (cPV ru α1 2) 3 (.ref a3))))) 0 3 rfl rfl in_X0 tyX0_ok nmX0 (by decide) q165 rfl rfl rfl rfl rfl rfl rfl dX0_init_18 ?_
  refine J_w (wCP_s (k := 3) (b := 2) rfl (by decide) (by decide)) ?_
  generalize upA α1 (3 + 1) a3 = α3
  refine J_aload_n dX0_init_21 rfl ?_
  refine J_iconst (zI 4) dX0_init_22 rfl ?_
  refine J_anewB (σ' := fun a4 => j_up (wCP E a0 ru α3 4) (4 + 1) (some (a4, cA E (cS0 ru) 4))) (4 + 1) 4 q148 (fun A s h => h.1 _ q149 rfl) rfl (Nat.le_of_ble_eq_true rfl) (Nat.le_of_ble_eq_true rfl) (Nat.le_of_ble_eq_true rfl) (fun a4 => rfl) dX0_init_23 (fun a4 => ?_)
  refine J_putF (σ' := j_up (j_up (wCP E a0 ru α3 4) (4 + 1) (some (a4, cA E (cS0 ru) 4))) 0 (some (a0, .inr (1, updV (cPV ru α3 4) 4 (.ref a4))))) 0 4 rfl rfl in_X0 tyX0_ok nmX0 (by decide) q166 rfl rfl rfl rfl rfl rfl rfl dX0_init_26 ?_
  refine J_w (wCP_s (k := 4) (b := 4) rfl (by decide) (by decide)) ?_
  generalize upA α3 (4 + 1) a4 = α4
  refine J_aload_n dX0_init_29 rfl ?_
  refine J_bipush (zI 8) dX0_init_30 rfl ?_
  refine J_anewF (σ' := fun a9 => j_up (wCP E a0 ru α4 5) (9 + 1) (some (a9, cA E (cS0 ru) 9))) (9 + 1) 8 q150 (fun A s h => h.1 _ q151 rfl) rfl (Nat.le_of_ble_eq_true rfl) (Nat.le_of_ble_eq_true rfl) (Nat.le_of_ble_eq_true rfl) (fun a9 => rfl) dX0_init_32 (fun a9 => ?_)
  refine J_putF (σ' := j_up (j_up (wCP E a0 ru α4 5) (9 + 1) (some (a9, cA E (cS0 ru) 9))) 0 (some (a0, .inr (1, updV (cPV ru α4 5) 9 (.ref a9))))) 0 9 rfl rfl in_X0 tyX0_ok nmX0 (by decide) q171 rfl rfl rfl rfl rfl rfl rfl dX0_init_35 ?_
  refine J_w (wCP_s (k := 9) (b := 5) rfl (by decide) (by decide)) ?_
  generalize upA α4 (9 + 1) a9 = α9
  refine J_aload_n dX0_init_38 rfl ?_
  refine J_new (σ' := fun ar => j_up (wCP E a0 ru α9 10) 150 (some (ar, .inr (9, fun _ => .null)))) (ci := 9) (N := 0) 150 (fun _ => .int) rfl (fun w h => by simp [u_ws] at h) (fun k h => absurd h (Nat.not_lt_zero _)) q152 q153 q106 (fun j h => absurd h (Nat.not_lt_zero _)) (Nat.le_of_ble_eq_true rfl) (Nat.le_of_ble_eq_true rfl) (fun ar => rfl) dX0_init_39 (fun ar => ?_)
  refine J_dup dX0_init_42 rfl ?_
  refine J_eIN (y := yX1_init) (R' := jR 2 0 0) [] 0 (fun A s h => h.1 _ q154 rfl) q155 q106 q156 rfl (by decide +kernel) cX_1 ⟨Nat.le_of_ble_eq_true rfl, Nat.le_of_ble_eq_true rfl⟩ ⟨(Nat.le_of_ble_eq_true rfl), (Nat.le_of_ble_eq_true rfl)⟩ rfl (Nat.le_of_ble_eq_true rfl) dX0_init_43 (JE.of (X' := (cX E, none)) (by decide +kernel) (Nat.le_of_ble_eq_true rfl) (fun _ z => by cases z) (r0_init (J_rv ?_)))
  refine J_put (σ' := j_up (j_up (wCP E a0 ru α9 10) 150 (some (ar, .inr (9, fun _ => .null)))) 0 (some (a0, .inr (1, updV (cPV ru α9 10) 10 (.ref ar))))) 0 10 rfl rfl in_X0 tyX0_ok nmX0 (by decide) q172 rfl rfl rfl rfl rfl dX0_init_46 ?_
  refine J_w wCP_r ?_
  refine J_aload_n dX0_init_49 rfl ?_
  refine J_bipush (zI 8) dX0_init_50 rfl ?_
  refine J_anewF (σ' := fun a19 => j_up (wCP E a0 ar α9 11) (19 + 1) (some (a19, cA E (cS0 ar) 19))) (19 + 1) 8 q150 (fun A s h => h.1 _ q151 rfl) rfl (Nat.le_of_ble_eq_true rfl) (Nat.le_of_ble_eq_true rfl) (Nat.le_of_ble_eq_true rfl) (fun a19 => rfl) dX0_init_52 (fun a19 => ?_)
  refine J_putF (σ' := j_up (j_up (wCP E a0 ar α9 11) (19 + 1) (some (a19, cA E (cS0 ar) 19))) 0 (some (a0, .inr (1, updV (cPV ar α9 11) 19 (.ref a19))))) 0 19 rfl rfl in_X0 tyX0_ok nmX0 (by decide) q181 rfl rfl rfl rfl rfl rfl rfl dX0_init_55 ?_
  refine J_w (wCP_s (k := 19) (b := 11) rfl (by decide) (by decide)) ?_
  generalize upA α9 (19 + 1) a19 = α19
  refine J_aload_n dX0_init_58 rfl ?_
  refine J_sipush (zI 512) dX0_init_59 rfl ?_
  refine J_newa_int (σ' := fun a21 => j_up (wCP E a0 ar α19 20) (21 + 1) (some (a21, cA E (cS0 ar) 21))) (21 + 1) 512 q159 rfl (Nat.le_of_ble_eq_true rfl) (Nat.le_of_ble_eq_true rfl) (Nat.le_of_ble_eq_true rfl) (fun a21 => rfl) dX0_init_62 (fun a21 => ?_)
  refine J_putF (σ' := j_up (j_up (wCP E a0 ar α19 20) (21 + 1) (some (a21, cA E (cS0 ar) 21))) 0 (some (a0, .inr (1, updV (cPV ar α19 20) 21 (.ref a21))))) 0 21 rfl rfl in_X0 tyX0_ok nmX0 (by decide) q183 rfl rfl rfl rfl rfl rfl rfl dX0_init_64 ?_
  refine J_w (wCP_s (k := 21) (b := 20) rfl (by decide) (by decide)) ?_
  generalize upA α19 (21 + 1) a21 = α21
  refine J_aload_n dX0_init_67 rfl ?_
  refine J_sipush (zI 512) dX0_init_68 rfl ?_
  refine J_newa_int (σ' := fun a22 => j_up (wCP E a0 ar α21 22) (22 + 1) (some (a22, cA E (cS0 ar) 22))) (22 + 1) 512 q159 rfl (Nat.le_of_ble_eq_true rfl) (Nat.le_of_ble_eq_true rfl) (Nat.le_of_ble_eq_true rfl) (fun a22 => rfl) dX0_init_71 (fun a22 => ?_)
  refine J_putF (σ' := j_up (j_up (wCP E a0 ar α21 22) (22 + 1) (some (a22, cA E (cS0 ar) 22))) 0 (some (a0, .inr (1, updV (cPV ar α21 22) 22 (.ref a22))))) 0 22 rfl rfl in_X0 tyX0_ok nmX0 (by decide) q184 rfl rfl rfl rfl rfl rfl rfl dX0_init_73 ?_
  refine J_w (wCP_s (k := 22) (b := 22) rfl (by decide) (by decide)) ?_
  generalize upA α21 (22 + 1) a22 = α22
  refine J_aload_n dX0_init_76 rfl ?_
  refine J_sipush (zI 512) dX0_init_77 rfl ?_
  refine J_newa_int (σ' := fun a23 => j_up (wCP E a0 ar α22 23) (23 + 1) (some (a23, cA E (cS0 ar) 23))) (23 + 1) 512 q159 rfl (Nat.le_of_ble_eq_true rfl) (Nat.le_of_ble_eq_true rfl) (Nat.le_of_ble_eq_true rfl) (fun a23 => rfl) dX0_init_80 (fun a23 => ?_)
  refine J_putF (σ' := j_up (j_up (wCP E a0 ar α22 23) (23 + 1) (some (a23, cA E (cS0 ar) 23))) 0 (some (a0, .inr (1, updV (cPV ar α22 23) 23 (.ref a23))))) 0 23 rfl rfl in_X0 tyX0_ok nmX0 (by decide) q185 rfl rfl rfl rfl rfl rfl rfl dX0_init_82 ?_
  refine J_w (wCP_s (k := 23) (b := 23) rfl (by decide) (by decide)) ?_
  generalize upA α22 (23 + 1) a23 = α23
  refine J_aload_n dX0_init_85 rfl ?_
  refine J_sipush (zI 512) dX0_init_86 rfl ?_
  refine J_newa_int (σ' := fun a24 => j_up (wCP E a0 ar α23 24) (24 + 1) (some (a24, cA E (cS0 ar) 24))) (24 + 1) 512 q159 rfl (Nat.le_of_ble_eq_true rfl) (Nat.le_of_ble_eq_true rfl) (Nat.le_of_ble_eq_true rfl) (fun a24 => rfl) dX0_init_89 (fun a24 => ?_)
  refine J_putF (σ' := j_up (j_up (wCP E a0 ar α23 24) (24 + 1) (some (a24, cA E (cS0 ar) 24))) 0 (some (a0, .inr (1, updV (cPV ar α23 24) 24 (.ref a24))))) 0 24 rfl rfl in_X0 tyX0_ok nmX0 (by decide) q186 rfl rfl rfl rfl rfl rfl rfl dX0_init_91 ?_
  refine J_w (wCP_s (k := 24) (b := 24) rfl (by decide) (by decide)) ?_
  generalize upA α23 (24 + 1) a24 = α24
  refine J_aload_n dX0_init_94 rfl ?_
  refine J_sipush (zI 512) dX0_init_95 rfl ?_
  refine J_newa_boolean (σ' := fun a25 => j_up (wCP E a0 ar α24 25) (25 + 1) (some (a25, cA E (cS0 ar) 25))) (25 + 1) 512 q277 rfl (Nat.le_of_ble_eq_true rfl) (Nat.le_of_ble_eq_true rfl) (Nat.le_of_ble_eq_true rfl) (fun a25 => rfl) dX0_init_98 (fun a25 => ?_)
  refine J_putF (σ' := j_up (j_up (wCP E a0 ar α24 25) (25 + 1) (some (a25, cA E (cS0 ar) 25))) 0 (some (a0, .inr (1, updV (cPV ar α24 25) 25 (.ref a25))))) 0 25 rfl rfl in_X0 tyX0_ok nmX0 (by decide) q187 rfl rfl rfl rfl rfl rfl rfl dX0_init_100 ?_
  refine J_w (wCP_s (k := 25) (b := 25) rfl (by decide) (by decide)) ?_
  generalize upA α24 (25 + 1) a25 = α25
  refine J_aload_n dX0_init_103 rfl ?_
  refine J_sipush (zI 1320) dX0_init_104 rfl ?_
  refine J_newa_int (σ' := fun a31 => j_up (wCP E a0 ar α25 26) (31 + 1) (some (a31, cA E (cS0 ar) 31))) (31 + 1) 1320 q159 rfl (Nat.le_of_ble_eq_true rfl) (Nat.le_of_ble_eq_true rfl) (Nat.le_of_ble_eq_true rfl) (fun a31 => rfl) dX0_init_107 (fun a31 => ?_)
  refine J_putF (σ' := j_up (j_up (wCP E a0 ar α25 26) (31 + 1) (some (a31, cA E (cS0 ar) 31))) 0 (some (a0, .inr (1, updV (cPV ar α25 26) 31 (.ref a31))))) 0 31 rfl rfl in_X0 tyX0_ok nmX0 (by decide) q193 rfl rfl rfl rfl rfl rfl rfl dX0_init_109 ?_
  refine J_w (wCP_s (k := 31) (b := 26) rfl (by decide) (by decide)) ?_
  generalize upA α25 (31 + 1) a31 = α31
  refine J_aload_n dX0_init_112 rfl ?_
  refine J_iconst (zI 3) dX0_init_113 rfl ?_
  refine J_anewK (σ' := fun a32 => j_up (wCP E a0 ar α31 32) (32 + 1) (some (a32, cA E (cS0 ar) 32))) (32 + 1) 3 q160 (fun A s h => h.1 _ q161 rfl) rfl (Nat.le_of_ble_eq_true rfl) (Nat.le_of_ble_eq_true rfl) (Nat.le_of_ble_eq_true rfl) (fun a32 => rfl) dX0_init_114 (fun a32 => ?_)
  refine J_putF (σ' := j_up (j_up (wCP E a0 ar α31 32) (32 + 1) (some (a32, cA E (cS0 ar) 32))) 0 (some (a0, .inr (1, updV (cPV ar α31 32) 32 (.ref a32))))) 0 32 rfl rfl in_X0 tyX0_ok nmX0 (by decide) q194 rfl rfl rfl rfl rfl rfl rfl dX0_init_117 ?_
  refine J_w (wCP_s (k := 32) (b := 32) rfl (by decide) (by decide)) ?_
  generalize upA α31 (32 + 1) a32 = α32
  refine J_aload_n dX0_init_120 rfl ?_
  refine J_bipush (zI 33) dX0_init_121 rfl ?_
  refine J_newa_int (σ' := fun a33 => j_up (wCP E a0 ar α32 33) (33 + 1) (some (a33, cA E (cS0 ar) 33))) (33 + 1) 33 q159 rfl (Nat.le_of_ble_eq_true rfl) (Nat.le_of_ble_eq_true rfl) (Nat.le_of_ble_eq_true rfl) (fun a33 => rfl) dX0_init_123 (fun a33 => ?_)
  refine J_putF (σ' := j_up (j_up (wCP E a0 ar α32 33) (33 + 1) (some (a33, cA E (cS0 ar) 33))) 0 (some (a0, .inr (1, updV (cPV ar α32 33) 33 (.ref a33))))) 0 33 rfl rfl in_X0 tyX0_ok nmX0 (by decide) q195 rfl rfl rfl rfl rfl rfl rfl dX0_init_125 ?_
  refine J_w (wCP_s (k := 33) (b := 33) rfl (by decide) (by decide)) ?_
  generalize upA α32 (33 + 1) a33 = α33
  refine J_w (wCP_e (b := 34) (fun k h => (by decide : ∀ k, k < 38 → cK k = 1 → k < 34) k (cK_1 h) h) (by decide)) ?_
  refine J_fromW ?_
  refine J_aload_n dX0_init_128 rfl ?_
  refine J_iconst (zI 0) dX0_init_129 rfl ?_
  refine CP_deedMany (α := upA α33 0 a0) (v := zI 0) dX0_init_130 ?_
  refine J_w (cS0_d) ?_
  exact J_vret rfl dX0_init_133 (hq _ _ rfl)
