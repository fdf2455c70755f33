set_option maxRecDepth 100000
/-! the component: new rules; what is written down and read back -/
theorem r0_init {E : jEnv} {St : Type} {w : St → jW} {σ : St} {Q : Option Value → St → Prop} {a : Nat} (hq : Q none σ) : J E w (cX E, none) cX1_init 1 none RX1 (jR 2 0 0) 0 0 0 [some (.ref a)] [] σ Q := by
  refine J_aload_n dX1_init_0 rfl ?_
  refine J_objInit q157 q144 q145 (Nat.le_of_ble_eq_true rfl) (by decide) dX1_init_1 ?_
  exact J_vret rfl dX1_init_4 hq
theorem r1_init {E : jEnv} {St : Type} {w : St → jW} {σ : St} {Q : Option Value → St → Prop} {a : Nat} (hq : Q none σ) : J E w (cX E, none) cX7_init 1 none RX7 (jR 2 0 0) 0 0 0 [some (.ref a)] [] σ Q := by
  refine J_aload_n dX7_init_0 rfl ?_
  refine J_objInit q903 q144 q145 (Nat.le_of_ble_eq_true rfl) (by decide) dX7_init_1 ?_
  exact J_vret rfl dX7_init_4 hq
theorem r2_init {E : jEnv} {St : Type} {w : St → jW} {σ : St} {Q : Option Value → St → Prop} {a : Nat} (hq : Q none σ) : J E w (cX E, none) cX8_init 1 none RX8 (jR 2 0 0) 0 0 0 [some (.ref a)] [] σ Q := by
  refine J_aload_n dX8_init_0 rfl ?_
  refine J_objInit q910 q144 q145 (Nat.le_of_ble_eq_true rfl) (by decide) dX8_init_1 ?_
  exact J_vret rfl dX8_init_4 hq
theorem r3_init {E : jEnv} {St : Type} {w : St → jW} {σ : St} {Q : Option Value → St → Prop} {a : Nat} (hq : Q none σ) : J E w (cX E, none) cX9_init 1 none RX9 (jR 2 0 0) 0 0 0 [some (.ref a)] [] σ Q := by
  refine J_aload_n dX9_init_0 rfl ?_
  refine J_objInit q917 q144 q145 (Nat.le_of_ble_eq_true rfl) (by decide) dX9_init_1 ?_
  exact J_vret rfl dX9_init_4 hq
section NR
variable {E : jEnv} {α : Nat → Nat} {o : Option MethodName} {cc : ByteArray} {mL : Nat} {ret : Option FieldType} {R : Room} {k n pc : Nat} {L : List (Option Value)} {st : List Value} {σ : cS} {Q : Option Value → cS → Prop}
theorem N_new0 (hk1 : k + 1 ≤ R.cells) (hn1 : n ≤ R.slots) (d : decode cc pc = .ok (.new 37, 3)) (kk : ∀ a, J E (wC E α) (cX E, o) cc mL ret RX0 R (k + 1) n (pc + 3) L (.ref a :: st) (cD σ 0 (some (a, .inr (9, fun _ => .null)))) Q) : J E (wC E α) (cX E, o) cc mL ret RX0 R k n (pc) L (st) σ Q :=
  J_new (σ' := fun a => cD σ 0 (some (a, .inr (9, fun _ => .null)))) (ci := 9) (N := 0) 200 (fun _ => .int) rfl (fun w h => by simp [u_ws] at h) (fun k h => absurd h (Nat.not_lt_zero _)) q152 q153 q106 (fun j h => absurd h (Nat.not_lt_zero _)) hk1 hn1 (fun a => wC_D 0 _) d kk
theorem N_ini0 {a : Nat} (hR : 3 ≤ R.frames ∧ 144 ≤ R.locals) (hcs : k ≤ R.cells ∧ n ≤ R.slots) (hst : (st.map fun v => v.category).sum ≤ 8) (d : decode cc pc = .ok (.invokespecial 39, 3)) (kk : J E (wC E α) (cX E, o) cc mL ret RX0 R k n (pc + 3) L (st) σ Q) : J E (wC E α) (cX E, o) cc mL ret RX0 R k n (pc) L (.ref a :: st) σ Q :=
  J_eIN (y := yX1_init) (R' := jR 2 0 0) [] 0 (fun A s h => h.1 _ q154 rfl) q155 q106 q156 rfl (by decide +kernel) cX_1 (show 2 + 1 ≤ R.frames ∧ 8 + (1 + 11) + 48 * 2 ≤ R.locals by omega) (show k + 0 ≤ R.cells ∧ n + 0 ≤ R.slots by omega) rfl hst d (JE.of (X' := (cX E, none)) (by decide +kernel) (Nat.le_of_ble_eq_true rfl) (fun _ z => by cases z) (r0_init (J_rv kk)))
theorem N_new1 (hk1 : k + 1 ≤ R.cells) (hn1 : n ≤ R.slots) (d : decode cc pc = .ok (.new 116, 3)) (kk : ∀ a, J E (wC E α) (cX E, o) cc mL ret RX0 R (k + 1) n (pc + 3) L (.ref a :: st) (cD σ 0 (some (a, .inr (10, fun _ => .null)))) Q) : J E (wC E α) (cX E, o) cc mL ret RX0 R k n (pc) L (st) σ Q :=
  J_new (σ' := fun a => cD σ 0 (some (a, .inr (10, fun _ => .null)))) (ci := 10) (N := 0) 200 (fun _ => .int) rfl (fun w h => by simp [u_ws] at h) (fun k h => absurd h (Nat.not_lt_zero _)) q898 q899 q130 (fun j h => absurd h (Nat.not_lt_zero _)) hk1 hn1 (fun a => wC_D 0 _) d kk
theorem N_ini1 {a : Nat} (hR : 3 ≤ R.frames ∧ 144 ≤ R.locals) (hcs : k ≤ R.cells ∧ n ≤ R.slots) (hst : (st.map fun v => v.category).sum ≤ 8) (d : decode cc pc = .ok (.invokespecial 118, 3)) (kk : J E (wC E α) (cX E, o) cc mL ret RX0 R k n (pc + 3) L (st) σ Q) : J E (wC E α) (cX E, o) cc mL ret RX0 R k n (pc) L (.ref a :: st) σ Q :=
  J_eIN (y := yX7_init) (R' := jR 2 0 0) [] 0 (fun A s h => h.1 _ q900 rfl) q901 q130 q902 rfl (by decide +kernel) cX_1 (show 2 + 1 ≤ R.frames ∧ 8 + (1 + 11) + 48 * 2 ≤ R.locals by omega) (show k + 0 ≤ R.cells ∧ n + 0 ≤ R.slots by omega) rfl hst d (JE.of (X' := (cX E, none)) (by decide +kernel) (Nat.le_of_ble_eq_true rfl) (fun _ z => by cases z) (r1_init (J_rv kk)))
theorem N_new2 (hk1 : k + 1 ≤ R.cells) (hn1 : n ≤ R.slots) (d : decode cc pc = .ok (.new 119, 3)) (kk : ∀ a, J E (wC E α) (cX E, o) cc mL ret RX0 R (k + 1) n (pc + 3) L (.ref a :: st) (cD σ 0 (some (a, .inr (11, fun _ => .null)))) Q) : J E (wC E α) (cX E, o) cc mL ret RX0 R k n (pc) L (st) σ Q :=
  J_new (σ' := fun a => cD σ 0 (some (a, .inr (11, fun _ => .null)))) (ci := 11) (N := 0) 200 (fun _ => .int) rfl (fun w h => by simp [u_ws] at h) (fun k h => absurd h (Nat.not_lt_zero _)) q905 q906 q131 (fun j h => absurd h (Nat.not_lt_zero _)) hk1 hn1 (fun a => wC_D 0 _) d kk
theorem N_ini2 {a : Nat} (hR : 3 ≤ R.frames ∧ 144 ≤ R.locals) (hcs : k ≤ R.cells ∧ n ≤ R.slots) (hst : (st.map fun v => v.category).sum ≤ 8) (d : decode cc pc = .ok (.invokespecial 121, 3)) (kk : J E (wC E α) (cX E, o) cc mL ret RX0 R k n (pc + 3) L (st) σ Q) : J E (wC E α) (cX E, o) cc mL ret RX0 R k n (pc) L (.ref a :: st) σ Q :=
  J_eIN (y := yX8_init) (R' := jR 2 0 0) [] 0 (fun A s h => h.1 _ q907 rfl) q908 q131 q909 rfl (by decide +kernel) cX_1 (show 2 + 1 ≤ R.frames ∧ 8 + (1 + 11) + 48 * 2 ≤ R.locals by omega) (show k + 0 ≤ R.cells ∧ n + 0 ≤ R.slots by omega) rfl hst d (JE.of (X' := (cX E, none)) (by decide +kernel) (Nat.le_of_ble_eq_true rfl) (fun _ z => by cases z) (r2_init (J_rv kk)))
theorem N_new3 (hk1 : k + 1 ≤ R.cells) (hn1 : n ≤ R.slots) (d : decode cc pc = .ok (.new 122, 3)) (kk : ∀ a, J E (wC E α) (cX E, o) cc mL ret RX0 R (k + 1) n (pc + 3) L (.ref a :: st) (cD σ 0 (some (a, .inr (12, fun _ => .null)))) Q) : J E (wC E α) (cX E, o) cc mL ret RX0 R k n (pc) L (st) σ Q :=
  J_new (σ' := fun a => cD σ 0 (some (a, .inr (12, fun _ => .null)))) (ci := 12) (N := 0) 200 (fun _ => .int) rfl (fun w h => by simp [u_ws] at h) (fun k h => absurd h (Nat.not_lt_zero _)) q912 q913 q132 (fun j h => absurd h (Nat.not_lt_zero _)) hk1 hn1 (fun a => wC_D 0 _) d kk
theorem N_ini3 {a : Nat} (hR : 3 ≤ R.frames ∧ 144 ≤ R.locals) (hcs : k ≤ R.cells ∧ n ≤ R.slots) (hst : (st.map fun v => v.category).sum ≤ 8) (d : decode cc pc = .ok (.invokespecial 124, 3)) (kk : J E (wC E α) (cX E, o) cc mL ret RX0 R k n (pc + 3) L (st) σ Q) : J E (wC E α) (cX E, o) cc mL ret RX0 R k n (pc) L (.ref a :: st) σ Q :=
  J_eIN (y := yX9_init) (R' := jR 2 0 0) [] 0 (fun A s h => h.1 _ q914 rfl) q915 q132 q916 rfl (by decide +kernel) cX_1 (show 2 + 1 ≤ R.frames ∧ 8 + (1 + 11) + 48 * 2 ≤ R.locals by omega) (show k + 0 ≤ R.cells ∧ n + 0 ≤ R.slots by omega) rfl hst d (JE.of (X' := (cX E, none)) (by decide +kernel) (Nat.le_of_ble_eq_true rfl) (fun _ z => by cases z) (r3_init (J_rv kk)))
end NR
theorem c_newRule0 {E : jEnv} {α : Nat → Nat} {σ : cS} {Q : Option Value → cS → Prop} (hq : ∀ a, Q (some (.ref a)) (cD σ 0 (some (a, .inr (9, fun _ => .null))))) : jX0_newRule E α 0 [some (.int (zI 0))] [] σ Q := by
  refine J_iload_n dX0_newRule_0 rfl ?_
  refine J_tableIn (tgt := 28) (27) dX0_newRule_1 (by decide) (by decide) rfl (by decide) ?_
  refine N_new0 (by decide) (by decide) dX0_newRule_28 (fun a => ?_)
  refine J_dup dX0_newRule_31 rfl ?_
  refine N_ini0 (by decide) (by decide) (Nat.le_of_ble_eq_true rfl) dX0_newRule_32 ?_
  refine J_goto (tgt := 65) dX0_newRule_35 (by decide) ?_
  exact J_aret rfl dX0_newRule_65 (hq a)
theorem c_newRule1 {E : jEnv} {α : Nat → Nat} {σ : cS} {Q : Option Value → cS → Prop} (hq : ∀ a, Q (some (.ref a)) (cD σ 0 (some (a, .inr (10, fun _ => .null))))) : jX0_newRule E α 0 [some (.int (zI 1))] [] σ Q := by
  refine J_iload_n dX0_newRule_0 rfl ?_
  refine J_tableIn (tgt := 38) (37) dX0_newRule_1 (by decide) (by decide) rfl (by decide) ?_
  refine N_new1 (by decide) (by decide) dX0_newRule_38 (fun a => ?_)
  refine J_dup dX0_newRule_41 rfl ?_
  refine N_ini1 (by decide) (by decide) (Nat.le_of_ble_eq_true rfl) dX0_newRule_42 ?_
  refine J_goto (tgt := 65) dX0_newRule_45 (by decide) ?_
  exact J_aret rfl dX0_newRule_65 (hq a)
theorem c_newRule2 {E : jEnv} {α : Nat → Nat} {σ : cS} {Q : Option Value → cS → Prop} (hq : ∀ a, Q (some (.ref a)) (cD σ 0 (some (a, .inr (11, fun _ => .null))))) : jX0_newRule E α 0 [some (.int (zI 2))] [] σ Q := by
  refine J_iload_n dX0_newRule_0 rfl ?_
  refine J_tableIn (tgt := 48) (47) dX0_newRule_1 (by decide) (by decide) rfl (by decide) ?_
  refine N_new2 (by decide) (by decide) dX0_newRule_48 (fun a => ?_)
  refine J_dup dX0_newRule_51 rfl ?_
  refine N_ini2 (by decide) (by decide) (Nat.le_of_ble_eq_true rfl) dX0_newRule_52 ?_
  refine J_goto (tgt := 65) dX0_newRule_55 (by decide) ?_
  exact J_aret rfl dX0_newRule_65 (hq a)
theorem c_newRule3 {E : jEnv} {α : Nat → Nat} {σ : cS} {Q : Option Value → cS → Prop} (hq : ∀ a, Q (some (.ref a)) (cD σ 0 (some (a, .inr (12, fun _ => .null))))) : jX0_newRule E α 0 [some (.int (zI 3))] [] σ Q := by
  refine J_iload_n dX0_newRule_0 rfl ?_
  refine J_tableOut (tgt := 58) dX0_newRule_1 (by decide) (by decide) ?_
  refine N_new3 (by decide) (by decide) dX0_newRule_58 (fun a => ?_)
  refine J_dup dX0_newRule_61 rfl ?_
  refine N_ini3 (by decide) (by decide) (Nat.le_of_ble_eq_true rfl) dX0_newRule_62 ?_
  exact J_aret rfl dX0_newRule_65 (hq a)
theorem c_newRule {E : jEnv} {α : Nat → Nat} {σ : cS} {Q : Option Value → cS → Prop} {ru : Nat} (hru : ru < 4) (hq : ∀ a, Q (some (.ref a)) (cD σ 0 (some (a, .inr (9 + ru, fun _ => .null))))) : jX0_newRule E α 0 [some (.int (zI (ru : Nat)))] [] σ Q := by
  match ru, hru with
  | 0, _ => exact c_newRule0 hq
  | 1, _ => exact c_newRule1 hq
  | 2, _ => exact c_newRule2 hq
  | 3, _ => exact c_newRule3 hq
theorem cRu_new {σ : cS} {x : Option (Nat × jE)} {y : Nat × Nat} (h : σ.d 0 = none) : cD (cRu (cD σ 0 x) y) 0 none = cRu σ y := by
  have e : (fun j => if j = 0 then (none : Option (Nat × jE)) else if j = 0 then x else σ.d j) = σ.d := by
    funext j
    by_cases z : j = 0
    · rw [if_pos z, z, h]
    · rw [if_neg z, if_neg z]
  show (σ.i, σ.a, σ.h, σ.ro, σ.tx, σ.fr, σ.rf, σ.kp, y, σ.rd, fun j => if j = 0 then (none : Option (Nat × jE)) else if j = 0 then x else σ.d j) = (σ.i, σ.a, σ.h, σ.ro, σ.tx, σ.fr, σ.rf, σ.kp, y, σ.rd, σ.d)
  rw [e]
/-- a row of notes: the rule, then the places as they lie in the frames -/
def cRow (many : Nat) (a : Nat → Int32) (o : Nat) (p : mPl) : Prop := a o = zI p.2 ∧ ∃ c, cPl many p.1 c ∧ ∀ f k, f < many → k < 4 → a (o + 1 + 4 * f + k) = zI (c f k)
def cLg (many dm : Nat) (H : Nat → mPl) (σ : cS) : Prop := σ.i 30 = zI (dm : Nat) ∧ ∀ d, d < dm → cRow many (σ.a 31) (33 * d) (H d)
/-- n places from o on as w tells -/
def wAt (a : Nat → Int32) (o n : Nat) (w : Nat → Int32) : Nat → Int32 := fun i => if o ≤ i ∧ i < o + n then w (i - o) else a i
theorem wAt_s {a w : Nat → Int32} {o n m : Nat} {v : Int32} (hm : m = o + n) (hv : v = w n) : upd (wAt a o n w) m v = wAt a o (n + 1) w := by
  subst hm; subst hv
  funext i
  unfold upd wAt
  by_cases z : i = o + n
  · subst z
    rw [if_pos rfl, if_pos (by omega), Nat.add_sub_cancel_left]
  · rw [if_neg z]
    by_cases y : o ≤ i ∧ i < o + n
    · rw [if_pos y, if_pos (by omega)]
    · rw [if_neg y, if_neg (by omega)]
theorem wAt_0 {a w : Nat → Int32} {o : Nat} : a = wAt a o 0 w := by
  funext i
  unfold wAt
  rw [if_neg (by omega)]
theorem wAt_in {a w : Nat → Int32} {o n i : Nat} (h : i < n) : wAt a o n w (o + i) = w i := by
  unfold wAt
  rw [if_pos (by omega), Nat.add_sub_cancel_left]
theorem wAt_out {a w : Nat → Int32} {o n i : Nat} (h : i < o ∨ o + n ≤ i) : wAt a o n w i = a i := by
  unfold wAt
  rw [if_neg (by omega)]
/-- what a row of notes holds -/
def wRo (many : Nat) (c : Nat → Nat → Int) (rule : Int) (i : Nat) : Int32 := if i = 0 then zI rule else if (i - 1) / 4 < many then zI (c ((i - 1) / 4) ((i - 1) % 4)) else zI 0
theorem wRo_0 {many : Nat} {c : Nat → Nat → Int} {rule : Int} : wRo many c rule 0 = zI rule := rfl
theorem wRo_y {many : Nat} {c : Nat → Nat → Int} {rule : Int} {f k : Nat} (hf : f < many) (hk : k < 4) : wRo many c rule (1 + 4 * f + k) = zI (c f k) := by
  unfold wRo
  have e1 : (1 + 4 * f + k - 1) / 4 = f := by omega
  have e2 : (1 + 4 * f + k - 1) % 4 = k := by omega
  rw [if_neg (by omega), e1, e2, if_pos hf]
theorem wRo_n {many : Nat} {c : Nat → Nat → Int} {rule : Int} {f k : Nat} (hf : ¬ f < many) (hk : k < 4) : wRo many c rule (1 + 4 * f + k) = zI 0 := by
  unfold wRo
  have e1 : (1 + 4 * f + k - 1) / 4 = f := by omega
  rw [if_neg (by omega), e1, if_neg hf]
theorem wRo_row {many : Nat} {P c : Nat → Nat → Int} {rule : Int} {a : Nat → Int32} {o : Nat} (hm : many ≤ 8) (hP : cPl many P c) : cRow many (wAt a o 33 (wRo many c rule)) o (P, rule) := by
  refine ⟨?_, c, hP, fun f k hf hk => ?_⟩
  · exact wAt_in (i := 0) (by omega)
  · rw [show o + 1 + 4 * f + k = o + (1 + 4 * f + k) by omega, wAt_in (by omega), wRo_y hf hk]
theorem cRow.out {many o o' n : Nat} {a w : Nat → Int32} {p : mPl} (hm : many ≤ 8) (h : cRow many a o p) (ho : o + 33 ≤ o' ∨ o' + n ≤ o) : cRow many (wAt a o' n w) o p := by
  obtain ⟨h1, c, h2, h3⟩ := h
  exact ⟨(wAt_out (by omega)).trans h1, c, h2, fun f k hf hk => (wAt_out (by omega)).trans (h3 f k hf hk)⟩
/-- the kept one at k changes; nothing else -/
def kQ (k : Nat) (σ σ' : cS) : Prop := σ'.i = σ.i ∧ σ'.a = σ.a ∧ σ'.h = σ.h ∧ σ'.ro = σ.ro ∧ σ'.tx = σ.tx ∧ σ'.rf = σ.rf ∧ (∀ j, j ≠ k → σ'.kp j = σ.kp j) ∧ σ'.rd = σ.rd ∧ σ'.d = σ.d ∧ σ'.fr = σ.fr ∧ σ'.ru = σ.ru
theorem kQ.refl {k : Nat} {σ : cS} : kQ k σ σ := ⟨rfl, rfl, rfl, rfl, rfl, rfl, fun _ _ => rfl, rfl, rfl, rfl, rfl⟩
theorem kQ.trans {k : Nat} {a b c : cS} (h : kQ k a b) (g : kQ k b c) : kQ k a c := ⟨g.1.trans h.1, g.2.1.trans h.2.1, g.2.2.1.trans h.2.2.1, g.2.2.2.1.trans h.2.2.2.1, g.2.2.2.2.1.trans h.2.2.2.2.1, g.2.2.2.2.2.1.trans h.2.2.2.2.2.1, fun j hj => (g.2.2.2.2.2.2.1 j hj).trans (h.2.2.2.2.2.2.1 j hj), g.2.2.2.2.2.2.2.1.trans h.2.2.2.2.2.2.2.1, g.2.2.2.2.2.2.2.2.1.trans h.2.2.2.2.2.2.2.2.1, g.2.2.2.2.2.2.2.2.2.1.trans h.2.2.2.2.2.2.2.2.2.1, g.2.2.2.2.2.2.2.2.2.2.trans h.2.2.2.2.2.2.2.2.2.2⟩
theorem kQ.s {k : Nat} {a b : cS} (h : kQ k a b) {x : _} : kQ k a (cKp b k x) := ⟨h.1, h.2.1, h.2.2.1, h.2.2.2.1, h.2.2.2.2.1, h.2.2.2.2.2.1, fun j hj => (by
  have e : (cKp b k x).kp j = b.kp j := if_neg hj
  rw [e]; exact h.2.2.2.2.2.2.1 j hj), h.2.2.2.2.2.2.2⟩
theorem cSh.kq {many : Nat} {wide high bl : Int} {G : Nat → Nat → Int} {ad : Nat → Nat} {c : Nat → Nat → Int} {k : Nat} {σ σ' : cS} (h : cSh many wide high bl G ad c σ) (e : kQ k σ σ') : cSh many wide high bl G ad c σ' := by
  unfold cSh at *
  rw [e.1, e.2.2.2.2.2.2.2.2.2.1]
  exact h
theorem cKp_s {σ : cS} {k : Nat} {x : _} : (cKp σ k x).kp k = x := if_pos rfl
/-- a kept one's numbers change -/
theorem wC_Kp2 {E : jEnv} {α : Nat → Nat} {σ : cS} {k : Nat} {x : (Nat × Nat × Nat) × Int32 × (Nat → Int32) × (Nat → Int32)} (hk : k < 3) (h : σ.kp k = some x) (v : Nat → Int32) : wC E α (cKp σ k (some (x.1, x.2.1, x.2.2.1, v))) = j_up (wC E α σ) (146 + k) (some (x.1.2.2, .inl (E.2.2 0, 33, .inl v))) := by
  funext r
  by_cases z : r = 146 + k
  · subst z
    rw [wC_k2 hk, cKp_s]
    simp [j_up]
  · simp only [j_up, if_neg z]
    have hm : ∀ {β : Type} (F : ((Nat × Nat × Nat) × Int32 × (Nat → Int32) × (Nat → Int32)) → β) (hF : F (x.1, x.2.1, x.2.2.1, v) = F x) (j : Nat), ((cKp σ k (some (x.1, x.2.1, x.2.2.1, v))).kp j).map F = (σ.kp j).map F := by
      intro β F hF j
      by_cases y : j = k
      · subst y; rw [cKp_s, h]; simp [hF]
      · have e : (cKp σ k (some (x.1, x.2.1, x.2.2.1, v))).kp j = σ.kp j := if_neg y
        rw [e]
    have eA : cA E (cKp σ k (some (x.1, x.2.1, x.2.2.1, v))) = cA E σ := by
      funext j
      unfold cA
      have : (fun j => ((cKp σ k (some (x.1, x.2.1, x.2.2.1, v))).kp j).map (fun x => x.1.1)) = fun j => (σ.kp j).map (fun x => x.1.1) := funext fun j => hm (fun x => x.1.1) rfl j
      rw [this]
      rfl
    unfold wC
    rw [eA, hm (fun x => (x.1.1, Sum.inr (6, kV x))) rfl, hm (fun x => (x.1.2.1, Sum.inl (E.2.2 0, 1320, Sum.inl x.2.2.1))) rfl]
    by_cases y : r < 146
    · simp only [if_pos (show r < 149 by omega), if_pos y]; rfl
    · have e2 : (cKp σ k (some (x.1, x.2.1, x.2.2.1, v))).kp (r - 146) = σ.kp (r - 146) := if_neg (by omega)
      rw [e2]
      rfl
section KA
variable {E : jEnv} {α : Nat → Nat} {o : Option MethodName} {cc : ByteArray} {mL : Nat} {ret : Option FieldType} {R : Room} {k n pc : Nat} {L : List (Option Value)} {st : List Value} {σ : cS} {Q : Option Value → cS → Prop}
theorem CK_iald {z : Int} {j : Nat} {x : (Nat × Nat × Nat) × Int32 × (Nat → Int32) × (Nat → Int32)} (m : Nat) (hj : j < 3) (hx : σ.kp j = some x) (h : z = m) (hm : m < 33) (d : decode cc pc = .ok (.iaload, 1)) (kk : J E (wC E α) (cX E, o) cc mL ret RX0 R k n (pc + 1) L (.int (x.2.2.2 m) :: st) σ Q) : J E (wC E α) (cX E, o) cc mL ret RX0 R k n (pc) L (.int (zI z) :: .ref x.1.2.2 :: st) σ Q := by
  obtain ⟨h1, h2⟩ := zI_in h hm (by decide)
  refine J_iald (N := 33) (f := x.2.2.2) (146 + j) (by rw [wC_k2 hj, hx]; rfl) h1 d (by rw [h2]; exact kk)
theorem CK_iast {z : Int} {v : Int32} {j : Nat} {x : (Nat × Nat × Nat) × Int32 × (Nat → Int32) × (Nat → Int32)} (m : Nat) (hj : j < 3) (hx : σ.kp j = some x) (h : z = m) (hm : m < 33) (d : decode cc pc = .ok (.iastore, 1)) (kk : J E (wC E α) (cX E, o) cc mL ret RX0 R k n (pc + 1) L (st) (cKp σ j (some (x.1, x.2.1, x.2.2.1, upd x.2.2.2 m v))) Q) : J E (wC E α) (cX E, o) cc mL ret RX0 R k n (pc) L (.int v :: .int (zI z) :: .ref x.1.2.2 :: st) σ Q := by
  obtain ⟨h1, h2⟩ := zI_in h hm (by decide)
  exact J_iast (N := 33) (f := x.2.2.2) (146 + j) (by rw [wC_k2 hj, hx]; rfl) h1 (by rw [wC_Kp2 hj hx, h2]) d kk
end KA

theorem cl_write31_23 {E : jEnv} {α : Nat → Nat} {σ : cS} {Q : Option Value → cS → Prop} {many : Nat} {wide high bl : Int} {G : Nat → Nat → Int} {ad : Nat → Nat} {c : Nat → Nat → Int} {P : Nat → Nat → Int} {rule : Int} {o : Nat} {f : Nat}  (hS : cSh many wide high bl G ad c σ) (hO : shOK many wide high bl G) (hP : cPl many P c) (hN : plOK many P rule) (ho : o + 33 ≤ 1320) (hR : cRl rule σ) (hf8 : f < 8) (hk : ∀ σ', cQ [] [31] σ σ' → σ'.a 31 = wAt (σ.a 31) o (1 + 4 * (f + 1)) (wRo many c rule) → jX0_write_2 E α 70 [some (.ref (α 0)), some (.ref (α 32)), some (.int (zI (o : Nat))), some (.int (zI (f : Nat))), none] [] σ' Q)  : ∀ (n : Nat) (k : Nat) (σ1 : cS), k ≤ 4 → cQ [] [31] σ σ1 → σ1.a 31 = wAt (σ.a 31) o (1 + 4 * f + k) (wRo many c rule) → 4 - k < n → jX0_write_2 E α 23 [some (.ref (α 0)), some (.ref (α 32)), some (.int (zI (o : Nat))), some (.int (zI (f : Nat))), some (.int (zI (k : Nat)))] [] σ1 Q := by
  intro n
  induction n with
  | zero => intro k σ1 h1 h2 h3 hn; exact absurd hn (Nat.not_lt_zero _)
  | succ n ih =>
    intro k σ1 h1 h2 h3 hn
    have hO8 := hO.s
    have hS := hS.up h2 (by decide) (by decide) (by decide) (by decide)
    refine J_iload dX0_write_2_23 rfl ?_
    refine J_iconst (zI 4) dX0_write_2_25 rfl ?_
    refine J_icmp_ge_z (tgt := 70) dX0_write_2_26 (by decide) (by unfold zR; omega) (by unfold zR; omega) (fun c26 => ?_) (fun c26 => ?_)
    · skip
      obtain rfl : k = 4 := by omega
      refine J_fg (L' := [some (.ref (α 0)), some (.ref (α 32)), some (.int (zI (o : Nat))), some (.int (zI (f : Nat))), none]) (by repeat' constructor) ?_
      exact hk σ1 h2 h3
    · skip
      refine J_aload_n dX0_write_2_29 rfl ?_
      refine J_iload_n dX0_write_2_30 rfl ?_
      refine J_iconst (zI 1) dX0_write_2_31 rfl ?_
      refine J_iadd_z dX0_write_2_32 ?_
      refine J_iconst (zI 4) dX0_write_2_33 rfl ?_
      refine J_iload_n dX0_write_2_34 rfl ?_
      refine J_imul_z dX0_write_2_35 ?_
      refine J_iadd_z dX0_write_2_36 ?_
      refine J_iload dX0_write_2_37 rfl ?_
      refine J_iadd_z dX0_write_2_39 ?_
      refine J_iload_n dX0_write_2_40 rfl ?_
      refine J_aload_n dX0_write_2_41 rfl ?_
      refine CG_many dX0_write_2_42 ?_
      refine J_top (zI (many)) hS.1 ?_
      refine J_icmp_ge_z (tgt := 62) dX0_write_2_45 (by decide) (by unfold zR; omega) (by unfold zR; omega) (fun c45 => ?_) (fun c45 => ?_)
      · skip
        refine J_iconst (zI 0) dX0_write_2_62 rfl ?_
        refine CJ_iast 31 (o + (1 + 4 * f + k)) ⟨rfl, by decide, by decide, by decide⟩ (by omega) (show o + (1 + 4 * f + k) < 1320 by omega) dX0_write_2_63 ?_
        refine J_iinc_z ((((k + 1)) : Nat) : Int) (by omega) dX0_write_2_64 rfl rfl (by decide) _ rfl ?_
        refine J_goto (tgt := 23) dX0_write_2_67 (by decide) ?_
        exact ih (k + 1) _ (by omega) (h2.sA (by decide)) (by show upd (σ1.a 31) _ _ = _; rw [h3]; exact wAt_s (by omega) (by first | exact (wRo_y (by omega) (by omega)).symm | exact (wRo_n (by omega) (by omega)).symm)) (by omega)
      · skip
        have hf : f < many := by omega
        refine J_aload_n dX0_write_2_48 rfl ?_
        refine CG_frames dX0_write_2_49 ?_
        refine J_iload_n dX0_write_2_52 rfl ?_
        refine CA_fr (hS.2.2.2.2 _ hf) (by omega) (by have := hO.1; omega) dX0_write_2_53 ?_
        refine J_iload dX0_write_2_54 rfl ?_
        refine VX3_placed G f (c := (c f)) (m := k) (hS.w hf hO.1) (hO.k hf) (hP f hf).1 (by omega) q1152 (by decide) (by decide) (Nat.le_of_ble_eq_true rfl) dX0_write_2_56 ?_
        refine J_goto (tgt := 63) dX0_write_2_59 (by decide) ?_
        refine CJ_iast 31 (o + (1 + 4 * f + k)) ⟨rfl, by decide, by decide, by decide⟩ (by omega) (show o + (1 + 4 * f + k) < 1320 by omega) dX0_write_2_63 ?_
        refine J_iinc_z ((((k + 1)) : Nat) : Int) (by omega) dX0_write_2_64 rfl rfl (by decide) _ rfl ?_
        refine J_goto (tgt := 23) dX0_write_2_67 (by decide) ?_
        exact ih (k + 1) _ (by omega) (h2.sA (by decide)) (by show upd (σ1.a 31) _ _ = _; rw [h3]; exact wAt_s (by omega) (by first | exact (wRo_y (by omega) (by omega)).symm | exact (wRo_n (by omega) (by omega)).symm)) (by omega)
theorem cl_write31_14 {E : jEnv} {α : Nat → Nat} {σ : cS} {Q : Option Value → cS → Prop} {many : Nat} {wide high bl : Int} {G : Nat → Nat → Int} {ad : Nat → Nat} {c : Nat → Nat → Int} {P : Nat → Nat → Int} {rule : Int} {o : Nat}  (hS : cSh many wide high bl G ad c σ) (hO : shOK many wide high bl G) (hP : cPl many P c) (hN : plOK many P rule) (ho : o + 33 ≤ 1320) (hR : cRl rule σ) (hq : ∀ σ', cQ [] [31] σ σ' → σ'.a 31 = wAt (σ.a 31) o 33 (wRo many c rule) → Q none σ')  : ∀ (n : Nat) (f : Nat) (σ1 : cS), f ≤ 8 → cQ [] [31] σ σ1 → σ1.a 31 = wAt (σ.a 31) o (1 + 4 * f) (wRo many c rule) → 8 - f < n → jX0_write_2 E α 14 [some (.ref (α 0)), some (.ref (α 32)), some (.int (zI (o : Nat))), some (.int (zI (f : Nat))), none] [] σ1 Q := by
  intro n
  induction n with
  | zero => intro f σ1 h1 h2 h3 hn; exact absurd hn (Nat.not_lt_zero _)
  | succ n ih =>
    intro f σ1 h1 h2 h3 hn
    have hO8 := hO.s
    have hS0 := hS
    have hS := hS.up h2 (by decide) (by decide) (by decide) (by decide)
    refine J_iload_n dX0_write_2_14 rfl ?_
    refine J_bipush (zI 8) dX0_write_2_15 rfl ?_
    refine J_icmp_ge_z (tgt := 76) dX0_write_2_17 (by decide) (by unfold zR; omega) (by unfold zR; omega) (fun c17 => ?_) (fun c17 => ?_)
    · skip
      obtain rfl : f = 8 := by omega
      exact J_vret rfl dX0_write_2_76 (by exact hq σ1 h2 h3)
    · skip
      refine J_iconst (zI 0) dX0_write_2_20 rfl ?_
      refine J_istore dX0_write_2_21 rfl (by decide) _ rfl ?_
      refine J_fg (L' := [some (.ref (α 0)), some (.ref (α 32)), some (.int (zI (o : Nat))), some (.int (zI (f : Nat))), some (.int (zI ((0 : Nat))))]) (by repeat' constructor) ?_
      refine cl_write31_23 hS0 hO hP hN ho hR (by omega) (fun σ' e1 e2 => ?_) _ 0 σ1 (by omega) h2 h3 (Nat.lt_succ_self _)
      refine J_iinc_z (((f + 1 : Nat)) : Int) (by omega) dX0_write_2_70 rfl rfl (by decide) _ rfl ?_
      refine J_goto (tgt := 14) dX0_write_2_73 (by decide) ?_
      exact ih (f + 1) σ' (by omega) e1 e2 (by omega)
theorem c_write31 {E : jEnv} {α : Nat → Nat} {σ : cS} {Q : Option Value → cS → Prop} {many : Nat} {wide high bl : Int} {G : Nat → Nat → Int} {ad : Nat → Nat} {c : Nat → Nat → Int} {P : Nat → Nat → Int} {rule : Int} {o : Nat}  (hS : cSh many wide high bl G ad c σ) (hO : shOK many wide high bl G) (hP : cPl many P c) (hN : plOK many P rule) (ho : o + 33 ≤ 1320) (hR : cRl rule σ) (hq : ∀ σ', cQ [] [31] σ σ' → σ'.a 31 = wAt (σ.a 31) o 33 (wRo many c rule) → Q none σ')  : jX0_write_2 E α 0 [some (.ref (α 0)), some (.ref (α 32)), some (.int (zI (o : Nat))), none, none] [] σ Q := by
  refine J_aload_n dX0_write_2_0 rfl ?_
  refine J_iload_n dX0_write_2_1 rfl ?_
  refine J_aload_n dX0_write_2_2 rfl ?_
  refine CG_rule dX0_write_2_3 ?_
  refine VR_number (ru := σ.ru.2) (show wC E α σ 150 = _ from rfl) hR.1  (by decide) (by decide) (Nat.le_of_ble_eq_true rfl) dX0_write_2_6 ?_
  refine CJ_iast 31 (o) ⟨rfl, by decide, by decide, by decide⟩ (by omega) (show o < 1320 by omega) dX0_write_2_11 ?_
  refine J_iconst (zI 0) dX0_write_2_12 rfl ?_
  refine J_istore_n dX0_write_2_13 rfl (by decide) _ rfl ?_
  refine J_fg (L' := [some (.ref (α 0)), some (.ref (α 32)), some (.int (zI (o : Nat))), some (.int (zI ((0 : Nat)))), none]) (by repeat' constructor) ?_
  refine cl_write31_14 hS hO hP hN ho hR hq _ 0 _ (by omega) (cQ.refl.sA (by decide)) ?_ (Nat.lt_succ_self _)
  show upd (σ.a 31) o _ = _
  rw [show upd (σ.a 31) o = upd (wAt (σ.a 31) o 0 (wRo many c rule)) o by rw [← wAt_0]]
  exact wAt_s (by omega) (congrArg zI hR.2.symm)
theorem cl_write33_23 {E : jEnv} {α : Nat → Nat} {σ : cS} {Q : Option Value → cS → Prop} {many : Nat} {wide high bl : Int} {G : Nat → Nat → Int} {ad : Nat → Nat} {c : Nat → Nat → Int} {P : Nat → Nat → Int} {rule : Int} {f : Nat}  (hS : cSh many wide high bl G ad c σ) (hO : shOK many wide high bl G) (hP : cPl many P c) (hN : plOK many P rule) (hR : cRl rule σ) (hf8 : f < 8) (hk : ∀ σ', cQ [] [33] σ σ' → σ'.a 33 = wAt (σ.a 33) 0 (1 + 4 * (f + 1)) (wRo many c rule) → jX0_write_2 E α 70 [some (.ref (α 0)), some (.ref (α 34)), some (.int (zI (0))), some (.int (zI (f : Nat))), none] [] σ' Q)  : ∀ (n : Nat) (k : Nat) (σ1 : cS), k ≤ 4 → cQ [] [33] σ σ1 → σ1.a 33 = wAt (σ.a 33) 0 (1 + 4 * f + k) (wRo many c rule) → 4 - k < n → jX0_write_2 E α 23 [some (.ref (α 0)), some (.ref (α 34)), some (.int (zI 0)), some (.int (zI (f : Nat))), some (.int (zI (k : Nat)))] [] σ1 Q := by
  intro n
  induction n with
  | zero => intro k σ1 h1 h2 h3 hn; exact absurd hn (Nat.not_lt_zero _)
  | succ n ih =>
    intro k σ1 h1 h2 h3 hn
    have hO8 := hO.s
    have hS := hS.up h2 (by decide) (by decide) (by decide) (by decide)
    refine J_iload dX0_write_2_23 rfl ?_
    refine J_iconst (zI 4) dX0_write_2_25 rfl ?_
    refine J_icmp_ge_z (tgt := 70) dX0_write_2_26 (by decide) (by unfold zR; omega) (by unfold zR; omega) (fun c26 => ?_) (fun c26 => ?_)
    · skip
      obtain rfl : k = 4 := by omega
      refine J_fg (L' := [some (.ref (α 0)), some (.ref (α 34)), some (.int (zI (0))), some (.int (zI (f : Nat))), none]) (by repeat' constructor) ?_
      exact hk σ1 h2 h3
    · skip
      refine J_aload_n dX0_write_2_29 rfl ?_
      refine J_iload_n dX0_write_2_30 rfl ?_
      refine J_iconst (zI 1) dX0_write_2_31 rfl ?_
      refine J_iadd_z dX0_write_2_32 ?_
      refine J_top (zI (1)) rfl ?_
      refine J_iconst (zI 4) dX0_write_2_33 rfl ?_
      refine J_iload_n dX0_write_2_34 rfl ?_
      refine J_imul_z dX0_write_2_35 ?_
      refine J_iadd_z dX0_write_2_36 ?_
      refine J_iload dX0_write_2_37 rfl ?_
      refine J_iadd_z dX0_write_2_39 ?_
      refine J_iload_n dX0_write_2_40 rfl ?_
      refine J_aload_n dX0_write_2_41 rfl ?_
      refine CG_many dX0_write_2_42 ?_
      refine J_top (zI (many)) hS.1 ?_
      refine J_icmp_ge_z (tgt := 62) dX0_write_2_45 (by decide) (by unfold zR; omega) (by unfold zR; omega) (fun c45 => ?_) (fun c45 => ?_)
      · skip
        refine J_iconst (zI 0) dX0_write_2_62 rfl ?_
        refine CJ_iast 33 (1 + 4 * f + k) ⟨rfl, by decide, by decide, by decide⟩ (by omega) (show 1 + 4 * f + k < 33 by omega) dX0_write_2_63 ?_
        refine J_iinc_z ((((k + 1)) : Nat) : Int) (by omega) dX0_write_2_64 rfl rfl (by decide) _ rfl ?_
        refine J_goto (tgt := 23) dX0_write_2_67 (by decide) ?_
        exact ih (k + 1) _ (by omega) (h2.sA (by decide)) (by show upd (σ1.a 33) _ _ = _; rw [h3]; exact wAt_s (by omega) (by first | exact (wRo_y (by omega) (by omega)).symm | exact (wRo_n (by omega) (by omega)).symm)) (by omega)
      · skip
        have hf : f < many := by omega
        refine J_aload_n dX0_write_2_48 rfl ?_
        refine CG_frames dX0_write_2_49 ?_
        refine J_iload_n dX0_write_2_52 rfl ?_
        refine CA_fr (hS.2.2.2.2 _ hf) (by omega) (by have := hO.1; omega) dX0_write_2_53 ?_
        refine J_iload dX0_write_2_54 rfl ?_
        refine VX3_placed G f (c := (c f)) (m := k) (hS.w hf hO.1) (hO.k hf) (hP f hf).1 (by omega) q1152 (by decide) (by decide) (Nat.le_of_ble_eq_true rfl) dX0_write_2_56 ?_
        refine J_goto (tgt := 63) dX0_write_2_59 (by decide) ?_
        refine CJ_iast 33 (1 + 4 * f + k) ⟨rfl, by decide, by decide, by decide⟩ (by omega) (show 1 + 4 * f + k < 33 by omega) dX0_write_2_63 ?_
        refine J_iinc_z ((((k + 1)) : Nat) : Int) (by omega) dX0_write_2_64 rfl rfl (by decide) _ rfl ?_
        refine J_goto (tgt := 23) dX0_write_2_67 (by decide) ?_
        exact ih (k + 1) _ (by omega) (h2.sA (by decide)) (by show upd (σ1.a 33) _ _ = _; rw [h3]; exact wAt_s (by omega) (by first | exact (wRo_y (by omega) (by omega)).symm | exact (wRo_n (by omega) (by omega)).symm)) (by omega)
theorem cl_write33_14 {E : jEnv} {α : Nat → Nat} {σ : cS} {Q : Option Value → cS → Prop} {many : Nat} {wide high bl : Int} {G : Nat → Nat → Int} {ad : Nat → Nat} {c : Nat → Nat → Int} {P : Nat → Nat → Int} {rule : Int}  (hS : cSh many wide high bl G ad c σ) (hO : shOK many wide high bl G) (hP : cPl many P c) (hN : plOK many P rule) (hR : cRl rule σ) (hq : ∀ σ', cQ [] [33] σ σ' → σ'.a 33 = wAt (σ.a 33) 0 33 (wRo many c rule) → Q none σ')  : ∀ (n : Nat) (f : Nat) (σ1 : cS), f ≤ 8 → cQ [] [33] σ σ1 → σ1.a 33 = wAt (σ.a 33) 0 (1 + 4 * f) (wRo many c rule) → 8 - f < n → jX0_write_2 E α 14 [some (.ref (α 0)), some (.ref (α 34)), some (.int (zI 0)), some (.int (zI (f : Nat))), none] [] σ1 Q := by
  intro n
  induction n with
  | zero => intro f σ1 h1 h2 h3 hn; exact absurd hn (Nat.not_lt_zero _)
  | succ n ih =>
    intro f σ1 h1 h2 h3 hn
    have hO8 := hO.s
    have hS0 := hS
    have hS := hS.up h2 (by decide) (by decide) (by decide) (by decide)
    refine J_iload_n dX0_write_2_14 rfl ?_
    refine J_bipush (zI 8) dX0_write_2_15 rfl ?_
    refine J_icmp_ge_z (tgt := 76) dX0_write_2_17 (by decide) (by unfold zR; omega) (by unfold zR; omega) (fun c17 => ?_) (fun c17 => ?_)
    · skip
      obtain rfl : f = 8 := by omega
      exact J_vret rfl dX0_write_2_76 (by exact hq σ1 h2 h3)
    · skip
      refine J_iconst (zI 0) dX0_write_2_20 rfl ?_
      refine J_istore dX0_write_2_21 rfl (by decide) _ rfl ?_
      refine J_fg (L' := [some (.ref (α 0)), some (.ref (α 34)), some (.int (zI (0))), some (.int (zI (f : Nat))), some (.int (zI ((0 : Nat))))]) (by repeat' constructor) ?_
      refine cl_write33_23 hS0 hO hP hN hR (by omega) (fun σ' e1 e2 => ?_) _ 0 σ1 (by omega) h2 h3 (Nat.lt_succ_self _)
      refine J_iinc_z (((f + 1 : Nat)) : Int) (by omega) dX0_write_2_70 rfl rfl (by decide) _ rfl ?_
      refine J_goto (tgt := 14) dX0_write_2_73 (by decide) ?_
      exact ih (f + 1) σ' (by omega) e1 e2 (by omega)
theorem c_write33 {E : jEnv} {α : Nat → Nat} {σ : cS} {Q : Option Value → cS → Prop} {many : Nat} {wide high bl : Int} {G : Nat → Nat → Int} {ad : Nat → Nat} {c : Nat → Nat → Int} {P : Nat → Nat → Int} {rule : Int}  (hS : cSh many wide high bl G ad c σ) (hO : shOK many wide high bl G) (hP : cPl many P c) (hN : plOK many P rule) (hR : cRl rule σ) (hq : ∀ σ', cQ [] [33] σ σ' → σ'.a 33 = wAt (σ.a 33) 0 33 (wRo many c rule) → Q none σ')  : jX0_write_2 E α 0 [some (.ref (α 0)), some (.ref (α 34)), some (.int (zI 0)), none, none] [] σ Q := by
  refine J_aload_n dX0_write_2_0 rfl ?_
  refine J_iload_n dX0_write_2_1 rfl ?_
  refine J_aload_n dX0_write_2_2 rfl ?_
  refine CG_rule dX0_write_2_3 ?_
  refine VR_number (ru := σ.ru.2) (show wC E α σ 150 = _ from rfl) hR.1  (by decide) (by decide) (Nat.le_of_ble_eq_true rfl) dX0_write_2_6 ?_
  refine CJ_iast 33 (0) ⟨rfl, by decide, by decide, by decide⟩ (by omega) (show 0 < 33 by omega) dX0_write_2_11 ?_
  refine J_iconst (zI 0) dX0_write_2_12 rfl ?_
  refine J_istore_n dX0_write_2_13 rfl (by decide) _ rfl ?_
  refine J_fg (L' := [some (.ref (α 0)), some (.ref (α 34)), some (.int (zI (0))), some (.int (zI ((0 : Nat)))), none]) (by repeat' constructor) ?_
  refine cl_write33_14 hS hO hP hN hR hq _ 0 _ (by omega) (cQ.refl.sA (by decide)) ?_ (Nat.lt_succ_self _)
  show upd (σ.a 33) 0 _ = _
  rw [show upd (σ.a 33) 0 = upd (wAt (σ.a 33) 0 0 (wRo many c rule)) 0 by rw [← wAt_0]]
  exact wAt_s (by omega) (congrArg zI hR.2.symm)
theorem cl_writeK_23 {E : jEnv} {α : Nat → Nat} {σ : cS} {Q : Option Value → cS → Prop} {many : Nat} {wide high bl : Int} {G : Nat → Nat → Int} {ad : Nat → Nat} {c : Nat → Nat → Int} {P : Nat → Nat → Int} {rule : Int} {j : Nat} {x : (Nat × Nat × Nat) × Int32 × (Nat → Int32) × (Nat → Int32)} {f : Nat}  (hS : cSh many wide high bl G ad c σ) (hO : shOK many wide high bl G) (hP : cPl many P c) (hN : plOK many P rule) (hj : j < 3) (hx : σ.kp j = some x) (hR : cRl rule σ) (hf8 : f < 8) (hk : ∀ σ', kQ j σ σ' → σ'.kp j = some (x.1, x.2.1, x.2.2.1, wAt x.2.2.2 0 (1 + 4 * (f + 1)) (wRo many c rule)) → jX0_write_2 E α 70 [some (.ref (α 0)), some (.ref x.1.2.2), some (.int (zI (0))), some (.int (zI (f : Nat))), none] [] σ' Q)  : ∀ (n : Nat) (k : Nat) (σ1 : cS), k ≤ 4 → kQ j σ σ1 → σ1.kp j = some (x.1, x.2.1, x.2.2.1, wAt x.2.2.2 0 (1 + 4 * f + k) (wRo many c rule)) → 4 - k < n → jX0_write_2 E α 23 [some (.ref (α 0)), some (.ref x.1.2.2), some (.int (zI 0)), some (.int (zI (f : Nat))), some (.int (zI (k : Nat)))] [] σ1 Q := by
  intro n
  induction n with
  | zero => intro k σ1 h1 h2 h3 hn; exact absurd hn (Nat.not_lt_zero _)
  | succ n ih =>
    intro k σ1 h1 h2 h3 hn
    have hO8 := hO.s
    have hS := hS.kq h2
    refine J_iload dX0_write_2_23 rfl ?_
    refine J_iconst (zI 4) dX0_write_2_25 rfl ?_
    refine J_icmp_ge_z (tgt := 70) dX0_write_2_26 (by decide) (by unfold zR; omega) (by unfold zR; omega) (fun c26 => ?_) (fun c26 => ?_)
    · skip
      obtain rfl : k = 4 := by omega
      refine J_fg (L' := [some (.ref (α 0)), some (.ref x.1.2.2), some (.int (zI (0))), some (.int (zI (f : Nat))), none]) (by repeat' constructor) ?_
      exact hk σ1 h2 h3
    · skip
      refine J_aload_n dX0_write_2_29 rfl ?_
      refine J_iload_n dX0_write_2_30 rfl ?_
      refine J_iconst (zI 1) dX0_write_2_31 rfl ?_
      refine J_iadd_z dX0_write_2_32 ?_
      refine J_top (zI (1)) rfl ?_
      refine J_iconst (zI 4) dX0_write_2_33 rfl ?_
      refine J_iload_n dX0_write_2_34 rfl ?_
      refine J_imul_z dX0_write_2_35 ?_
      refine J_iadd_z dX0_write_2_36 ?_
      refine J_iload dX0_write_2_37 rfl ?_
      refine J_iadd_z dX0_write_2_39 ?_
      refine J_iload_n dX0_write_2_40 rfl ?_
      refine J_aload_n dX0_write_2_41 rfl ?_
      refine CG_many dX0_write_2_42 ?_
      refine J_top (zI (many)) hS.1 ?_
      refine J_icmp_ge_z (tgt := 62) dX0_write_2_45 (by decide) (by unfold zR; omega) (by unfold zR; omega) (fun c45 => ?_) (fun c45 => ?_)
      · skip
        refine J_iconst (zI 0) dX0_write_2_62 rfl ?_
        refine CK_iast (x := (x.1, x.2.1, x.2.2.1, wAt x.2.2.2 0 (1 + 4 * f + k) (wRo many c rule))) (1 + 4 * f + k) hj h3 (by omega) (show 1 + 4 * f + k < 33 by omega) dX0_write_2_63 ?_
        refine J_iinc_z ((((k + 1)) : Nat) : Int) (by omega) dX0_write_2_64 rfl rfl (by decide) _ rfl ?_
        refine J_goto (tgt := 23) dX0_write_2_67 (by decide) ?_
        exact ih (k + 1) _ (by omega) (h2.s) (by rw [cKp_s]; exact congrArg (fun v => some (x.1, x.2.1, x.2.2.1, v)) (wAt_s (by omega) (by first | exact (wRo_y (by omega) (by omega)).symm | exact (wRo_n (by omega) (by omega)).symm))) (by omega)
      · skip
        have hf : f < many := by omega
        refine J_aload_n dX0_write_2_48 rfl ?_
        refine CG_frames dX0_write_2_49 ?_
        refine J_iload_n dX0_write_2_52 rfl ?_
        refine CA_fr (hS.2.2.2.2 _ hf) (by omega) (by have := hO.1; omega) dX0_write_2_53 ?_
        refine J_iload dX0_write_2_54 rfl ?_
        refine VX3_placed G f (c := (c f)) (m := k) (hS.w hf hO.1) (hO.k hf) (hP f hf).1 (by omega) q1152 (by decide) (by decide) (Nat.le_of_ble_eq_true rfl) dX0_write_2_56 ?_
        refine J_goto (tgt := 63) dX0_write_2_59 (by decide) ?_
        refine CK_iast (x := (x.1, x.2.1, x.2.2.1, wAt x.2.2.2 0 (1 + 4 * f + k) (wRo many c rule))) (1 + 4 * f + k) hj h3 (by omega) (show 1 + 4 * f + k < 33 by omega) dX0_write_2_63 ?_
        refine J_iinc_z ((((k + 1)) : Nat) : Int) (by omega) dX0_write_2_64 rfl rfl (by decide) _ rfl ?_
        refine J_goto (tgt := 23) dX0_write_2_67 (by decide) ?_
        exact ih (k + 1) _ (by omega) (h2.s) (by rw [cKp_s]; exact congrArg (fun v => some (x.1, x.2.1, x.2.2.1, v)) (wAt_s (by omega) (by first | exact (wRo_y (by omega) (by omega)).symm | exact (wRo_n (by omega) (by omega)).symm))) (by omega)
theorem cl_writeK_14 {E : jEnv} {α : Nat → Nat} {σ : cS} {Q : Option Value → cS → Prop} {many : Nat} {wide high bl : Int} {G : Nat → Nat → Int} {ad : Nat → Nat} {c : Nat → Nat → Int} {P : Nat → Nat → Int} {rule : Int} {j : Nat} {x : (Nat × Nat × Nat) × Int32 × (Nat → Int32) × (Nat → Int32)}  (hS : cSh many wide high bl G ad c σ) (hO : shOK many wide high bl G) (hP : cPl many P c) (hN : plOK many P rule) (hj : j < 3) (hx : σ.kp j = some x) (hR : cRl rule σ) (hq : ∀ σ', kQ j σ σ' → σ'.kp j = some (x.1, x.2.1, x.2.2.1, wAt x.2.2.2 0 33 (wRo many c rule)) → Q none σ')  : ∀ (n : Nat) (f : Nat) (σ1 : cS), f ≤ 8 → kQ j σ σ1 → σ1.kp j = some (x.1, x.2.1, x.2.2.1, wAt x.2.2.2 0 (1 + 4 * f) (wRo many c rule)) → 8 - f < n → jX0_write_2 E α 14 [some (.ref (α 0)), some (.ref x.1.2.2), some (.int (zI 0)), some (.int (zI (f : Nat))), none] [] σ1 Q := by
  intro n
  induction n with
  | zero => intro f σ1 h1 h2 h3 hn; exact absurd hn (Nat.not_lt_zero _)
  | succ n ih =>
    intro f σ1 h1 h2 h3 hn
    have hO8 := hO.s
    have hS0 := hS
    have hS := hS.kq h2
    refine J_iload_n dX0_write_2_14 rfl ?_
    refine J_bipush (zI 8) dX0_write_2_15 rfl ?_
    refine J_icmp_ge_z (tgt := 76) dX0_write_2_17 (by decide) (by unfold zR; omega) (by unfold zR; omega) (fun c17 => ?_) (fun c17 => ?_)
    · skip
      obtain rfl : f = 8 := by omega
      exact J_vret rfl dX0_write_2_76 (by exact hq σ1 h2 h3)
    · skip
      refine J_iconst (zI 0) dX0_write_2_20 rfl ?_
      refine J_istore dX0_write_2_21 rfl (by decide) _ rfl ?_
      refine J_fg (L' := [some (.ref (α 0)), some (.ref x.1.2.2), some (.int (zI (0))), some (.int (zI (f : Nat))), some (.int (zI ((0 : Nat))))]) (by repeat' constructor) ?_
      refine cl_writeK_23 hS0 hO hP hN hj hx hR (by omega) (fun σ' e1 e2 => ?_) _ 0 σ1 (by omega) h2 h3 (Nat.lt_succ_self _)
      refine J_iinc_z (((f + 1 : Nat)) : Int) (by omega) dX0_write_2_70 rfl rfl (by decide) _ rfl ?_
      refine J_goto (tgt := 14) dX0_write_2_73 (by decide) ?_
      exact ih (f + 1) σ' (by omega) e1 e2 (by omega)
theorem c_writeK {E : jEnv} {α : Nat → Nat} {σ : cS} {Q : Option Value → cS → Prop} {many : Nat} {wide high bl : Int} {G : Nat → Nat → Int} {ad : Nat → Nat} {c : Nat → Nat → Int} {P : Nat → Nat → Int} {rule : Int} {j : Nat} {x : (Nat × Nat × Nat) × Int32 × (Nat → Int32) × (Nat → Int32)}  (hS : cSh many wide high bl G ad c σ) (hO : shOK many wide high bl G) (hP : cPl many P c) (hN : plOK many P rule) (hj : j < 3) (hx : σ.kp j = some x) (hR : cRl rule σ) (hq : ∀ σ', kQ j σ σ' → σ'.kp j = some (x.1, x.2.1, x.2.2.1, wAt x.2.2.2 0 33 (wRo many c rule)) → Q none σ')  : jX0_write_2 E α 0 [some (.ref (α 0)), some (.ref x.1.2.2), some (.int (zI 0)), none, none] [] σ Q := by
  refine J_aload_n dX0_write_2_0 rfl ?_
  refine J_iload_n dX0_write_2_1 rfl ?_
  refine J_aload_n dX0_write_2_2 rfl ?_
  refine CG_rule dX0_write_2_3 ?_
  refine VR_number (ru := σ.ru.2) (show wC E α σ 150 = _ from rfl) hR.1  (by decide) (by decide) (Nat.le_of_ble_eq_true rfl) dX0_write_2_6 ?_
  refine CK_iast (x := x) (0) hj hx (by omega) (show 0 < 33 by omega) dX0_write_2_11 ?_
  refine J_iconst (zI 0) dX0_write_2_12 rfl ?_
  refine J_istore_n dX0_write_2_13 rfl (by decide) _ rfl ?_
  refine J_fg (L' := [some (.ref (α 0)), some (.ref x.1.2.2), some (.int (zI (0))), some (.int (zI ((0 : Nat)))), none]) (by repeat' constructor) ?_
  refine cl_writeK_14 hS hO hP hN hj hx hR hq _ 0 _ (by omega) (kQ.refl.s) ?_ (Nat.lt_succ_self _)
  rw [cKp_s]
  rw [show upd x.2.2.2 0 = upd (wAt x.2.2.2 0 0 (wRo many c rule)) 0 by rw [← wAt_0]]
  exact congrArg (fun v => some (x.1, x.2.1, x.2.2.1, v)) (wAt_s (by omega) (congrArg zI hR.2.symm))
theorem c_note {E : jEnv} {α : Nat → Nat} {σ : cS} {Q : Option Value → cS → Prop} {many : Nat} {wide high bl : Int} {G : Nat → Nat → Int} {ad : Nat → Nat} {c : Nat → Nat → Int} {P : Nat → Nat → Int} {rule : Int} {dm : Nat} {H : Nat → mPl}  (hS : cSh many wide high bl G ad c σ) (hO : shOK many wide high bl G) (hP : cPl many P c) (hN : plOK many P rule) (hL : cLg many dm H σ) (hd : dm < 40) (hR : cRl rule σ) (hq : ∀ σ', cQ [30] [31] σ σ' → cLg many (dm + 1) (updH H dm (P, rule)) σ' → Q none σ')  : jX0_note E α 0 [some (.ref (α 0))] [] σ Q := by
  have hO8 := hO.s
  refine J_aload_n dX0_note_0 rfl ?_
  refine J_aload_n dX0_note_1 rfl ?_
  refine CG_ahead dX0_note_2 ?_
  refine J_bipush (zI 33) dX0_note_5 rfl ?_
  refine J_aload_n dX0_note_7 rfl ?_
  refine CG_deedMany dX0_note_8 ?_
  refine J_top (zI (dm)) hL.1 ?_
  refine J_imul_z dX0_note_11 ?_
  refine J_top (zI ((33 * dm : Nat) : Int)) (congrArg zI (by omega)) ?_
  refine CC_X0_write_2 (by decide) (by decide) (Nat.le_of_ble_eq_true rfl) dX0_note_12 ?_
  refine c_write31 (o := 33 * dm) hS hO hP hN (by omega) hR (fun σ1 e1 c1 => ?_)
  refine J_rv ?_
  refine J_aload_n dX0_note_15 rfl ?_
  refine J_dup dX0_note_16 rfl ?_
  refine CG_deedMany dX0_note_17 ?_
  refine J_top (zI (dm)) ((e1.1.1 30 (by decide)).trans hL.1) ?_
  refine J_iconst (zI 1) dX0_note_20 rfl ?_
  refine J_iadd_z dX0_note_21 ?_
  refine CP_deedMany dX0_note_22 ?_
  refine J_vret rfl dX0_note_25 ?_
  refine hq _ ((e1.mono (by decide) (by decide)).sI (by decide)) ⟨congrArg zI (by omega), fun d hd2 => ?_⟩
  show cRow many (σ1.a 31) (33 * d) _
  rw [c1]
  unfold updH
  by_cases z : d = dm
  · subst z; rw [if_pos rfl]; exact wRo_row (by omega) hP
  · rw [if_neg z]; exact (hL.2 d (by omega)).out (by omega) (by omega)
