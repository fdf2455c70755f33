set_option maxRecDepth 100000
/-! frames of kinds: fields, pure methods -/
section FG
variable {E : jEnv} {St : Type} {w : St → jW} {o : Option MethodName} {cc : ByteArray} {mL : Nat} {ret : Option FieldType} {own : String} {R : Room} {k n pc : Nat} {L : List (Option Value)} {st : List Value} {σ : St} {Q : Option Value → St → Prop}
theorem FG_w (G : Nat → Nat → Int) (f : Nat) {r a : Nat} {c : Nat → Int} (hr : w σ r = some (a, fC (G f) c)) (hk : 0 ≤ G f 0 ∧ G f 0 ≤ 3) (d : decode cc pc = .ok (.getfield 15, 3)) (kk : J E w (cX E, o) cc mL ret RX3 R k n (pc + 3) L (.int (zI (G f 1)) :: st) σ Q) : J E w (cX E, o) cc mL ret RX3 R k n (pc) L (.ref a :: st) σ Q := by
  obtain h | h | h | h : G f 0 = 0 ∨ G f 0 = 1 ∨ G f 0 = 2 ∨ G f 0 = 3 := by omega
  · have hr' : w σ r = some (a, .inr (2, fV (G f) c)) := by rw [hr, fC, h]; rfl
    exact J_get r 0 hr' rfl in_X3 (by decide) q805 rfl d kk
  · have hr' : w σ r = some (a, .inr (3, fV (G f) c)) := by rw [hr, fC, h]; rfl
    exact J_get r 0 hr' rfl in_X4 (by decide) q805 rfl d kk
  · have hr' : w σ r = some (a, .inr (4, fV (G f) c)) := by rw [hr, fC, h]; rfl
    exact J_get r 0 hr' rfl in_X5 (by decide) q805 rfl d kk
  · have hr' : w σ r = some (a, .inr (5, fV (G f) c)) := by rw [hr, fC, h]; rfl
    exact J_get r 0 hr' rfl in_X6 (by decide) q805 rfl d kk
theorem FG_h (G : Nat → Nat → Int) (f : Nat) {r a : Nat} {c : Nat → Int} (hr : w σ r = some (a, fC (G f) c)) (hk : 0 ≤ G f 0 ∧ G f 0 ≤ 3) (d : decode cc pc = .ok (.getfield 18, 3)) (kk : J E w (cX E, o) cc mL ret RX3 R k n (pc + 3) L (.int (zI (G f 2)) :: st) σ Q) : J E w (cX E, o) cc mL ret RX3 R k n (pc) L (.ref a :: st) σ Q := by
  obtain h | h | h | h : G f 0 = 0 ∨ G f 0 = 1 ∨ G f 0 = 2 ∨ G f 0 = 3 := by omega
  · have hr' : w σ r = some (a, .inr (2, fV (G f) c)) := by rw [hr, fC, h]; rfl
    exact J_get r 1 hr' rfl in_X3 (by decide) q807 rfl d kk
  · have hr' : w σ r = some (a, .inr (3, fV (G f) c)) := by rw [hr, fC, h]; rfl
    exact J_get r 1 hr' rfl in_X4 (by decide) q807 rfl d kk
  · have hr' : w σ r = some (a, .inr (4, fV (G f) c)) := by rw [hr, fC, h]; rfl
    exact J_get r 1 hr' rfl in_X5 (by decide) q807 rfl d kk
  · have hr' : w σ r = some (a, .inr (5, fV (G f) c)) := by rw [hr, fC, h]; rfl
    exact J_get r 1 hr' rfl in_X6 (by decide) q807 rfl d kk
theorem FG_left (G : Nat → Nat → Int) (f : Nat) {r a : Nat} {c : Nat → Int} (hr : w σ r = some (a, fC (G f) c)) (hk : 0 ≤ G f 0 ∧ G f 0 ≤ 3) (d : decode cc pc = .ok (.getfield 21, 3)) (kk : J E w (cX E, o) cc mL ret RX3 R k n (pc + 3) L (.int (zI (G f 3)) :: st) σ Q) : J E w (cX E, o) cc mL ret RX3 R k n (pc) L (.ref a :: st) σ Q := by
  obtain h | h | h | h : G f 0 = 0 ∨ G f 0 = 1 ∨ G f 0 = 2 ∨ G f 0 = 3 := by omega
  · have hr' : w σ r = some (a, .inr (2, fV (G f) c)) := by rw [hr, fC, h]; rfl
    exact J_get r 2 hr' rfl in_X3 (by decide) q809 rfl d kk
  · have hr' : w σ r = some (a, .inr (3, fV (G f) c)) := by rw [hr, fC, h]; rfl
    exact J_get r 2 hr' rfl in_X4 (by decide) q809 rfl d kk
  · have hr' : w σ r = some (a, .inr (4, fV (G f) c)) := by rw [hr, fC, h]; rfl
    exact J_get r 2 hr' rfl in_X5 (by decide) q809 rfl d kk
  · have hr' : w σ r = some (a, .inr (5, fV (G f) c)) := by rw [hr, fC, h]; rfl
    exact J_get r 2 hr' rfl in_X6 (by decide) q809 rfl d kk
theorem FG_above (G : Nat → Nat → Int) (f : Nat) {r a : Nat} {c : Nat → Int} (hr : w σ r = some (a, fC (G f) c)) (hk : 0 ≤ G f 0 ∧ G f 0 ≤ 3) (d : decode cc pc = .ok (.getfield 24, 3)) (kk : J E w (cX E, o) cc mL ret RX3 R k n (pc + 3) L (.int (zI (G f 4)) :: st) σ Q) : J E w (cX E, o) cc mL ret RX3 R k n (pc) L (.ref a :: st) σ Q := by
  obtain h | h | h | h : G f 0 = 0 ∨ G f 0 = 1 ∨ G f 0 = 2 ∨ G f 0 = 3 := by omega
  · have hr' : w σ r = some (a, .inr (2, fV (G f) c)) := by rw [hr, fC, h]; rfl
    exact J_get r 3 hr' rfl in_X3 (by decide) q810 rfl d kk
  · have hr' : w σ r = some (a, .inr (3, fV (G f) c)) := by rw [hr, fC, h]; rfl
    exact J_get r 3 hr' rfl in_X4 (by decide) q810 rfl d kk
  · have hr' : w σ r = some (a, .inr (4, fV (G f) c)) := by rw [hr, fC, h]; rfl
    exact J_get r 3 hr' rfl in_X5 (by decide) q810 rfl d kk
  · have hr' : w σ r = some (a, .inr (5, fV (G f) c)) := by rw [hr, fC, h]; rfl
    exact J_get r 3 hr' rfl in_X6 (by decide) q810 rfl d kk
theorem FG_right (G : Nat → Nat → Int) (f : Nat) {r a : Nat} {c : Nat → Int} (hr : w σ r = some (a, fC (G f) c)) (hk : 0 ≤ G f 0 ∧ G f 0 ≤ 3) (d : decode cc pc = .ok (.getfield 27, 3)) (kk : J E w (cX E, o) cc mL ret RX3 R k n (pc + 3) L (.int (zI (G f 5)) :: st) σ Q) : J E w (cX E, o) cc mL ret RX3 R k n (pc) L (.ref a :: st) σ Q := by
  obtain h | h | h | h : G f 0 = 0 ∨ G f 0 = 1 ∨ G f 0 = 2 ∨ G f 0 = 3 := by omega
  · have hr' : w σ r = some (a, .inr (2, fV (G f) c)) := by rw [hr, fC, h]; rfl
    exact J_get r 4 hr' rfl in_X3 (by decide) q811 rfl d kk
  · have hr' : w σ r = some (a, .inr (3, fV (G f) c)) := by rw [hr, fC, h]; rfl
    exact J_get r 4 hr' rfl in_X4 (by decide) q811 rfl d kk
  · have hr' : w σ r = some (a, .inr (4, fV (G f) c)) := by rw [hr, fC, h]; rfl
    exact J_get r 4 hr' rfl in_X5 (by decide) q811 rfl d kk
  · have hr' : w σ r = some (a, .inr (5, fV (G f) c)) := by rw [hr, fC, h]; rfl
    exact J_get r 4 hr' rfl in_X6 (by decide) q811 rfl d kk
theorem FG_below (G : Nat → Nat → Int) (f : Nat) {r a : Nat} {c : Nat → Int} (hr : w σ r = some (a, fC (G f) c)) (hk : 0 ≤ G f 0 ∧ G f 0 ≤ 3) (d : decode cc pc = .ok (.getfield 30, 3)) (kk : J E w (cX E, o) cc mL ret RX3 R k n (pc + 3) L (.int (zI (G f 6)) :: st) σ Q) : J E w (cX E, o) cc mL ret RX3 R k n (pc) L (.ref a :: st) σ Q := by
  obtain h | h | h | h : G f 0 = 0 ∨ G f 0 = 1 ∨ G f 0 = 2 ∨ G f 0 = 3 := by omega
  · have hr' : w σ r = some (a, .inr (2, fV (G f) c)) := by rw [hr, fC, h]; rfl
    exact J_get r 5 hr' rfl in_X3 (by decide) q813 rfl d kk
  · have hr' : w σ r = some (a, .inr (3, fV (G f) c)) := by rw [hr, fC, h]; rfl
    exact J_get r 5 hr' rfl in_X4 (by decide) q813 rfl d kk
  · have hr' : w σ r = some (a, .inr (4, fV (G f) c)) := by rw [hr, fC, h]; rfl
    exact J_get r 5 hr' rfl in_X5 (by decide) q813 rfl d kk
  · have hr' : w σ r = some (a, .inr (5, fV (G f) c)) := by rw [hr, fC, h]; rfl
    exact J_get r 5 hr' rfl in_X6 (by decide) q813 rfl d kk
theorem FG_page (G : Nat → Nat → Int) (f : Nat) {r a : Nat} {c : Nat → Int} (hr : w σ r = some (a, fC (G f) c)) (hk : 0 ≤ G f 0 ∧ G f 0 ≤ 3) (d : decode cc pc = .ok (.getfield 9, 3)) (kk : J E w (cX E, o) cc mL ret RX3 R k n (pc + 3) L (.int (zI (c 0)) :: st) σ Q) : J E w (cX E, o) cc mL ret RX3 R k n (pc) L (.ref a :: st) σ Q := by
  obtain h | h | h | h : G f 0 = 0 ∨ G f 0 = 1 ∨ G f 0 = 2 ∨ G f 0 = 3 := by omega
  · have hr' : w σ r = some (a, .inr (2, fV (G f) c)) := by rw [hr, fC, h]; rfl
    exact J_get r 6 hr' rfl in_X3 (by decide) q815 rfl d kk
  · have hr' : w σ r = some (a, .inr (3, fV (G f) c)) := by rw [hr, fC, h]; rfl
    exact J_get r 6 hr' rfl in_X4 (by decide) q815 rfl d kk
  · have hr' : w σ r = some (a, .inr (4, fV (G f) c)) := by rw [hr, fC, h]; rfl
    exact J_get r 6 hr' rfl in_X5 (by decide) q815 rfl d kk
  · have hr' : w σ r = some (a, .inr (5, fV (G f) c)) := by rw [hr, fC, h]; rfl
    exact J_get r 6 hr' rfl in_X6 (by decide) q815 rfl d kk
theorem FG_x (G : Nat → Nat → Int) (f : Nat) {r a : Nat} {c : Nat → Int} (hr : w σ r = some (a, fC (G f) c)) (hk : 0 ≤ G f 0 ∧ G f 0 ≤ 3) (d : decode cc pc = .ok (.getfield 53, 3)) (kk : J E w (cX E, o) cc mL ret RX3 R k n (pc + 3) L (.int (zI (c 1)) :: st) σ Q) : J E w (cX E, o) cc mL ret RX3 R k n (pc) L (.ref a :: st) σ Q := by
  obtain h | h | h | h : G f 0 = 0 ∨ G f 0 = 1 ∨ G f 0 = 2 ∨ G f 0 = 3 := by omega
  · have hr' : w σ r = some (a, .inr (2, fV (G f) c)) := by rw [hr, fC, h]; rfl
    exact J_get r 7 hr' rfl in_X3 (by decide) q817 rfl d kk
  · have hr' : w σ r = some (a, .inr (3, fV (G f) c)) := by rw [hr, fC, h]; rfl
    exact J_get r 7 hr' rfl in_X4 (by decide) q817 rfl d kk
  · have hr' : w σ r = some (a, .inr (4, fV (G f) c)) := by rw [hr, fC, h]; rfl
    exact J_get r 7 hr' rfl in_X5 (by decide) q817 rfl d kk
  · have hr' : w σ r = some (a, .inr (5, fV (G f) c)) := by rw [hr, fC, h]; rfl
    exact J_get r 7 hr' rfl in_X6 (by decide) q817 rfl d kk
theorem FG_y (G : Nat → Nat → Int) (f : Nat) {r a : Nat} {c : Nat → Int} (hr : w σ r = some (a, fC (G f) c)) (hk : 0 ≤ G f 0 ∧ G f 0 ≤ 3) (d : decode cc pc = .ok (.getfield 64, 3)) (kk : J E w (cX E, o) cc mL ret RX3 R k n (pc + 3) L (.int (zI (c 2)) :: st) σ Q) : J E w (cX E, o) cc mL ret RX3 R k n (pc) L (.ref a :: st) σ Q := by
  obtain h | h | h | h : G f 0 = 0 ∨ G f 0 = 1 ∨ G f 0 = 2 ∨ G f 0 = 3 := by omega
  · have hr' : w σ r = some (a, .inr (2, fV (G f) c)) := by rw [hr, fC, h]; rfl
    exact J_get r 8 hr' rfl in_X3 (by decide) q819 rfl d kk
  · have hr' : w σ r = some (a, .inr (3, fV (G f) c)) := by rw [hr, fC, h]; rfl
    exact J_get r 8 hr' rfl in_X4 (by decide) q819 rfl d kk
  · have hr' : w σ r = some (a, .inr (4, fV (G f) c)) := by rw [hr, fC, h]; rfl
    exact J_get r 8 hr' rfl in_X5 (by decide) q819 rfl d kk
  · have hr' : w σ r = some (a, .inr (5, fV (G f) c)) := by rw [hr, fC, h]; rfl
    exact J_get r 8 hr' rfl in_X6 (by decide) q819 rfl d kk
theorem FG_turned (G : Nat → Nat → Int) (f : Nat) {r a : Nat} {c : Nat → Int} (hr : w σ r = some (a, fC (G f) c)) (hk : 0 ≤ G f 0 ∧ G f 0 ≤ 3) (d : decode cc pc = .ok (.getfield 56, 3)) (kk : J E w (cX E, o) cc mL ret RX3 R k n (pc + 3) L (.int (zI (c 3)) :: st) σ Q) : J E w (cX E, o) cc mL ret RX3 R k n (pc) L (.ref a :: st) σ Q := by
  obtain h | h | h | h : G f 0 = 0 ∨ G f 0 = 1 ∨ G f 0 = 2 ∨ G f 0 = 3 := by omega
  · have hr' : w σ r = some (a, .inr (2, fV (G f) c)) := by rw [hr, fC, h]; rfl
    exact J_get r 9 hr' rfl in_X3 (by decide) q821 rfl d kk
  · have hr' : w σ r = some (a, .inr (3, fV (G f) c)) := by rw [hr, fC, h]; rfl
    exact J_get r 9 hr' rfl in_X4 (by decide) q821 rfl d kk
  · have hr' : w σ r = some (a, .inr (4, fV (G f) c)) := by rw [hr, fC, h]; rfl
    exact J_get r 9 hr' rfl in_X5 (by decide) q821 rfl d kk
  · have hr' : w σ r = some (a, .inr (5, fV (G f) c)) := by rw [hr, fC, h]; rfl
    exact J_get r 9 hr' rfl in_X6 (by decide) q821 rfl d kk
theorem FNX0_w (G : Nat → Nat → Int) (f : Nat) {r a : Nat} {c : Nat → Int} (hr : w σ r = some (a, fC (G f) c)) (hk : 0 ≤ G f 0 ∧ G f 0 ≤ 3) (d : decode cc pc = .ok (.getfield 473, 3)) (kk : J E w (cX E, o) cc mL ret RX0 R k n (pc + 3) L (.int (zI (G f 1)) :: st) σ Q) : J E w (cX E, o) cc mL ret RX0 R k n (pc) L (.ref a :: st) σ Q := by
  obtain h | h | h | h : G f 0 = 0 ∨ G f 0 = 1 ∨ G f 0 = 2 ∨ G f 0 = 3 := by omega
  · have hr' : w σ r = some (a, .inr (2, fV (G f) c)) := by rw [hr, fC, h]; rfl
    exact J_getN r 0 hr' rfl in_X3 (by decide) (fun A s h => h.1 _ q806 rfl) rfl d kk
  · have hr' : w σ r = some (a, .inr (3, fV (G f) c)) := by rw [hr, fC, h]; rfl
    exact J_getN r 0 hr' rfl in_X4 (by decide) (fun A s h => h.1 _ q806 rfl) rfl d kk
  · have hr' : w σ r = some (a, .inr (4, fV (G f) c)) := by rw [hr, fC, h]; rfl
    exact J_getN r 0 hr' rfl in_X5 (by decide) (fun A s h => h.1 _ q806 rfl) rfl d kk
  · have hr' : w σ r = some (a, .inr (5, fV (G f) c)) := by rw [hr, fC, h]; rfl
    exact J_getN r 0 hr' rfl in_X6 (by decide) (fun A s h => h.1 _ q806 rfl) rfl d kk
theorem FNX0_h (G : Nat → Nat → Int) (f : Nat) {r a : Nat} {c : Nat → Int} (hr : w σ r = some (a, fC (G f) c)) (hk : 0 ≤ G f 0 ∧ G f 0 ≤ 3) (d : decode cc pc = .ok (.getfield 476, 3)) (kk : J E w (cX E, o) cc mL ret RX0 R k n (pc + 3) L (.int (zI (G f 2)) :: st) σ Q) : J E w (cX E, o) cc mL ret RX0 R k n (pc) L (.ref a :: st) σ Q := by
  obtain h | h | h | h : G f 0 = 0 ∨ G f 0 = 1 ∨ G f 0 = 2 ∨ G f 0 = 3 := by omega
  · have hr' : w σ r = some (a, .inr (2, fV (G f) c)) := by rw [hr, fC, h]; rfl
    exact J_getN r 1 hr' rfl in_X3 (by decide) (fun A s h => h.1 _ q808 rfl) rfl d kk
  · have hr' : w σ r = some (a, .inr (3, fV (G f) c)) := by rw [hr, fC, h]; rfl
    exact J_getN r 1 hr' rfl in_X4 (by decide) (fun A s h => h.1 _ q808 rfl) rfl d kk
  · have hr' : w σ r = some (a, .inr (4, fV (G f) c)) := by rw [hr, fC, h]; rfl
    exact J_getN r 1 hr' rfl in_X5 (by decide) (fun A s h => h.1 _ q808 rfl) rfl d kk
  · have hr' : w σ r = some (a, .inr (5, fV (G f) c)) := by rw [hr, fC, h]; rfl
    exact J_getN r 1 hr' rfl in_X6 (by decide) (fun A s h => h.1 _ q808 rfl) rfl d kk
theorem FNX0_page (G : Nat → Nat → Int) (f : Nat) {r a : Nat} {c : Nat → Int} (hr : w σ r = some (a, fC (G f) c)) (hk : 0 ≤ G f 0 ∧ G f 0 ≤ 3) (d : decode cc pc = .ok (.getfield 287, 3)) (kk : J E w (cX E, o) cc mL ret RX0 R k n (pc + 3) L (.int (zI (c 0)) :: st) σ Q) : J E w (cX E, o) cc mL ret RX0 R k n (pc) L (.ref a :: st) σ Q := by
  obtain h | h | h | h : G f 0 = 0 ∨ G f 0 = 1 ∨ G f 0 = 2 ∨ G f 0 = 3 := by omega
  · have hr' : w σ r = some (a, .inr (2, fV (G f) c)) := by rw [hr, fC, h]; rfl
    exact J_getN r 6 hr' rfl in_X3 (by decide) (fun A s h => h.1 _ q816 rfl) rfl d kk
  · have hr' : w σ r = some (a, .inr (3, fV (G f) c)) := by rw [hr, fC, h]; rfl
    exact J_getN r 6 hr' rfl in_X4 (by decide) (fun A s h => h.1 _ q816 rfl) rfl d kk
  · have hr' : w σ r = some (a, .inr (4, fV (G f) c)) := by rw [hr, fC, h]; rfl
    exact J_getN r 6 hr' rfl in_X5 (by decide) (fun A s h => h.1 _ q816 rfl) rfl d kk
  · have hr' : w σ r = some (a, .inr (5, fV (G f) c)) := by rw [hr, fC, h]; rfl
    exact J_getN r 6 hr' rfl in_X6 (by decide) (fun A s h => h.1 _ q816 rfl) rfl d kk
theorem FP_page {σ' : St} (G : Nat → Nat → Int) (f : Nat) {r a : Nat} {c : Nat → Int} {z : Int} (hr : w σ r = some (a, fC (G f) c)) (hk : 0 ≤ G f 0 ∧ G f 0 ≤ 3) (hσ : w σ' = j_up (w σ) r (some (a, fC (G f) (upI c 0 z)))) (d : decode cc pc = .ok (.putfield 287, 3)) (kk : J E w (cX E, o) cc mL ret RX0 R k n (pc + 3) L (st) σ' Q) : J E w (cX E, o) cc mL ret RX0 R k n (pc) L (.int (zI z) :: .ref a :: st) σ Q := by
  obtain h | h | h | h : G f 0 = 0 ∨ G f 0 = 1 ∨ G f 0 = 2 ∨ G f 0 = 3 := by omega
  · have hr' : w σ r = some (a, .inr (2, fV (G f) c)) := by rw [hr, fC, h]; rfl
    exact J_putN r 6 hr' rfl in_X3 tyX3_ok nmX3 (by decide) (fun A s h => h.1 _ q816 rfl) rfl rfl rfl rfl (by rw [hσ, fC, h, fV_up 0]; rfl) d kk
  · have hr' : w σ r = some (a, .inr (3, fV (G f) c)) := by rw [hr, fC, h]; rfl
    exact J_putN r 6 hr' rfl in_X4 tyX4_ok nmX4 (by decide) (fun A s h => h.1 _ q816 rfl) rfl rfl rfl rfl (by rw [hσ, fC, h, fV_up 0]; rfl) d kk
  · have hr' : w σ r = some (a, .inr (4, fV (G f) c)) := by rw [hr, fC, h]; rfl
    exact J_putN r 6 hr' rfl in_X5 tyX5_ok nmX5 (by decide) (fun A s h => h.1 _ q816 rfl) rfl rfl rfl rfl (by rw [hσ, fC, h, fV_up 0]; rfl) d kk
  · have hr' : w σ r = some (a, .inr (5, fV (G f) c)) := by rw [hr, fC, h]; rfl
    exact J_putN r 6 hr' rfl in_X6 tyX6_ok nmX6 (by decide) (fun A s h => h.1 _ q816 rfl) rfl rfl rfl rfl (by rw [hσ, fC, h, fV_up 0]; rfl) d kk
theorem FNX0_x (G : Nat → Nat → Int) (f : Nat) {r a : Nat} {c : Nat → Int} (hr : w σ r = some (a, fC (G f) c)) (hk : 0 ≤ G f 0 ∧ G f 0 ≤ 3) (d : decode cc pc = .ok (.getfield 322, 3)) (kk : J E w (cX E, o) cc mL ret RX0 R k n (pc + 3) L (.int (zI (c 1)) :: st) σ Q) : J E w (cX E, o) cc mL ret RX0 R k n (pc) L (.ref a :: st) σ Q := by
  obtain h | h | h | h : G f 0 = 0 ∨ G f 0 = 1 ∨ G f 0 = 2 ∨ G f 0 = 3 := by omega
  · have hr' : w σ r = some (a, .inr (2, fV (G f) c)) := by rw [hr, fC, h]; rfl
    exact J_getN r 7 hr' rfl in_X3 (by decide) (fun A s h => h.1 _ q818 rfl) rfl d kk
  · have hr' : w σ r = some (a, .inr (3, fV (G f) c)) := by rw [hr, fC, h]; rfl
    exact J_getN r 7 hr' rfl in_X4 (by decide) (fun A s h => h.1 _ q818 rfl) rfl d kk
  · have hr' : w σ r = some (a, .inr (4, fV (G f) c)) := by rw [hr, fC, h]; rfl
    exact J_getN r 7 hr' rfl in_X5 (by decide) (fun A s h => h.1 _ q818 rfl) rfl d kk
  · have hr' : w σ r = some (a, .inr (5, fV (G f) c)) := by rw [hr, fC, h]; rfl
    exact J_getN r 7 hr' rfl in_X6 (by decide) (fun A s h => h.1 _ q818 rfl) rfl d kk
theorem FP_x {σ' : St} (G : Nat → Nat → Int) (f : Nat) {r a : Nat} {c : Nat → Int} {z : Int} (hr : w σ r = some (a, fC (G f) c)) (hk : 0 ≤ G f 0 ∧ G f 0 ≤ 3) (hσ : w σ' = j_up (w σ) r (some (a, fC (G f) (upI c 1 z)))) (d : decode cc pc = .ok (.putfield 322, 3)) (kk : J E w (cX E, o) cc mL ret RX0 R k n (pc + 3) L (st) σ' Q) : J E w (cX E, o) cc mL ret RX0 R k n (pc) L (.int (zI z) :: .ref a :: st) σ Q := by
  obtain h | h | h | h : G f 0 = 0 ∨ G f 0 = 1 ∨ G f 0 = 2 ∨ G f 0 = 3 := by omega
  · have hr' : w σ r = some (a, .inr (2, fV (G f) c)) := by rw [hr, fC, h]; rfl
    exact J_putN r 7 hr' rfl in_X3 tyX3_ok nmX3 (by decide) (fun A s h => h.1 _ q818 rfl) rfl rfl rfl rfl (by rw [hσ, fC, h, fV_up 1]; rfl) d kk
  · have hr' : w σ r = some (a, .inr (3, fV (G f) c)) := by rw [hr, fC, h]; rfl
    exact J_putN r 7 hr' rfl in_X4 tyX4_ok nmX4 (by decide) (fun A s h => h.1 _ q818 rfl) rfl rfl rfl rfl (by rw [hσ, fC, h, fV_up 1]; rfl) d kk
  · have hr' : w σ r = some (a, .inr (4, fV (G f) c)) := by rw [hr, fC, h]; rfl
    exact J_putN r 7 hr' rfl in_X5 tyX5_ok nmX5 (by decide) (fun A s h => h.1 _ q818 rfl) rfl rfl rfl rfl (by rw [hσ, fC, h, fV_up 1]; rfl) d kk
  · have hr' : w σ r = some (a, .inr (5, fV (G f) c)) := by rw [hr, fC, h]; rfl
    exact J_putN r 7 hr' rfl in_X6 tyX6_ok nmX6 (by decide) (fun A s h => h.1 _ q818 rfl) rfl rfl rfl rfl (by rw [hσ, fC, h, fV_up 1]; rfl) d kk
theorem FNX0_y (G : Nat → Nat → Int) (f : Nat) {r a : Nat} {c : Nat → Int} (hr : w σ r = some (a, fC (G f) c)) (hk : 0 ≤ G f 0 ∧ G f 0 ≤ 3) (d : decode cc pc = .ok (.getfield 333, 3)) (kk : J E w (cX E, o) cc mL ret RX0 R k n (pc + 3) L (.int (zI (c 2)) :: st) σ Q) : J E w (cX E, o) cc mL ret RX0 R k n (pc) L (.ref a :: st) σ Q := by
  obtain h | h | h | h : G f 0 = 0 ∨ G f 0 = 1 ∨ G f 0 = 2 ∨ G f 0 = 3 := by omega
  · have hr' : w σ r = some (a, .inr (2, fV (G f) c)) := by rw [hr, fC, h]; rfl
    exact J_getN r 8 hr' rfl in_X3 (by decide) (fun A s h => h.1 _ q820 rfl) rfl d kk
  · have hr' : w σ r = some (a, .inr (3, fV (G f) c)) := by rw [hr, fC, h]; rfl
    exact J_getN r 8 hr' rfl in_X4 (by decide) (fun A s h => h.1 _ q820 rfl) rfl d kk
  · have hr' : w σ r = some (a, .inr (4, fV (G f) c)) := by rw [hr, fC, h]; rfl
    exact J_getN r 8 hr' rfl in_X5 (by decide) (fun A s h => h.1 _ q820 rfl) rfl d kk
  · have hr' : w σ r = some (a, .inr (5, fV (G f) c)) := by rw [hr, fC, h]; rfl
    exact J_getN r 8 hr' rfl in_X6 (by decide) (fun A s h => h.1 _ q820 rfl) rfl d kk
theorem FP_y {σ' : St} (G : Nat → Nat → Int) (f : Nat) {r a : Nat} {c : Nat → Int} {z : Int} (hr : w σ r = some (a, fC (G f) c)) (hk : 0 ≤ G f 0 ∧ G f 0 ≤ 3) (hσ : w σ' = j_up (w σ) r (some (a, fC (G f) (upI c 2 z)))) (d : decode cc pc = .ok (.putfield 333, 3)) (kk : J E w (cX E, o) cc mL ret RX0 R k n (pc + 3) L (st) σ' Q) : J E w (cX E, o) cc mL ret RX0 R k n (pc) L (.int (zI z) :: .ref a :: st) σ Q := by
  obtain h | h | h | h : G f 0 = 0 ∨ G f 0 = 1 ∨ G f 0 = 2 ∨ G f 0 = 3 := by omega
  · have hr' : w σ r = some (a, .inr (2, fV (G f) c)) := by rw [hr, fC, h]; rfl
    exact J_putN r 8 hr' rfl in_X3 tyX3_ok nmX3 (by decide) (fun A s h => h.1 _ q820 rfl) rfl rfl rfl rfl (by rw [hσ, fC, h, fV_up 2]; rfl) d kk
  · have hr' : w σ r = some (a, .inr (3, fV (G f) c)) := by rw [hr, fC, h]; rfl
    exact J_putN r 8 hr' rfl in_X4 tyX4_ok nmX4 (by decide) (fun A s h => h.1 _ q820 rfl) rfl rfl rfl rfl (by rw [hσ, fC, h, fV_up 2]; rfl) d kk
  · have hr' : w σ r = some (a, .inr (4, fV (G f) c)) := by rw [hr, fC, h]; rfl
    exact J_putN r 8 hr' rfl in_X5 tyX5_ok nmX5 (by decide) (fun A s h => h.1 _ q820 rfl) rfl rfl rfl rfl (by rw [hσ, fC, h, fV_up 2]; rfl) d kk
  · have hr' : w σ r = some (a, .inr (5, fV (G f) c)) := by rw [hr, fC, h]; rfl
    exact J_putN r 8 hr' rfl in_X6 tyX6_ok nmX6 (by decide) (fun A s h => h.1 _ q820 rfl) rfl rfl rfl rfl (by rw [hσ, fC, h, fV_up 2]; rfl) d kk
theorem FNX0_turned (G : Nat → Nat → Int) (f : Nat) {r a : Nat} {c : Nat → Int} (hr : w σ r = some (a, fC (G f) c)) (hk : 0 ≤ G f 0 ∧ G f 0 ≤ 3) (d : decode cc pc = .ok (.getfield 325, 3)) (kk : J E w (cX E, o) cc mL ret RX0 R k n (pc + 3) L (.int (zI (c 3)) :: st) σ Q) : J E w (cX E, o) cc mL ret RX0 R k n (pc) L (.ref a :: st) σ Q := by
  obtain h | h | h | h : G f 0 = 0 ∨ G f 0 = 1 ∨ G f 0 = 2 ∨ G f 0 = 3 := by omega
  · have hr' : w σ r = some (a, .inr (2, fV (G f) c)) := by rw [hr, fC, h]; rfl
    exact J_getN r 9 hr' rfl in_X3 (by decide) (fun A s h => h.1 _ q822 rfl) rfl d kk
  · have hr' : w σ r = some (a, .inr (3, fV (G f) c)) := by rw [hr, fC, h]; rfl
    exact J_getN r 9 hr' rfl in_X4 (by decide) (fun A s h => h.1 _ q822 rfl) rfl d kk
  · have hr' : w σ r = some (a, .inr (4, fV (G f) c)) := by rw [hr, fC, h]; rfl
    exact J_getN r 9 hr' rfl in_X5 (by decide) (fun A s h => h.1 _ q822 rfl) rfl d kk
  · have hr' : w σ r = some (a, .inr (5, fV (G f) c)) := by rw [hr, fC, h]; rfl
    exact J_getN r 9 hr' rfl in_X6 (by decide) (fun A s h => h.1 _ q822 rfl) rfl d kk
theorem FP_turned {σ' : St} (G : Nat → Nat → Int) (f : Nat) {r a : Nat} {c : Nat → Int} {z : Int} (hz : z = 0 ∨ z = 1) (hr : w σ r = some (a, fC (G f) c)) (hk : 0 ≤ G f 0 ∧ G f 0 ≤ 3) (hσ : w σ' = j_up (w σ) r (some (a, fC (G f) (upI c 3 z)))) (d : decode cc pc = .ok (.putfield 325, 3)) (kk : J E w (cX E, o) cc mL ret RX0 R k n (pc + 3) L (st) σ' Q) : J E w (cX E, o) cc mL ret RX0 R k n (pc) L (.int (zI z) :: .ref a :: st) σ Q := by
  obtain h | h | h | h : G f 0 = 0 ∨ G f 0 = 1 ∨ G f 0 = 2 ∨ G f 0 = 3 := by omega
  · have hr' : w σ r = some (a, .inr (2, fV (G f) c)) := by rw [hr, fC, h]; rfl
    exact J_putN r 9 hr' rfl in_X3 tyX3_ok nmX3 (by decide) (fun A s h => h.1 _ q822 rfl) rfl rfl (by rcases hz with rfl | rfl <;> rfl) (by rcases hz with rfl | rfl <;> rfl) (by rw [hσ, fC, h, fV_up 3]; rfl) d kk
  · have hr' : w σ r = some (a, .inr (3, fV (G f) c)) := by rw [hr, fC, h]; rfl
    exact J_putN r 9 hr' rfl in_X4 tyX4_ok nmX4 (by decide) (fun A s h => h.1 _ q822 rfl) rfl rfl (by rcases hz with rfl | rfl <;> rfl) (by rcases hz with rfl | rfl <;> rfl) (by rw [hσ, fC, h, fV_up 3]; rfl) d kk
  · have hr' : w σ r = some (a, .inr (4, fV (G f) c)) := by rw [hr, fC, h]; rfl
    exact J_putN r 9 hr' rfl in_X5 tyX5_ok nmX5 (by decide) (fun A s h => h.1 _ q822 rfl) rfl rfl (by rcases hz with rfl | rfl <;> rfl) (by rcases hz with rfl | rfl <;> rfl) (by rw [hσ, fC, h, fV_up 3]; rfl) d kk
  · have hr' : w σ r = some (a, .inr (5, fV (G f) c)) := by rw [hr, fC, h]; rfl
    exact J_putN r 9 hr' rfl in_X6 tyX6_ok nmX6 (by decide) (fun A s h => h.1 _ q822 rfl) rfl rfl (by rcases hz with rfl | rfl <;> rfl) (by rcases hz with rfl | rfl <;> rfl) (by rw [hσ, fC, h, fV_up 3]; rfl) d kk
theorem FNX6_right (G : Nat → Nat → Int) (f : Nat) {r a : Nat} {c : Nat → Int} (hr : w σ r = some (a, fC (G f) c)) (hk : 0 ≤ G f 0 ∧ G f 0 ≤ 3) (d : decode cc pc = .ok (.getfield 22, 3)) (kk : J E w (cX E, o) cc mL ret RX6 R k n (pc + 3) L (.int (zI (G f 5)) :: st) σ Q) : J E w (cX E, o) cc mL ret RX6 R k n (pc) L (.ref a :: st) σ Q := by
  obtain h | h | h | h : G f 0 = 0 ∨ G f 0 = 1 ∨ G f 0 = 2 ∨ G f 0 = 3 := by omega
  · have hr' : w σ r = some (a, .inr (2, fV (G f) c)) := by rw [hr, fC, h]; rfl
    exact J_getN r 4 hr' rfl in_X3 (by decide) (fun A s h => h.1 _ q812 rfl) rfl d kk
  · have hr' : w σ r = some (a, .inr (3, fV (G f) c)) := by rw [hr, fC, h]; rfl
    exact J_getN r 4 hr' rfl in_X4 (by decide) (fun A s h => h.1 _ q812 rfl) rfl d kk
  · have hr' : w σ r = some (a, .inr (4, fV (G f) c)) := by rw [hr, fC, h]; rfl
    exact J_getN r 4 hr' rfl in_X5 (by decide) (fun A s h => h.1 _ q812 rfl) rfl d kk
  · have hr' : w σ r = some (a, .inr (5, fV (G f) c)) := by rw [hr, fC, h]; rfl
    exact J_getN r 4 hr' rfl in_X6 (by decide) (fun A s h => h.1 _ q812 rfl) rfl d kk
theorem FNX6_below (G : Nat → Nat → Int) (f : Nat) {r a : Nat} {c : Nat → Int} (hr : w σ r = some (a, fC (G f) c)) (hk : 0 ≤ G f 0 ∧ G f 0 ≤ 3) (d : decode cc pc = .ok (.getfield 34, 3)) (kk : J E w (cX E, o) cc mL ret RX6 R k n (pc + 3) L (.int (zI (G f 6)) :: st) σ Q) : J E w (cX E, o) cc mL ret RX6 R k n (pc) L (.ref a :: st) σ Q := by
  obtain h | h | h | h : G f 0 = 0 ∨ G f 0 = 1 ∨ G f 0 = 2 ∨ G f 0 = 3 := by omega
  · have hr' : w σ r = some (a, .inr (2, fV (G f) c)) := by rw [hr, fC, h]; rfl
    exact J_getN r 5 hr' rfl in_X3 (by decide) (fun A s h => h.1 _ q814 rfl) rfl d kk
  · have hr' : w σ r = some (a, .inr (3, fV (G f) c)) := by rw [hr, fC, h]; rfl
    exact J_getN r 5 hr' rfl in_X4 (by decide) (fun A s h => h.1 _ q814 rfl) rfl d kk
  · have hr' : w σ r = some (a, .inr (4, fV (G f) c)) := by rw [hr, fC, h]; rfl
    exact J_getN r 5 hr' rfl in_X5 (by decide) (fun A s h => h.1 _ q814 rfl) rfl d kk
  · have hr' : w σ r = some (a, .inr (5, fV (G f) c)) := by rw [hr, fC, h]; rfl
    exact J_getN r 5 hr' rfl in_X6 (by decide) (fun A s h => h.1 _ q814 rfl) rfl d kk
end FG
theorem fX3_kind {E : jEnv} {St : Type} {w : St → jW} {σ : St} {Q : Option Value → St → Prop} (G : Nat → Nat → Int) (f : Nat) {r a : Nat} {c : Nat → Int}  (hr : w σ r = some (a, fC (G f) c)) (hk : 0 ≤ G f 0 ∧ G f 0 ≤ 3) (hq : Q (some (.int (zI (0)))) σ) : J E w (cX E, none) cX3_kind 1 (some .int) RX3 (jR 1 0 0) 0 0 0 [some (.ref a)] [] σ Q := by
  refine J_iconst (zI 0) dX3_kind_0 rfl ?_
  exact J_iret rfl dX3_kind_1 (by exact hq)
theorem fX4_kind {E : jEnv} {St : Type} {w : St → jW} {σ : St} {Q : Option Value → St → Prop} (G : Nat → Nat → Int) (f : Nat) {r a : Nat} {c : Nat → Int}  (hr : w σ r = some (a, fC (G f) c)) (hk : 0 ≤ G f 0 ∧ G f 0 ≤ 3) (hq : Q (some (.int (zI (1)))) σ) : J E w (cX E, none) cX4_kind 1 (some .int) RX4 (jR 1 0 0) 0 0 0 [some (.ref a)] [] σ Q := by
  refine J_iconst (zI 1) dX4_kind_0 rfl ?_
  exact J_iret rfl dX4_kind_1 (by exact hq)
theorem fX5_kind {E : jEnv} {St : Type} {w : St → jW} {σ : St} {Q : Option Value → St → Prop} (G : Nat → Nat → Int) (f : Nat) {r a : Nat} {c : Nat → Int}  (hr : w σ r = some (a, fC (G f) c)) (hk : 0 ≤ G f 0 ∧ G f 0 ≤ 3) (hq : Q (some (.int (zI (2)))) σ) : J E w (cX E, none) cX5_kind 1 (some .int) RX5 (jR 1 0 0) 0 0 0 [some (.ref a)] [] σ Q := by
  refine J_iconst (zI 2) dX5_kind_0 rfl ?_
  exact J_iret rfl dX5_kind_1 (by exact hq)
theorem fX6_kind {E : jEnv} {St : Type} {w : St → jW} {σ : St} {Q : Option Value → St → Prop} (G : Nat → Nat → Int) (f : Nat) {r a : Nat} {c : Nat → Int}  (hr : w σ r = some (a, fC (G f) c)) (hk : 0 ≤ G f 0 ∧ G f 0 ≤ 3) (hq : Q (some (.int (zI (3)))) σ) : J E w (cX E, none) cX6_kind 1 (some .int) RX6 (jR 1 0 0) 0 0 0 [some (.ref a)] [] σ Q := by
  refine J_iconst (zI 3) dX6_kind_0 rfl ?_
  exact J_iret rfl dX6_kind_1 (by exact hq)
section V
variable {E : jEnv} {St : Type} {w : St → jW} {o : Option MethodName} {cc : ByteArray} {mL : Nat} {ret : Option FieldType} {own : String} {R : Room} {k n pc : Nat} {L : List (Option Value)} {st : List Value} {σ : St} {Q : Option Value → St → Prop}
theorem VX3_kind (G : Nat → Nat → Int) (f : Nat) {r a index : Nat} {c : Nat → Int}  (hr : w σ r = some (a, fC (G f) c)) (hk : 0 ≤ G f 0 ∧ G f 0 ≤ 3)  (q1 : Cond.methodLink own index (⟨RX3, "kind", "()I"⟩ : MethodName) ∈ lw_all) (hR : 1 + 1 ≤ R.frames ∧ 96 ≤ R.locals) (hcs : k ≤ R.cells ∧ n ≤ R.slots) (hst : (st.map fun v => v.category).sum ≤ 8) (d : decode cc pc = .ok (.invokevirtual index, 3)) (kk : J E w (cX E, o) cc mL ret own R k n (pc + 3) L (.int (zI (G f 0)) :: st) σ Q) : J E w (cX E, o) cc mL ret own R k n (pc) L (.ref a :: st) σ Q := by
  obtain h | h | h | h : G f 0 = 0 ∨ G f 0 = 1 ∨ G f 0 = 2 ∨ G f 0 = 3 := by omega
  · have hr' : w σ r = some (a, .inr (2, fV (G f) c)) := by rw [hr, fC, h]; rfl
    exact J_eU (y := yX3_kind) (R' := (jR 1 0 0)) (owner := RX3) [] 0 r hr' rfl q1 q1070 q1069 q1068 q126 q1080 rfl (by decide +kernel) cX_1 (show 1 + 1 ≤ R.frames ∧ 8 + (1 + 11) + 48 * 1 ≤ R.locals by omega) (show k + 0 ≤ R.cells ∧ n + 0 ≤ R.slots by omega) rfl hst d (JE.of (X' := (cX E, none)) (by decide +kernel) (Nat.le_of_ble_eq_true rfl) (fun _ z => by cases z) (fX3_kind G f hr hk (J_ri (J_top _ (congrArg zI h.symm) kk))))
  · have hr' : w σ r = some (a, .inr (3, fV (G f) c)) := by rw [hr, fC, h]; rfl
    exact J_eO (y := yX4_kind) (R' := (jR 1 0 0)) (owner := RX3) [] 0 r hr' rfl q1 q1070 q1068 q1080 q1074 q1075 q127 q1076 (by decide +kernel) cX_1 (show 1 + 1 ≤ R.frames ∧ 8 + (1 + 11) + 48 * 1 ≤ R.locals by omega) (show k + 0 ≤ R.cells ∧ n + 0 ≤ R.slots by omega) rfl hst d (JE.of (X' := (cX E, none)) (by decide +kernel) (Nat.le_of_ble_eq_true rfl) (fun _ z => by cases z) (fX4_kind G f hr hk (J_ri (J_top _ (congrArg zI h.symm) kk))))
  · have hr' : w σ r = some (a, .inr (4, fV (G f) c)) := by rw [hr, fC, h]; rfl
    exact J_eO (y := yX5_kind) (R' := (jR 1 0 0)) (owner := RX3) [] 0 r hr' rfl q1 q1070 q1068 q1080 q1071 q1072 q128 q1073 (by decide +kernel) cX_1 (show 1 + 1 ≤ R.frames ∧ 8 + (1 + 11) + 48 * 1 ≤ R.locals by omega) (show k + 0 ≤ R.cells ∧ n + 0 ≤ R.slots by omega) rfl hst d (JE.of (X' := (cX E, none)) (by decide +kernel) (Nat.le_of_ble_eq_true rfl) (fun _ z => by cases z) (fX5_kind G f hr hk (J_ri (J_top _ (congrArg zI h.symm) kk))))
  · have hr' : w σ r = some (a, .inr (5, fV (G f) c)) := by rw [hr, fC, h]; rfl
    exact J_eO (y := yX6_kind) (R' := (jR 1 0 0)) (owner := RX3) [] 0 r hr' rfl q1 q1070 q1068 q1080 q1077 q1078 q129 q1079 (by decide +kernel) cX_1 (show 1 + 1 ≤ R.frames ∧ 8 + (1 + 11) + 48 * 1 ≤ R.locals by omega) (show k + 0 ≤ R.cells ∧ n + 0 ≤ R.slots by omega) rfl hst d (JE.of (X' := (cX E, none)) (by decide +kernel) (Nat.le_of_ble_eq_true rfl) (fun _ z => by cases z) (fX6_kind G f hr hk (J_ri (J_top _ (congrArg zI h.symm) kk))))
end V
theorem fX3_wide {E : jEnv} {St : Type} {w : St → jW} {σ : St} {Q : Option Value → St → Prop} (G : Nat → Nat → Int) (f : Nat) {r a : Nat} {c : Nat → Int}  (hr : w σ r = some (a, fC (G f) c)) (hk : 0 ≤ G f 0 ∧ G f 0 ≤ 3) (hq : Q (some (.int (zI (G f 1 - G f 3 - G f 5)))) σ) : J E w (cX E, none) cX3_wide 1 (some .int) RX3 (jR 1 0 0) 0 0 0 [some (.ref a)] [] σ Q := by
  refine J_aload_n dX3_wide_0 rfl ?_
  refine FG_w G f hr hk dX3_wide_1 ?_
  refine J_aload_n dX3_wide_4 rfl ?_
  refine FG_left G f hr hk dX3_wide_5 ?_
  refine J_isub_z dX3_wide_8 ?_
  refine J_aload_n dX3_wide_9 rfl ?_
  refine FG_right G f hr hk dX3_wide_10 ?_
  refine J_isub_z dX3_wide_13 ?_
  exact J_iret rfl dX3_wide_14 (by exact hq)
theorem fX3_high {E : jEnv} {St : Type} {w : St → jW} {σ : St} {Q : Option Value → St → Prop} (G : Nat → Nat → Int) (f : Nat) {r a : Nat} {c : Nat → Int}  (hr : w σ r = some (a, fC (G f) c)) (hk : 0 ≤ G f 0 ∧ G f 0 ≤ 3) (hq : Q (some (.int (zI (G f 2 - G f 4 - G f 6)))) σ) : J E w (cX E, none) cX3_high 1 (some .int) RX3 (jR 1 0 0) 0 0 0 [some (.ref a)] [] σ Q := by
  refine J_aload_n dX3_high_0 rfl ?_
  refine FG_h G f hr hk dX3_high_1 ?_
  refine J_aload_n dX3_high_4 rfl ?_
  refine FG_above G f hr hk dX3_high_5 ?_
  refine J_isub_z dX3_high_8 ?_
  refine J_aload_n dX3_high_9 rfl ?_
  refine FG_below G f hr hk dX3_high_10 ?_
  refine J_isub_z dX3_high_13 ?_
  exact J_iret rfl dX3_high_14 (by exact hq)
theorem fX3_firstColumn {E : jEnv} {St : Type} {w : St → jW} {σ : St} {Q : Option Value → St → Prop} (G : Nat → Nat → Int) (f : Nat) {r a : Nat} {c : Nat → Int}  (hr : w σ r = some (a, fC (G f) c)) (hk : 0 ≤ G f 0 ∧ G f 0 ≤ 3) (hq : Q (some (.int (zI (G f 3)))) σ) : J E w (cX E, none) cX3_firstColumn 1 (some .int) RX3 (jR 1 0 0) 0 0 0 [some (.ref a)] [] σ Q := by
  refine J_aload_n dX3_firstColumn_0 rfl ?_
  refine FG_left G f hr hk dX3_firstColumn_1 ?_
  exact J_iret rfl dX3_firstColumn_4 (by exact hq)
theorem fX3_firstRow {E : jEnv} {St : Type} {w : St → jW} {σ : St} {Q : Option Value → St → Prop} (G : Nat → Nat → Int) (f : Nat) {r a : Nat} {c : Nat → Int}  (hr : w σ r = some (a, fC (G f) c)) (hk : 0 ≤ G f 0 ∧ G f 0 ≤ 3) (hq : Q (some (.int (zI (G f 4)))) σ) : J E w (cX E, none) cX3_firstRow 1 (some .int) RX3 (jR 1 0 0) 0 0 0 [some (.ref a)] [] σ Q := by
  refine J_aload_n dX3_firstRow_0 rfl ?_
  refine FG_above G f hr hk dX3_firstRow_1 ?_
  exact J_iret rfl dX3_firstRow_4 (by exact hq)
section V
variable {E : jEnv} {St : Type} {w : St → jW} {o : Option MethodName} {cc : ByteArray} {mL : Nat} {ret : Option FieldType} {own : String} {R : Room} {k n pc : Nat} {L : List (Option Value)} {st : List Value} {σ : St} {Q : Option Value → St → Prop}
theorem SX6_wide (G : Nat → Nat → Int) (f : Nat) {r a : Nat} {c : Nat → Int}  (hr : w σ r = some (a, fC (G f) c)) (hk : 0 ≤ G f 0 ∧ G f 0 ≤ 3) (hkd : G f 0 = 3) (hR : 1 + 1 ≤ R.frames ∧ 96 ≤ R.locals) (hcs : k ≤ R.cells ∧ n ≤ R.slots) (hst : (st.map fun v => v.category).sum ≤ 8) (d : decode cc pc = .ok (.invokespecial 15, 3)) (kk : J E w (cX E, o) cc mL ret RX6 R k n (pc + 3) L (.int (zI (G f 1 - G f 3 - G f 5)) :: st) σ Q) : J E w (cX E, o) cc mL ret RX6 R k n (pc) L (.ref a :: st) σ Q := by
  have hr' : w σ r = some (a, .inr (5, fV (G f) c)) := by rw [hr, fC, hkd]; rfl
  exact J_eSU (y := yX3_wide) (R' := (jR 1 0 0)) (owner := RX3) (x := ⟨RX4, "wide", "()I"⟩) [] 0 r hr' rfl q1090 q1091 q877 q1082 q126 q1098 rfl (Or.inr q843) (by decide +kernel) (by decide +kernel) cX_1 (show 1 + 1 ≤ R.frames ∧ 8 + (1 + 11) + 48 * 1 ≤ R.locals by omega) (show k + 0 ≤ R.cells ∧ n + 0 ≤ R.slots by omega) rfl hst d (JE.of (X' := (cX E, none)) (by decide +kernel) (Nat.le_of_ble_eq_true rfl) (fun _ z => by cases z) (fX3_wide G f hr hk (J_ri kk)))
end V
section V
variable {E : jEnv} {St : Type} {w : St → jW} {o : Option MethodName} {cc : ByteArray} {mL : Nat} {ret : Option FieldType} {own : String} {R : Room} {k n pc : Nat} {L : List (Option Value)} {st : List Value} {σ : St} {Q : Option Value → St → Prop}
theorem SX6_high (G : Nat → Nat → Int) (f : Nat) {r a : Nat} {c : Nat → Int}  (hr : w σ r = some (a, fC (G f) c)) (hk : 0 ≤ G f 0 ∧ G f 0 ≤ 3) (hkd : G f 0 = 3) (hR : 1 + 1 ≤ R.frames ∧ 96 ≤ R.locals) (hcs : k ≤ R.cells ∧ n ≤ R.slots) (hst : (st.map fun v => v.category).sum ≤ 8) (d : decode cc pc = .ok (.invokespecial 28, 3)) (kk : J E w (cX E, o) cc mL ret RX6 R k n (pc + 3) L (.int (zI (G f 2 - G f 4 - G f 6)) :: st) σ Q) : J E w (cX E, o) cc mL ret RX6 R k n (pc) L (.ref a :: st) σ Q := by
  have hr' : w σ r = some (a, .inr (5, fV (G f) c)) := by rw [hr, fC, hkd]; rfl
  exact J_eSU (y := yX3_high) (R' := (jR 1 0 0)) (owner := RX3) (x := ⟨RX4, "high", "()I"⟩) [] 0 r hr' rfl q1108 q1109 q877 q1100 q126 q1116 rfl (Or.inr q843) (by decide +kernel) (by decide +kernel) cX_1 (show 1 + 1 ≤ R.frames ∧ 8 + (1 + 11) + 48 * 1 ≤ R.locals by omega) (show k + 0 ≤ R.cells ∧ n + 0 ≤ R.slots by omega) rfl hst d (JE.of (X' := (cX E, none)) (by decide +kernel) (Nat.le_of_ble_eq_true rfl) (fun _ z => by cases z) (fX3_high G f hr hk (J_ri kk)))
end V
section V
variable {E : jEnv} {St : Type} {w : St → jW} {o : Option MethodName} {cc : ByteArray} {mL : Nat} {ret : Option FieldType} {own : String} {R : Room} {k n pc : Nat} {L : List (Option Value)} {st : List Value} {σ : St} {Q : Option Value → St → Prop}
theorem SX6_firstColumn (G : Nat → Nat → Int) (f : Nat) {r a : Nat} {c : Nat → Int}  (hr : w σ r = some (a, fC (G f) c)) (hk : 0 ≤ G f 0 ∧ G f 0 ≤ 3) (hkd : G f 0 = 3) (hR : 1 + 1 ≤ R.frames ∧ 96 ≤ R.locals) (hcs : k ≤ R.cells ∧ n ≤ R.slots) (hst : (st.map fun v => v.category).sum ≤ 8) (d : decode cc pc = .ok (.invokespecial 19, 3)) (kk : J E w (cX E, o) cc mL ret RX6 R k n (pc + 3) L (.int (zI (G f 3)) :: st) σ Q) : J E w (cX E, o) cc mL ret RX6 R k n (pc) L (.ref a :: st) σ Q := by
  have hr' : w σ r = some (a, .inr (5, fV (G f) c)) := by rw [hr, fC, hkd]; rfl
  exact J_eSU (y := yX3_firstColumn) (R' := (jR 1 0 0)) (owner := RX3) (x := ⟨RX4, "firstColumn", "()I"⟩) [] 0 r hr' rfl q1093 q1094 q877 q1096 q126 q1097 rfl (Or.inr q843) (by decide +kernel) (by decide +kernel) cX_1 (show 1 + 1 ≤ R.frames ∧ 8 + (1 + 11) + 48 * 1 ≤ R.locals by omega) (show k + 0 ≤ R.cells ∧ n + 0 ≤ R.slots by omega) rfl hst d (JE.of (X' := (cX E, none)) (by decide +kernel) (Nat.le_of_ble_eq_true rfl) (fun _ z => by cases z) (fX3_firstColumn G f hr hk (J_ri kk)))
end V
section V
variable {E : jEnv} {St : Type} {w : St → jW} {o : Option MethodName} {cc : ByteArray} {mL : Nat} {ret : Option FieldType} {own : String} {R : Room} {k n pc : Nat} {L : List (Option Value)} {st : List Value} {σ : St} {Q : Option Value → St → Prop}
theorem SX6_firstRow (G : Nat → Nat → Int) (f : Nat) {r a : Nat} {c : Nat → Int}  (hr : w σ r = some (a, fC (G f) c)) (hk : 0 ≤ G f 0 ∧ G f 0 ≤ 3) (hkd : G f 0 = 3) (hR : 1 + 1 ≤ R.frames ∧ 96 ≤ R.locals) (hcs : k ≤ R.cells ∧ n ≤ R.slots) (hst : (st.map fun v => v.category).sum ≤ 8) (d : decode cc pc = .ok (.invokespecial 31, 3)) (kk : J E w (cX E, o) cc mL ret RX6 R k n (pc + 3) L (.int (zI (G f 4)) :: st) σ Q) : J E w (cX E, o) cc mL ret RX6 R k n (pc) L (.ref a :: st) σ Q := by
  have hr' : w σ r = some (a, .inr (5, fV (G f) c)) := by rw [hr, fC, hkd]; rfl
  exact J_eSU (y := yX3_firstRow) (R' := (jR 1 0 0)) (owner := RX3) (x := ⟨RX4, "firstRow", "()I"⟩) [] 0 r hr' rfl q1111 q1112 q877 q1114 q126 q1115 rfl (Or.inr q843) (by decide +kernel) (by decide +kernel) cX_1 (show 1 + 1 ≤ R.frames ∧ 8 + (1 + 11) + 48 * 1 ≤ R.locals by omega) (show k + 0 ≤ R.cells ∧ n + 0 ≤ R.slots by omega) rfl hst d (JE.of (X' := (cX E, none)) (by decide +kernel) (Nat.le_of_ble_eq_true rfl) (fun _ z => by cases z) (fX3_firstRow G f hr hk (J_ri kk)))
end V
theorem fX6_firstColumn {E : jEnv} {St : Type} {w : St → jW} {σ : St} {Q : Option Value → St → Prop} (G : Nat → Nat → Int) (f : Nat) {r a : Nat} {c : Nat → Int}  (hr : w σ r = some (a, fC (G f) c)) (hk : 0 ≤ G f 0 ∧ G f 0 ≤ 3) (hq : Q (some (.int (zI (0)))) σ) : J E w (cX E, none) cX6_firstColumn 1 (some .int) RX6 (jR 1 0 0) 0 0 0 [some (.ref a)] [] σ Q := by
  refine J_iconst (zI 0) dX6_firstColumn_0 rfl ?_
  exact J_iret rfl dX6_firstColumn_1 (by exact hq)
theorem fX6_firstRow {E : jEnv} {St : Type} {w : St → jW} {σ : St} {Q : Option Value → St → Prop} (G : Nat → Nat → Int) (f : Nat) {r a : Nat} {c : Nat → Int}  (hr : w σ r = some (a, fC (G f) c)) (hk : 0 ≤ G f 0 ∧ G f 0 ≤ 3) (hq : Q (some (.int (zI (0)))) σ) : J E w (cX E, none) cX6_firstRow 1 (some .int) RX6 (jR 1 0 0) 0 0 0 [some (.ref a)] [] σ Q := by
  refine J_iconst (zI 0) dX6_firstRow_0 rfl ?_
  exact J_iret rfl dX6_firstRow_1 (by exact hq)
theorem fX6_wide {E : jEnv} {St : Type} {w : St → jW} {σ : St} {Q : Option Value → St → Prop} (G : Nat → Nat → Int) (f : Nat) {r a : Nat} {c : Nat → Int}  (hr : w σ r = some (a, fC (G f) c)) (hk : 0 ≤ G f 0 ∧ G f 0 ≤ 3) (hkd : G f 0 = 3) (hq : Q (some (.int (zI (G f 1)))) σ) : J E w (cX E, none) cX6_wide 1 (some .int) RX6 (jR 2 0 0) 0 0 0 [some (.ref a)] [] σ Q := by
  refine J_aload_n dX6_wide_0 rfl ?_
  refine SX6_wide G f hr hk hkd (by decide) (by exact ⟨Nat.le_refl _, Nat.le_refl _⟩) (Nat.le_of_ble_eq_true rfl) dX6_wide_1 ?_
  refine J_aload_n dX6_wide_4 rfl ?_
  refine SX6_firstColumn G f hr hk hkd (by decide) (by exact ⟨Nat.le_refl _, Nat.le_refl _⟩) (Nat.le_of_ble_eq_true rfl) dX6_wide_5 ?_
  refine J_iadd_z dX6_wide_8 ?_
  refine J_aload_n dX6_wide_9 rfl ?_
  refine FNX6_right G f hr hk dX6_wide_10 ?_
  refine J_iadd_z dX6_wide_13 ?_
  exact J_iret rfl dX6_wide_14 (by rw [show G f 1 - G f 3 - G f 5 + G f 3 + G f 5 = G f 1 by omega]; exact hq)
theorem fX6_high {E : jEnv} {St : Type} {w : St → jW} {σ : St} {Q : Option Value → St → Prop} (G : Nat → Nat → Int) (f : Nat) {r a : Nat} {c : Nat → Int}  (hr : w σ r = some (a, fC (G f) c)) (hk : 0 ≤ G f 0 ∧ G f 0 ≤ 3) (hkd : G f 0 = 3) (hq : Q (some (.int (zI (G f 2)))) σ) : J E w (cX E, none) cX6_high 1 (some .int) RX6 (jR 2 0 0) 0 0 0 [some (.ref a)] [] σ Q := by
  refine J_aload_n dX6_high_0 rfl ?_
  refine SX6_high G f hr hk hkd (by decide) (by exact ⟨Nat.le_refl _, Nat.le_refl _⟩) (Nat.le_of_ble_eq_true rfl) dX6_high_1 ?_
  refine J_aload_n dX6_high_4 rfl ?_
  refine SX6_firstRow G f hr hk hkd (by decide) (by exact ⟨Nat.le_refl _, Nat.le_refl _⟩) (Nat.le_of_ble_eq_true rfl) dX6_high_5 ?_
  refine J_iadd_z dX6_high_8 ?_
  refine J_aload_n dX6_high_9 rfl ?_
  refine FNX6_below G f hr hk dX6_high_10 ?_
  refine J_iadd_z dX6_high_13 ?_
  exact J_iret rfl dX6_high_14 (by rw [show G f 2 - G f 4 - G f 6 + G f 4 + G f 6 = G f 2 by omega]; exact hq)
section V
variable {E : jEnv} {St : Type} {w : St → jW} {o : Option MethodName} {cc : ByteArray} {mL : Nat} {ret : Option FieldType} {own : String} {R : Room} {k n pc : Nat} {L : List (Option Value)} {st : List Value} {σ : St} {Q : Option Value → St → Prop}
theorem VX3_wide (G : Nat → Nat → Int) (f : Nat) {r a index : Nat} {c : Nat → Int}  (hr : w σ r = some (a, fC (G f) c)) (hk : 0 ≤ G f 0 ∧ G f 0 ≤ 3)  (q1 : Cond.methodLink own index (⟨RX3, "wide", "()I"⟩ : MethodName) ∈ lw_all) (hR : 2 + 1 ≤ R.frames ∧ 144 ≤ R.locals) (hcs : k ≤ R.cells ∧ n ≤ R.slots) (hst : (st.map fun v => v.category).sum ≤ 8) (d : decode cc pc = .ok (.invokevirtual index, 3)) (kk : J E w (cX E, o) cc mL ret own R k n (pc + 3) L (.int (zI (mAc G f)) :: st) σ Q) : J E w (cX E, o) cc mL ret own R k n (pc) L (.ref a :: st) σ Q := by
  obtain h | h | h | h : G f 0 = 0 ∨ G f 0 = 1 ∨ G f 0 = 2 ∨ G f 0 = 3 := by omega
  · have hr' : w σ r = some (a, .inr (2, fV (G f) c)) := by rw [hr, fC, h]; rfl
    exact J_eU (y := yX3_wide) (R' := (jR 1 0 0)) (owner := RX3) [] 0 r hr' rfl q1 q1084 q1083 q1082 q126 q1098 rfl (by decide +kernel) cX_1 (show 1 + 1 ≤ R.frames ∧ 8 + (1 + 11) + 48 * 1 ≤ R.locals by omega) (show k + 0 ≤ R.cells ∧ n + 0 ≤ R.slots by omega) rfl hst d (JE.of (X' := (cX E, none)) (by decide +kernel) (Nat.le_of_ble_eq_true rfl) (fun _ z => by cases z) (fX3_wide G f hr hk (J_ri (J_top _ (congrArg zI (show G f 1 - G f 3 - G f 5 = mAc G f from (if_neg (by omega)).symm)) kk))))
  · have hr' : w σ r = some (a, .inr (3, fV (G f) c)) := by rw [hr, fC, h]; rfl
    exact J_eU (y := yX3_wide) (R' := (jR 1 0 0)) (owner := RX3) [] 0 r hr' rfl q1 q1084 q1086 q1082 q126 q1098 rfl (by decide +kernel) cX_1 (show 1 + 1 ≤ R.frames ∧ 8 + (1 + 11) + 48 * 1 ≤ R.locals by omega) (show k + 0 ≤ R.cells ∧ n + 0 ≤ R.slots by omega) rfl hst d (JE.of (X' := (cX E, none)) (by decide +kernel) (Nat.le_of_ble_eq_true rfl) (fun _ z => by cases z) (fX3_wide G f hr hk (J_ri (J_top _ (congrArg zI (show G f 1 - G f 3 - G f 5 = mAc G f from (if_neg (by omega)).symm)) kk))))
  · have hr' : w σ r = some (a, .inr (4, fV (G f) c)) := by rw [hr, fC, h]; rfl
    exact J_eU (y := yX3_wide) (R' := (jR 1 0 0)) (owner := RX3) [] 0 r hr' rfl q1 q1084 q1085 q1082 q126 q1098 rfl (by decide +kernel) cX_1 (show 1 + 1 ≤ R.frames ∧ 8 + (1 + 11) + 48 * 1 ≤ R.locals by omega) (show k + 0 ≤ R.cells ∧ n + 0 ≤ R.slots by omega) rfl hst d (JE.of (X' := (cX E, none)) (by decide +kernel) (Nat.le_of_ble_eq_true rfl) (fun _ z => by cases z) (fX3_wide G f hr hk (J_ri (J_top _ (congrArg zI (show G f 1 - G f 3 - G f 5 = mAc G f from (if_neg (by omega)).symm)) kk))))
  · have hr' : w σ r = some (a, .inr (5, fV (G f) c)) := by rw [hr, fC, h]; rfl
    exact J_eO (y := yX6_wide) (R' := (jR 2 0 0)) (owner := RX3) [] 0 r hr' rfl q1 q1084 q1082 q1098 q1087 q1088 q129 q1089 (by decide +kernel) cX_1 (show 2 + 1 ≤ R.frames ∧ 8 + (1 + 11) + 48 * 2 ≤ R.locals by omega) (show k + 0 ≤ R.cells ∧ n + 0 ≤ R.slots by omega) rfl hst d (JE.of (X' := (cX E, none)) (by decide +kernel) (Nat.le_of_ble_eq_true rfl) (fun _ z => by cases z) (fX6_wide G f hr hk h (J_ri (J_top _ (congrArg zI (show G f 1 = mAc G f from (if_pos h).symm)) kk))))
end V
section V
variable {E : jEnv} {St : Type} {w : St → jW} {o : Option MethodName} {cc : ByteArray} {mL : Nat} {ret : Option FieldType} {own : String} {R : Room} {k n pc : Nat} {L : List (Option Value)} {st : List Value} {σ : St} {Q : Option Value → St → Prop}
theorem VX3_high (G : Nat → Nat → Int) (f : Nat) {r a index : Nat} {c : Nat → Int}  (hr : w σ r = some (a, fC (G f) c)) (hk : 0 ≤ G f 0 ∧ G f 0 ≤ 3)  (q1 : Cond.methodLink own index (⟨RX3, "high", "()I"⟩ : MethodName) ∈ lw_all) (hR : 2 + 1 ≤ R.frames ∧ 144 ≤ R.locals) (hcs : k ≤ R.cells ∧ n ≤ R.slots) (hst : (st.map fun v => v.category).sum ≤ 8) (d : decode cc pc = .ok (.invokevirtual index, 3)) (kk : J E w (cX E, o) cc mL ret own R k n (pc + 3) L (.int (zI (mDn G f)) :: st) σ Q) : J E w (cX E, o) cc mL ret own R k n (pc) L (.ref a :: st) σ Q := by
  obtain h | h | h | h : G f 0 = 0 ∨ G f 0 = 1 ∨ G f 0 = 2 ∨ G f 0 = 3 := by omega
  · have hr' : w σ r = some (a, .inr (2, fV (G f) c)) := by rw [hr, fC, h]; rfl
    exact J_eU (y := yX3_high) (R' := (jR 1 0 0)) (owner := RX3) [] 0 r hr' rfl q1 q1102 q1101 q1100 q126 q1116 rfl (by decide +kernel) cX_1 (show 1 + 1 ≤ R.frames ∧ 8 + (1 + 11) + 48 * 1 ≤ R.locals by omega) (show k + 0 ≤ R.cells ∧ n + 0 ≤ R.slots by omega) rfl hst d (JE.of (X' := (cX E, none)) (by decide +kernel) (Nat.le_of_ble_eq_true rfl) (fun _ z => by cases z) (fX3_high G f hr hk (J_ri (J_top _ (congrArg zI (show G f 2 - G f 4 - G f 6 = mDn G f from (if_neg (by omega)).symm)) kk))))
  · have hr' : w σ r = some (a, .inr (3, fV (G f) c)) := by rw [hr, fC, h]; rfl
    exact J_eU (y := yX3_high) (R' := (jR 1 0 0)) (owner := RX3) [] 0 r hr' rfl q1 q1102 q1104 q1100 q126 q1116 rfl (by decide +kernel) cX_1 (show 1 + 1 ≤ R.frames ∧ 8 + (1 + 11) + 48 * 1 ≤ R.locals by omega) (show k + 0 ≤ R.cells ∧ n + 0 ≤ R.slots by omega) rfl hst d (JE.of (X' := (cX E, none)) (by decide +kernel) (Nat.le_of_ble_eq_true rfl) (fun _ z => by cases z) (fX3_high G f hr hk (J_ri (J_top _ (congrArg zI (show G f 2 - G f 4 - G f 6 = mDn G f from (if_neg (by omega)).symm)) kk))))
  · have hr' : w σ r = some (a, .inr (4, fV (G f) c)) := by rw [hr, fC, h]; rfl
    exact J_eU (y := yX3_high) (R' := (jR 1 0 0)) (owner := RX3) [] 0 r hr' rfl q1 q1102 q1103 q1100 q126 q1116 rfl (by decide +kernel) cX_1 (show 1 + 1 ≤ R.frames ∧ 8 + (1 + 11) + 48 * 1 ≤ R.locals by omega) (show k + 0 ≤ R.cells ∧ n + 0 ≤ R.slots by omega) rfl hst d (JE.of (X' := (cX E, none)) (by decide +kernel) (Nat.le_of_ble_eq_true rfl) (fun _ z => by cases z) (fX3_high G f hr hk (J_ri (J_top _ (congrArg zI (show G f 2 - G f 4 - G f 6 = mDn G f from (if_neg (by omega)).symm)) kk))))
  · have hr' : w σ r = some (a, .inr (5, fV (G f) c)) := by rw [hr, fC, h]; rfl
    exact J_eO (y := yX6_high) (R' := (jR 2 0 0)) (owner := RX3) [] 0 r hr' rfl q1 q1102 q1100 q1116 q1105 q1106 q129 q1107 (by decide +kernel) cX_1 (show 2 + 1 ≤ R.frames ∧ 8 + (1 + 11) + 48 * 2 ≤ R.locals by omega) (show k + 0 ≤ R.cells ∧ n + 0 ≤ R.slots by omega) rfl hst d (JE.of (X' := (cX E, none)) (by decide +kernel) (Nat.le_of_ble_eq_true rfl) (fun _ z => by cases z) (fX6_high G f hr hk h (J_ri (J_top _ (congrArg zI (show G f 2 = mDn G f from (if_pos h).symm)) kk))))
end V
section V
variable {E : jEnv} {St : Type} {w : St → jW} {o : Option MethodName} {cc : ByteArray} {mL : Nat} {ret : Option FieldType} {own : String} {R : Room} {k n pc : Nat} {L : List (Option Value)} {st : List Value} {σ : St} {Q : Option Value → St → Prop}
theorem VX4_wide (G : Nat → Nat → Int) (f : Nat) {r a index : Nat} {c : Nat → Int}  (hr : w σ r = some (a, fC (G f) c)) (hk : 0 ≤ G f 0 ∧ G f 0 ≤ 3) (hkk : G f 0 = 1 ∨ G f 0 = 3) (q1 : Cond.methodLink own index (⟨RX4, "wide", "()I"⟩ : MethodName) ∈ lw_all) (hR : 2 + 1 ≤ R.frames ∧ 144 ≤ R.locals) (hcs : k ≤ R.cells ∧ n ≤ R.slots) (hst : (st.map fun v => v.category).sum ≤ 8) (d : decode cc pc = .ok (.invokevirtual index, 3)) (kk : J E w (cX E, o) cc mL ret own R k n (pc + 3) L (.int (zI (mAc G f)) :: st) σ Q) : J E w (cX E, o) cc mL ret own R k n (pc) L (.ref a :: st) σ Q := by
  obtain h | h | h | h : G f 0 = 0 ∨ G f 0 = 1 ∨ G f 0 = 2 ∨ G f 0 = 3 := by omega
  · have hr' : w σ r = some (a, .inr (2, fV (G f) c)) := by rw [hr, fC, h]; rfl
    exfalso; omega
  · have hr' : w σ r = some (a, .inr (3, fV (G f) c)) := by rw [hr, fC, h]; rfl
    exact J_eU (y := yX3_wide) (R' := (jR 1 0 0)) (owner := RX3) [] 0 r hr' rfl q1 q1091 q1185 q1082 q126 q1098 rfl (by decide +kernel) cX_1 (show 1 + 1 ≤ R.frames ∧ 8 + (1 + 11) + 48 * 1 ≤ R.locals by omega) (show k + 0 ≤ R.cells ∧ n + 0 ≤ R.slots by omega) rfl hst d (JE.of (X' := (cX E, none)) (by decide +kernel) (Nat.le_of_ble_eq_true rfl) (fun _ z => by cases z) (fX3_wide G f hr hk (J_ri (J_top _ (congrArg zI (show G f 1 - G f 3 - G f 5 = mAc G f from (if_neg (by omega)).symm)) kk))))
  · have hr' : w σ r = some (a, .inr (4, fV (G f) c)) := by rw [hr, fC, h]; rfl
    exfalso; omega
  · have hr' : w σ r = some (a, .inr (5, fV (G f) c)) := by rw [hr, fC, h]; rfl
    exact J_eO (y := yX6_wide) (R' := (jR 2 0 0)) (owner := RX3) [] 0 r hr' rfl q1 q1091 q1082 q1098 q1186 q1088 q129 q1089 (by decide +kernel) cX_1 (show 2 + 1 ≤ R.frames ∧ 8 + (1 + 11) + 48 * 2 ≤ R.locals by omega) (show k + 0 ≤ R.cells ∧ n + 0 ≤ R.slots by omega) rfl hst d (JE.of (X' := (cX E, none)) (by decide +kernel) (Nat.le_of_ble_eq_true rfl) (fun _ z => by cases z) (fX6_wide G f hr hk h (J_ri (J_top _ (congrArg zI (show G f 1 = mAc G f from (if_pos h).symm)) kk))))
end V
section V
variable {E : jEnv} {St : Type} {w : St → jW} {o : Option MethodName} {cc : ByteArray} {mL : Nat} {ret : Option FieldType} {own : String} {R : Room} {k n pc : Nat} {L : List (Option Value)} {st : List Value} {σ : St} {Q : Option Value → St → Prop}
theorem VX4_high (G : Nat → Nat → Int) (f : Nat) {r a index : Nat} {c : Nat → Int}  (hr : w σ r = some (a, fC (G f) c)) (hk : 0 ≤ G f 0 ∧ G f 0 ≤ 3) (hkk : G f 0 = 1 ∨ G f 0 = 3) (q1 : Cond.methodLink own index (⟨RX4, "high", "()I"⟩ : MethodName) ∈ lw_all) (hR : 2 + 1 ≤ R.frames ∧ 144 ≤ R.locals) (hcs : k ≤ R.cells ∧ n ≤ R.slots) (hst : (st.map fun v => v.category).sum ≤ 8) (d : decode cc pc = .ok (.invokevirtual index, 3)) (kk : J E w (cX E, o) cc mL ret own R k n (pc + 3) L (.int (zI (mDn G f)) :: st) σ Q) : J E w (cX E, o) cc mL ret own R k n (pc) L (.ref a :: st) σ Q := by
  obtain h | h | h | h : G f 0 = 0 ∨ G f 0 = 1 ∨ G f 0 = 2 ∨ G f 0 = 3 := by omega
  · have hr' : w σ r = some (a, .inr (2, fV (G f) c)) := by rw [hr, fC, h]; rfl
    exfalso; omega
  · have hr' : w σ r = some (a, .inr (3, fV (G f) c)) := by rw [hr, fC, h]; rfl
    exact J_eU (y := yX3_high) (R' := (jR 1 0 0)) (owner := RX3) [] 0 r hr' rfl q1 q1109 q1188 q1100 q126 q1116 rfl (by decide +kernel) cX_1 (show 1 + 1 ≤ R.frames ∧ 8 + (1 + 11) + 48 * 1 ≤ R.locals by omega) (show k + 0 ≤ R.cells ∧ n + 0 ≤ R.slots by omega) rfl hst d (JE.of (X' := (cX E, none)) (by decide +kernel) (Nat.le_of_ble_eq_true rfl) (fun _ z => by cases z) (fX3_high G f hr hk (J_ri (J_top _ (congrArg zI (show G f 2 - G f 4 - G f 6 = mDn G f from (if_neg (by omega)).symm)) kk))))
  · have hr' : w σ r = some (a, .inr (4, fV (G f) c)) := by rw [hr, fC, h]; rfl
    exfalso; omega
  · have hr' : w σ r = some (a, .inr (5, fV (G f) c)) := by rw [hr, fC, h]; rfl
    exact J_eO (y := yX6_high) (R' := (jR 2 0 0)) (owner := RX3) [] 0 r hr' rfl q1 q1109 q1100 q1116 q1189 q1106 q129 q1107 (by decide +kernel) cX_1 (show 2 + 1 ≤ R.frames ∧ 8 + (1 + 11) + 48 * 2 ≤ R.locals by omega) (show k + 0 ≤ R.cells ∧ n + 0 ≤ R.slots by omega) rfl hst d (JE.of (X' := (cX E, none)) (by decide +kernel) (Nat.le_of_ble_eq_true rfl) (fun _ z => by cases z) (fX6_high G f hr hk h (J_ri (J_top _ (congrArg zI (show G f 2 = mDn G f from (if_pos h).symm)) kk))))
end V
section V
variable {E : jEnv} {St : Type} {w : St → jW} {o : Option MethodName} {cc : ByteArray} {mL : Nat} {ret : Option FieldType} {own : String} {R : Room} {k n pc : Nat} {L : List (Option Value)} {st : List Value} {σ : St} {Q : Option Value → St → Prop}
theorem VX5_wide (G : Nat → Nat → Int) (f : Nat) {r a index : Nat} {c : Nat → Int}  (hr : w σ r = some (a, fC (G f) c)) (hk : 0 ≤ G f 0 ∧ G f 0 ≤ 3) (hkk : G f 0 = 2) (q1 : Cond.methodLink own index (⟨RX5, "wide", "()I"⟩ : MethodName) ∈ lw_all) (hR : 1 + 1 ≤ R.frames ∧ 96 ≤ R.locals) (hcs : k ≤ R.cells ∧ n ≤ R.slots) (hst : (st.map fun v => v.category).sum ≤ 8) (d : decode cc pc = .ok (.invokevirtual index, 3)) (kk : J E w (cX E, o) cc mL ret own R k n (pc + 3) L (.int (zI (mAc G f)) :: st) σ Q) : J E w (cX E, o) cc mL ret own R k n (pc) L (.ref a :: st) σ Q := by
  obtain h | h | h | h : G f 0 = 0 ∨ G f 0 = 1 ∨ G f 0 = 2 ∨ G f 0 = 3 := by omega
  · have hr' : w σ r = some (a, .inr (2, fV (G f) c)) := by rw [hr, fC, h]; rfl
    exfalso; omega
  · have hr' : w σ r = some (a, .inr (3, fV (G f) c)) := by rw [hr, fC, h]; rfl
    exfalso; omega
  · have hr' : w σ r = some (a, .inr (4, fV (G f) c)) := by rw [hr, fC, h]; rfl
    exact J_eU (y := yX3_wide) (R' := (jR 1 0 0)) (owner := RX3) [] 0 r hr' rfl q1 q1207 q1208 q1082 q126 q1098 rfl (by decide +kernel) cX_1 (show 1 + 1 ≤ R.frames ∧ 8 + (1 + 11) + 48 * 1 ≤ R.locals by omega) (show k + 0 ≤ R.cells ∧ n + 0 ≤ R.slots by omega) rfl hst d (JE.of (X' := (cX E, none)) (by decide +kernel) (Nat.le_of_ble_eq_true rfl) (fun _ z => by cases z) (fX3_wide G f hr hk (J_ri (J_top _ (congrArg zI (show G f 1 - G f 3 - G f 5 = mAc G f from (if_neg (by omega)).symm)) kk))))
  · have hr' : w σ r = some (a, .inr (5, fV (G f) c)) := by rw [hr, fC, h]; rfl
    exfalso; omega
end V
section V
variable {E : jEnv} {St : Type} {w : St → jW} {o : Option MethodName} {cc : ByteArray} {mL : Nat} {ret : Option FieldType} {own : String} {R : Room} {k n pc : Nat} {L : List (Option Value)} {st : List Value} {σ : St} {Q : Option Value → St → Prop}
theorem VX5_high (G : Nat → Nat → Int) (f : Nat) {r a index : Nat} {c : Nat → Int}  (hr : w σ r = some (a, fC (G f) c)) (hk : 0 ≤ G f 0 ∧ G f 0 ≤ 3) (hkk : G f 0 = 2) (q1 : Cond.methodLink own index (⟨RX5, "high", "()I"⟩ : MethodName) ∈ lw_all) (hR : 1 + 1 ≤ R.frames ∧ 96 ≤ R.locals) (hcs : k ≤ R.cells ∧ n ≤ R.slots) (hst : (st.map fun v => v.category).sum ≤ 8) (d : decode cc pc = .ok (.invokevirtual index, 3)) (kk : J E w (cX E, o) cc mL ret own R k n (pc + 3) L (.int (zI (mDn G f)) :: st) σ Q) : J E w (cX E, o) cc mL ret own R k n (pc) L (.ref a :: st) σ Q := by
  obtain h | h | h | h : G f 0 = 0 ∨ G f 0 = 1 ∨ G f 0 = 2 ∨ G f 0 = 3 := by omega
  · have hr' : w σ r = some (a, .inr (2, fV (G f) c)) := by rw [hr, fC, h]; rfl
    exfalso; omega
  · have hr' : w σ r = some (a, .inr (3, fV (G f) c)) := by rw [hr, fC, h]; rfl
    exfalso; omega
  · have hr' : w σ r = some (a, .inr (4, fV (G f) c)) := by rw [hr, fC, h]; rfl
    exact J_eU (y := yX3_high) (R' := (jR 1 0 0)) (owner := RX3) [] 0 r hr' rfl q1 q1210 q1211 q1100 q126 q1116 rfl (by decide +kernel) cX_1 (show 1 + 1 ≤ R.frames ∧ 8 + (1 + 11) + 48 * 1 ≤ R.locals by omega) (show k + 0 ≤ R.cells ∧ n + 0 ≤ R.slots by omega) rfl hst d (JE.of (X' := (cX E, none)) (by decide +kernel) (Nat.le_of_ble_eq_true rfl) (fun _ z => by cases z) (fX3_high G f hr hk (J_ri (J_top _ (congrArg zI (show G f 2 - G f 4 - G f 6 = mDn G f from (if_neg (by omega)).symm)) kk))))
  · have hr' : w σ r = some (a, .inr (5, fV (G f) c)) := by rw [hr, fC, h]; rfl
    exfalso; omega
end V
section V
variable {E : jEnv} {St : Type} {w : St → jW} {o : Option MethodName} {cc : ByteArray} {mL : Nat} {ret : Option FieldType} {own : String} {R : Room} {k n pc : Nat} {L : List (Option Value)} {st : List Value} {σ : St} {Q : Option Value → St → Prop}
theorem VX6_wide (G : Nat → Nat → Int) (f : Nat) {r a index : Nat} {c : Nat → Int}  (hr : w σ r = some (a, fC (G f) c)) (hk : 0 ≤ G f 0 ∧ G f 0 ≤ 3) (hkk : G f 0 = 3) (q1 : Cond.methodLink own index (⟨RX6, "wide", "()I"⟩ : MethodName) ∈ lw_all) (hR : 2 + 1 ≤ R.frames ∧ 144 ≤ R.locals) (hcs : k ≤ R.cells ∧ n ≤ R.slots) (hst : (st.map fun v => v.category).sum ≤ 8) (d : decode cc pc = .ok (.invokevirtual index, 3)) (kk : J E w (cX E, o) cc mL ret own R k n (pc + 3) L (.int (zI (mAc G f)) :: st) σ Q) : J E w (cX E, o) cc mL ret own R k n (pc) L (.ref a :: st) σ Q := by
  obtain h | h | h | h : G f 0 = 0 ∨ G f 0 = 1 ∨ G f 0 = 2 ∨ G f 0 = 3 := by omega
  · have hr' : w σ r = some (a, .inr (2, fV (G f) c)) := by rw [hr, fC, h]; rfl
    exfalso; omega
  · have hr' : w σ r = some (a, .inr (3, fV (G f) c)) := by rw [hr, fC, h]; rfl
    exfalso; omega
  · have hr' : w σ r = some (a, .inr (4, fV (G f) c)) := by rw [hr, fC, h]; rfl
    exfalso; omega
  · have hr' : w σ r = some (a, .inr (5, fV (G f) c)) := by rw [hr, fC, h]; rfl
    exact J_eV (y := yX6_wide) (R' := (jR 2 0 0)) [] 0 r hr' rfl q1 q1088 q2119 q129 q1089 (by decide +kernel) cX_1 (show 2 + 1 ≤ R.frames ∧ 8 + (1 + 11) + 48 * 2 ≤ R.locals by omega) (show k + 0 ≤ R.cells ∧ n + 0 ≤ R.slots by omega) rfl hst d (JE.of (X' := (cX E, none)) (by decide +kernel) (Nat.le_of_ble_eq_true rfl) (fun _ z => by cases z) (fX6_wide G f hr hk h (J_ri (J_top _ (congrArg zI (show G f 1 = mAc G f from (if_pos h).symm)) kk))))
end V
section V
variable {E : jEnv} {St : Type} {w : St → jW} {o : Option MethodName} {cc : ByteArray} {mL : Nat} {ret : Option FieldType} {own : String} {R : Room} {k n pc : Nat} {L : List (Option Value)} {st : List Value} {σ : St} {Q : Option Value → St → Prop}
theorem VX6_high (G : Nat → Nat → Int) (f : Nat) {r a index : Nat} {c : Nat → Int}  (hr : w σ r = some (a, fC (G f) c)) (hk : 0 ≤ G f 0 ∧ G f 0 ≤ 3) (hkk : G f 0 = 3) (q1 : Cond.methodLink own index (⟨RX6, "high", "()I"⟩ : MethodName) ∈ lw_all) (hR : 2 + 1 ≤ R.frames ∧ 144 ≤ R.locals) (hcs : k ≤ R.cells ∧ n ≤ R.slots) (hst : (st.map fun v => v.category).sum ≤ 8) (d : decode cc pc = .ok (.invokevirtual index, 3)) (kk : J E w (cX E, o) cc mL ret own R k n (pc + 3) L (.int (zI (mDn G f)) :: st) σ Q) : J E w (cX E, o) cc mL ret own R k n (pc) L (.ref a :: st) σ Q := by
  obtain h | h | h | h : G f 0 = 0 ∨ G f 0 = 1 ∨ G f 0 = 2 ∨ G f 0 = 3 := by omega
  · have hr' : w σ r = some (a, .inr (2, fV (G f) c)) := by rw [hr, fC, h]; rfl
    exfalso; omega
  · have hr' : w σ r = some (a, .inr (3, fV (G f) c)) := by rw [hr, fC, h]; rfl
    exfalso; omega
  · have hr' : w σ r = some (a, .inr (4, fV (G f) c)) := by rw [hr, fC, h]; rfl
    exfalso; omega
  · have hr' : w σ r = some (a, .inr (5, fV (G f) c)) := by rw [hr, fC, h]; rfl
    exact J_eV (y := yX6_high) (R' := (jR 2 0 0)) [] 0 r hr' rfl q1 q1106 q2120 q129 q1107 (by decide +kernel) cX_1 (show 2 + 1 ≤ R.frames ∧ 8 + (1 + 11) + 48 * 2 ≤ R.locals by omega) (show k + 0 ≤ R.cells ∧ n + 0 ≤ R.slots by omega) rfl hst d (JE.of (X' := (cX E, none)) (by decide +kernel) (Nat.le_of_ble_eq_true rfl) (fun _ z => by cases z) (fX6_high G f hr hk h (J_ri (J_top _ (congrArg zI (show G f 2 = mDn G f from (if_pos h).symm)) kk))))
end V
section V
variable {E : jEnv} {St : Type} {w : St → jW} {o : Option MethodName} {cc : ByteArray} {mL : Nat} {ret : Option FieldType} {own : String} {R : Room} {k n pc : Nat} {L : List (Option Value)} {st : List Value} {σ : St} {Q : Option Value → St → Prop}
theorem VX3_firstColumn (G : Nat → Nat → Int) (f : Nat) {r a index : Nat} {c : Nat → Int}  (hr : w σ r = some (a, fC (G f) c)) (hk : 0 ≤ G f 0 ∧ G f 0 ≤ 3)  (q1 : Cond.methodLink own index (⟨RX3, "firstColumn", "()I"⟩ : MethodName) ∈ lw_all) (hR : 1 + 1 ≤ R.frames ∧ 96 ≤ R.locals) (hcs : k ≤ R.cells ∧ n ≤ R.slots) (hst : (st.map fun v => v.category).sum ≤ 8) (d : decode cc pc = .ok (.invokevirtual index, 3)) (kk : J E w (cX E, o) cc mL ret own R k n (pc + 3) L (.int (zI (mLf G f)) :: st) σ Q) : J E w (cX E, o) cc mL ret own R k n (pc) L (.ref a :: st) σ Q := by
  obtain h | h | h | h : G f 0 = 0 ∨ G f 0 = 1 ∨ G f 0 = 2 ∨ G f 0 = 3 := by omega
  · have hr' : w σ r = some (a, .inr (2, fV (G f) c)) := by rw [hr, fC, h]; rfl
    exact J_eU (y := yX3_firstColumn) (R' := (jR 1 0 0)) (owner := RX3) [] 0 r hr' rfl q1 q2126 q2128 q1096 q126 q1097 rfl (by decide +kernel) cX_1 (show 1 + 1 ≤ R.frames ∧ 8 + (1 + 11) + 48 * 1 ≤ R.locals by omega) (show k + 0 ≤ R.cells ∧ n + 0 ≤ R.slots by omega) rfl hst d (JE.of (X' := (cX E, none)) (by decide +kernel) (Nat.le_of_ble_eq_true rfl) (fun _ z => by cases z) (fX3_firstColumn G f hr hk (J_ri (J_top _ (congrArg zI (show G f 3 = mLf G f from (if_neg (by omega)).symm)) kk))))
  · have hr' : w σ r = some (a, .inr (3, fV (G f) c)) := by rw [hr, fC, h]; rfl
    exact J_eU (y := yX3_firstColumn) (R' := (jR 1 0 0)) (owner := RX3) [] 0 r hr' rfl q1 q2126 q2129 q1096 q126 q1097 rfl (by decide +kernel) cX_1 (show 1 + 1 ≤ R.frames ∧ 8 + (1 + 11) + 48 * 1 ≤ R.locals by omega) (show k + 0 ≤ R.cells ∧ n + 0 ≤ R.slots by omega) rfl hst d (JE.of (X' := (cX E, none)) (by decide +kernel) (Nat.le_of_ble_eq_true rfl) (fun _ z => by cases z) (fX3_firstColumn G f hr hk (J_ri (J_top _ (congrArg zI (show G f 3 = mLf G f from (if_neg (by omega)).symm)) kk))))
  · have hr' : w σ r = some (a, .inr (4, fV (G f) c)) := by rw [hr, fC, h]; rfl
    exact J_eU (y := yX3_firstColumn) (R' := (jR 1 0 0)) (owner := RX3) [] 0 r hr' rfl q1 q2126 q2127 q1096 q126 q1097 rfl (by decide +kernel) cX_1 (show 1 + 1 ≤ R.frames ∧ 8 + (1 + 11) + 48 * 1 ≤ R.locals by omega) (show k + 0 ≤ R.cells ∧ n + 0 ≤ R.slots by omega) rfl hst d (JE.of (X' := (cX E, none)) (by decide +kernel) (Nat.le_of_ble_eq_true rfl) (fun _ z => by cases z) (fX3_firstColumn G f hr hk (J_ri (J_top _ (congrArg zI (show G f 3 = mLf G f from (if_neg (by omega)).symm)) kk))))
  · have hr' : w σ r = some (a, .inr (5, fV (G f) c)) := by rw [hr, fC, h]; rfl
    exact J_eO (y := yX6_firstColumn) (R' := (jR 1 0 0)) (owner := RX3) [] 0 r hr' rfl q1 q2126 q1096 q1097 q2130 q1464 q129 q1465 (by decide +kernel) cX_1 (show 1 + 1 ≤ R.frames ∧ 8 + (1 + 11) + 48 * 1 ≤ R.locals by omega) (show k + 0 ≤ R.cells ∧ n + 0 ≤ R.slots by omega) rfl hst d (JE.of (X' := (cX E, none)) (by decide +kernel) (Nat.le_of_ble_eq_true rfl) (fun _ z => by cases z) (fX6_firstColumn G f hr hk (J_ri (J_top _ (congrArg zI (show 0 = mLf G f from (if_pos h).symm)) kk))))
end V
section V
variable {E : jEnv} {St : Type} {w : St → jW} {o : Option MethodName} {cc : ByteArray} {mL : Nat} {ret : Option FieldType} {own : String} {R : Room} {k n pc : Nat} {L : List (Option Value)} {st : List Value} {σ : St} {Q : Option Value → St → Prop}
theorem VX3_firstRow (G : Nat → Nat → Int) (f : Nat) {r a index : Nat} {c : Nat → Int}  (hr : w σ r = some (a, fC (G f) c)) (hk : 0 ≤ G f 0 ∧ G f 0 ≤ 3)  (q1 : Cond.methodLink own index (⟨RX3, "firstRow", "()I"⟩ : MethodName) ∈ lw_all) (hR : 1 + 1 ≤ R.frames ∧ 96 ≤ R.locals) (hcs : k ≤ R.cells ∧ n ≤ R.slots) (hst : (st.map fun v => v.category).sum ≤ 8) (d : decode cc pc = .ok (.invokevirtual index, 3)) (kk : J E w (cX E, o) cc mL ret own R k n (pc + 3) L (.int (zI (mAb G f)) :: st) σ Q) : J E w (cX E, o) cc mL ret own R k n (pc) L (.ref a :: st) σ Q := by
  obtain h | h | h | h : G f 0 = 0 ∨ G f 0 = 1 ∨ G f 0 = 2 ∨ G f 0 = 3 := by omega
  · have hr' : w σ r = some (a, .inr (2, fV (G f) c)) := by rw [hr, fC, h]; rfl
    exact J_eU (y := yX3_firstRow) (R' := (jR 1 0 0)) (owner := RX3) [] 0 r hr' rfl q1 q2131 q2133 q1114 q126 q1115 rfl (by decide +kernel) cX_1 (show 1 + 1 ≤ R.frames ∧ 8 + (1 + 11) + 48 * 1 ≤ R.locals by omega) (show k + 0 ≤ R.cells ∧ n + 0 ≤ R.slots by omega) rfl hst d (JE.of (X' := (cX E, none)) (by decide +kernel) (Nat.le_of_ble_eq_true rfl) (fun _ z => by cases z) (fX3_firstRow G f hr hk (J_ri (J_top _ (congrArg zI (show G f 4 = mAb G f from (if_neg (by omega)).symm)) kk))))
  · have hr' : w σ r = some (a, .inr (3, fV (G f) c)) := by rw [hr, fC, h]; rfl
    exact J_eU (y := yX3_firstRow) (R' := (jR 1 0 0)) (owner := RX3) [] 0 r hr' rfl q1 q2131 q2134 q1114 q126 q1115 rfl (by decide +kernel) cX_1 (show 1 + 1 ≤ R.frames ∧ 8 + (1 + 11) + 48 * 1 ≤ R.locals by omega) (show k + 0 ≤ R.cells ∧ n + 0 ≤ R.slots by omega) rfl hst d (JE.of (X' := (cX E, none)) (by decide +kernel) (Nat.le_of_ble_eq_true rfl) (fun _ z => by cases z) (fX3_firstRow G f hr hk (J_ri (J_top _ (congrArg zI (show G f 4 = mAb G f from (if_neg (by omega)).symm)) kk))))
  · have hr' : w σ r = some (a, .inr (4, fV (G f) c)) := by rw [hr, fC, h]; rfl
    exact J_eU (y := yX3_firstRow) (R' := (jR 1 0 0)) (owner := RX3) [] 0 r hr' rfl q1 q2131 q2132 q1114 q126 q1115 rfl (by decide +kernel) cX_1 (show 1 + 1 ≤ R.frames ∧ 8 + (1 + 11) + 48 * 1 ≤ R.locals by omega) (show k + 0 ≤ R.cells ∧ n + 0 ≤ R.slots by omega) rfl hst d (JE.of (X' := (cX E, none)) (by decide +kernel) (Nat.le_of_ble_eq_true rfl) (fun _ z => by cases z) (fX3_firstRow G f hr hk (J_ri (J_top _ (congrArg zI (show G f 4 = mAb G f from (if_neg (by omega)).symm)) kk))))
  · have hr' : w σ r = some (a, .inr (5, fV (G f) c)) := by rw [hr, fC, h]; rfl
    exact J_eO (y := yX6_firstRow) (R' := (jR 1 0 0)) (owner := RX3) [] 0 r hr' rfl q1 q2131 q1114 q1115 q2135 q1467 q129 q1468 (by decide +kernel) cX_1 (show 1 + 1 ≤ R.frames ∧ 8 + (1 + 11) + 48 * 1 ≤ R.locals by omega) (show k + 0 ≤ R.cells ∧ n + 0 ≤ R.slots by omega) rfl hst d (JE.of (X' := (cX E, none)) (by decide +kernel) (Nat.le_of_ble_eq_true rfl) (fun _ z => by cases z) (fX6_firstRow G f hr hk (J_ri (J_top _ (congrArg zI (show 0 = mAb G f from (if_pos h).symm)) kk))))
end V
theorem fX3_edge {E : jEnv} {St : Type} {w : St → jW} {σ : St} {Q : Option Value → St → Prop} (G : Nat → Nat → Int) (f : Nat) {r a : Nat} {c : Nat → Int} {bl : Int} (hr : w σ r = some (a, fC (G f) c)) (hk : 0 ≤ G f 0 ∧ G f 0 ≤ 3) (hq : Q (some (.int (zI (bl)))) σ) : J E w (cX E, none) cX3_edge 2 (some .int) RX3 (jR 1 0 0) 0 0 0 [some (.ref a), some (.int (zI (bl)))] [] σ Q := by
  refine J_iload_n dX3_edge_0 rfl ?_
  exact J_iret rfl dX3_edge_1 (by exact hq)
section V
variable {E : jEnv} {St : Type} {w : St → jW} {o : Option MethodName} {cc : ByteArray} {mL : Nat} {ret : Option FieldType} {own : String} {R : Room} {k n pc : Nat} {L : List (Option Value)} {st : List Value} {σ : St} {Q : Option Value → St → Prop}
theorem SX5_edge (G : Nat → Nat → Int) (f : Nat) {r a : Nat} {c : Nat → Int} {x0 : Int} (hr : w σ r = some (a, fC (G f) c)) (hk : 0 ≤ G f 0 ∧ G f 0 ≤ 3) (hkd : G f 0 = 2) (hR : 1 + 1 ≤ R.frames ∧ 96 ≤ R.locals) (hcs : k ≤ R.cells ∧ n ≤ R.slots) (hst : (st.map fun v => v.category).sum ≤ 8) (d : decode cc pc = .ok (.invokespecial 15, 3)) (kk : J E w (cX E, o) cc mL ret RX5 R k n (pc + 3) L (.int (zI (x0)) :: st) σ Q) : J E w (cX E, o) cc mL ret RX5 R k n (pc) L (.int (zI x0) :: .ref a :: st) σ Q := by
  have hr' : w σ r = some (a, .inr (4, fV (G f) c)) := by rw [hr, fC, hkd]; rfl
  exact J_eSU (y := yX3_edge) (R' := (jR 1 0 0)) (owner := RX3) (x := ⟨RX3, "edge", "(I)I"⟩) [.int (zI x0)] 1 r hr' rfl q1132 q1128 q860 q1126 q126 q1135 rfl (Or.inl rfl) (by decide +kernel) (by decide +kernel) cX_1 (show 1 + 1 ≤ R.frames ∧ 8 + (2 + 11) + 48 * 1 ≤ R.locals by omega) (show k + 0 ≤ R.cells ∧ n + 0 ≤ R.slots by omega) rfl hst d (JE.of (X' := (cX E, none)) (by decide +kernel) (Nat.le_of_ble_eq_true rfl) (fun _ z => by cases z) (fX3_edge G f hr hk (J_ri kk)))
end V
theorem fX5_edge {E : jEnv} {St : Type} {w : St → jW} {σ : St} {Q : Option Value → St → Prop} (G : Nat → Nat → Int) (f : Nat) {r a : Nat} {c : Nat → Int} {bl : Int} (hr : w σ r = some (a, fC (G f) c)) (hk : 0 ≤ G f 0 ∧ G f 0 ≤ 3) (hkd : G f 0 = 2) (hq : Q (some (.int (zI (bl + 1)))) σ) : J E w (cX E, none) cX5_edge 2 (some .int) RX5 (jR 2 0 0) 0 0 0 [some (.ref a), some (.int (zI (bl)))] [] σ Q := by
  refine J_aload_n dX5_edge_0 rfl ?_
  refine J_iload_n dX5_edge_1 rfl ?_
  refine SX5_edge G f hr hk hkd (by decide) (by exact ⟨Nat.le_refl _, Nat.le_refl _⟩) (Nat.le_of_ble_eq_true rfl) dX5_edge_2 ?_
  refine J_iconst (zI 1) dX5_edge_5 rfl ?_
  refine J_iadd_z dX5_edge_6 ?_
  exact J_iret rfl dX5_edge_7 (by exact hq)
section V
variable {E : jEnv} {St : Type} {w : St → jW} {o : Option MethodName} {cc : ByteArray} {mL : Nat} {ret : Option FieldType} {own : String} {R : Room} {k n pc : Nat} {L : List (Option Value)} {st : List Value} {σ : St} {Q : Option Value → St → Prop}
theorem VX3_edge (G : Nat → Nat → Int) (f : Nat) {r a index : Nat} {c : Nat → Int} {bl : Int} (hr : w σ r = some (a, fC (G f) c)) (hk : 0 ≤ G f 0 ∧ G f 0 ≤ 3)  (q1 : Cond.methodLink own index (⟨RX3, "edge", "(I)I"⟩ : MethodName) ∈ lw_all) (hR : 2 + 1 ≤ R.frames ∧ 144 ≤ R.locals) (hcs : k ≤ R.cells ∧ n ≤ R.slots) (hst : (st.map fun v => v.category).sum ≤ 8) (d : decode cc pc = .ok (.invokevirtual index, 3)) (kk : J E w (cX E, o) cc mL ret own R k n (pc + 3) L (.int (zI (mEd bl G f)) :: st) σ Q) : J E w (cX E, o) cc mL ret own R k n (pc) L (.int (zI bl) :: .ref a :: st) σ Q := by
  obtain h | h | h | h : G f 0 = 0 ∨ G f 0 = 1 ∨ G f 0 = 2 ∨ G f 0 = 3 := by omega
  · have hr' : w σ r = some (a, .inr (2, fV (G f) c)) := by rw [hr, fC, h]; rfl
    exact J_eU (y := yX3_edge) (R' := (jR 1 0 0)) (owner := RX3) [.int (zI bl)] 1 r hr' rfl q1 q1128 q1127 q1126 q126 q1135 rfl (by decide +kernel) cX_1 (show 1 + 1 ≤ R.frames ∧ 8 + (2 + 11) + 48 * 1 ≤ R.locals by omega) (show k + 0 ≤ R.cells ∧ n + 0 ≤ R.slots by omega) rfl hst d (JE.of (X' := (cX E, none)) (by decide +kernel) (Nat.le_of_ble_eq_true rfl) (fun _ z => by cases z) (fX3_edge G f hr hk (J_ri (J_top _ (congrArg zI (show bl = mEd bl G f by unfold mEd; rw [if_neg (by omega)]; omega)) kk))))
  · have hr' : w σ r = some (a, .inr (3, fV (G f) c)) := by rw [hr, fC, h]; rfl
    exact J_eU (y := yX3_edge) (R' := (jR 1 0 0)) (owner := RX3) [.int (zI bl)] 1 r hr' rfl q1 q1128 q1133 q1126 q126 q1135 rfl (by decide +kernel) cX_1 (show 1 + 1 ≤ R.frames ∧ 8 + (2 + 11) + 48 * 1 ≤ R.locals by omega) (show k + 0 ≤ R.cells ∧ n + 0 ≤ R.slots by omega) rfl hst d (JE.of (X' := (cX E, none)) (by decide +kernel) (Nat.le_of_ble_eq_true rfl) (fun _ z => by cases z) (fX3_edge G f hr hk (J_ri (J_top _ (congrArg zI (show bl = mEd bl G f by unfold mEd; rw [if_neg (by omega)]; omega)) kk))))
  · have hr' : w σ r = some (a, .inr (4, fV (G f) c)) := by rw [hr, fC, h]; rfl
    exact J_eO (y := yX5_edge) (R' := (jR 2 0 0)) (owner := RX3) [.int (zI bl)] 1 r hr' rfl q1 q1128 q1126 q1135 q1129 q1130 q128 q1131 (by decide +kernel) cX_1 (show 2 + 1 ≤ R.frames ∧ 8 + (2 + 11) + 48 * 2 ≤ R.locals by omega) (show k + 0 ≤ R.cells ∧ n + 0 ≤ R.slots by omega) rfl hst d (JE.of (X' := (cX E, none)) (by decide +kernel) (Nat.le_of_ble_eq_true rfl) (fun _ z => by cases z) (fX5_edge G f hr hk h (J_ri (J_top _ (congrArg zI (show bl + 1 = mEd bl G f by unfold mEd; rw [if_pos h])) kk))))
  · have hr' : w σ r = some (a, .inr (5, fV (G f) c)) := by rw [hr, fC, h]; rfl
    exact J_eU (y := yX3_edge) (R' := (jR 1 0 0)) (owner := RX3) [.int (zI bl)] 1 r hr' rfl q1 q1128 q1134 q1126 q126 q1135 rfl (by decide +kernel) cX_1 (show 1 + 1 ≤ R.frames ∧ 8 + (2 + 11) + 48 * 1 ≤ R.locals by omega) (show k + 0 ≤ R.cells ∧ n + 0 ≤ R.slots by omega) rfl hst d (JE.of (X' := (cX E, none)) (by decide +kernel) (Nat.le_of_ble_eq_true rfl) (fun _ z => by cases z) (fX3_edge G f hr hk (J_ri (J_top _ (congrArg zI (show bl = mEd bl G f by unfold mEd; rw [if_neg (by omega)]; omega)) kk))))
end V
theorem fX3_mayTurn {E : jEnv} {St : Type} {w : St → jW} {σ : St} {Q : Option Value → St → Prop} (G : Nat → Nat → Int) (f : Nat) {r a : Nat} {c : Nat → Int}  (hr : w σ r = some (a, fC (G f) c)) (hk : 0 ≤ G f 0 ∧ G f 0 ≤ 3) (hq : Q (some (.int (zI 1))) σ) : J E w (cX E, none) cX3_mayTurn 1 (some .boolean) RX3 (jR 1 0 0) 0 0 0 [some (.ref a)] [] σ Q := by
  refine J_iconst (zI 1) dX3_mayTurn_0 rfl ?_
  exact J_zret rfl dX3_mayTurn_1 rfl (by exact hq)
theorem fX4_mayTurn {E : jEnv} {St : Type} {w : St → jW} {σ : St} {Q : Option Value → St → Prop} (G : Nat → Nat → Int) (f : Nat) {r a : Nat} {c : Nat → Int}  (hr : w σ r = some (a, fC (G f) c)) (hk : 0 ≤ G f 0 ∧ G f 0 ≤ 3) (hq : Q (some (.int (zI 0))) σ) : J E w (cX E, none) cX4_mayTurn 1 (some .boolean) RX4 (jR 1 0 0) 0 0 0 [some (.ref a)] [] σ Q := by
  refine J_iconst (zI 0) dX4_mayTurn_0 rfl ?_
  exact J_zret rfl dX4_mayTurn_1 rfl (by exact hq)
section V
variable {E : jEnv} {St : Type} {w : St → jW} {o : Option MethodName} {cc : ByteArray} {mL : Nat} {ret : Option FieldType} {own : String} {R : Room} {k n pc : Nat} {L : List (Option Value)} {st : List Value} {σ : St} {Q : Option Value → St → Prop}
theorem VX3_mayTurn (G : Nat → Nat → Int) (f : Nat) {r a index : Nat} {c : Nat → Int}  (hr : w σ r = some (a, fC (G f) c)) (hk : 0 ≤ G f 0 ∧ G f 0 ≤ 3)  (q1 : Cond.methodLink own index (⟨RX3, "mayTurn", "()Z"⟩ : MethodName) ∈ lw_all) (hR : 1 + 1 ≤ R.frames ∧ 96 ≤ R.locals) (hcs : k ≤ R.cells ∧ n ≤ R.slots) (hst : (st.map fun v => v.category).sum ≤ 8) (d : decode cc pc = .ok (.invokevirtual index, 3)) (h1 : ¬ (G f 0 = 1 ∨ G f 0 = 3) → J E w (cX E, o) cc mL ret own R k n (pc + 3) L (.int (zI 1) :: st) σ Q) (h0 : (G f 0 = 1 ∨ G f 0 = 3) → J E w (cX E, o) cc mL ret own R k n (pc + 3) L (.int (zI 0) :: st) σ Q) : J E w (cX E, o) cc mL ret own R k n (pc) L (.ref a :: st) σ Q := by
  obtain h | h | h | h : G f 0 = 0 ∨ G f 0 = 1 ∨ G f 0 = 2 ∨ G f 0 = 3 := by omega
  · have hr' : w σ r = some (a, .inr (2, fV (G f) c)) := by rw [hr, fC, h]; rfl
    exact J_eU (y := yX3_mayTurn) (R' := (jR 1 0 0)) (owner := RX3) [] 0 r hr' rfl q1 q1280 q1279 q1278 q126 q1286 rfl (by decide +kernel) cX_1 (show 1 + 1 ≤ R.frames ∧ 8 + (1 + 11) + 48 * 1 ≤ R.locals by omega) (show k + 0 ≤ R.cells ∧ n + 0 ≤ R.slots by omega) rfl hst d (JE.of (X' := (cX E, none)) (by decide +kernel) (Nat.le_of_ble_eq_true rfl) (fun _ z => by cases z) (fX3_mayTurn G f hr hk (J_ri (h1 (by omega)))))
  · have hr' : w σ r = some (a, .inr (3, fV (G f) c)) := by rw [hr, fC, h]; rfl
    exact J_eO (y := yX4_mayTurn) (R' := (jR 1 0 0)) (owner := RX3) [] 0 r hr' rfl q1 q1280 q1278 q1286 q1282 q1283 q127 q1284 (by decide +kernel) cX_1 (show 1 + 1 ≤ R.frames ∧ 8 + (1 + 11) + 48 * 1 ≤ R.locals by omega) (show k + 0 ≤ R.cells ∧ n + 0 ≤ R.slots by omega) rfl hst d (JE.of (X' := (cX E, none)) (by decide +kernel) (Nat.le_of_ble_eq_true rfl) (fun _ z => by cases z) (fX4_mayTurn G f hr hk (J_ri (h0 (by omega)))))
  · have hr' : w σ r = some (a, .inr (4, fV (G f) c)) := by rw [hr, fC, h]; rfl
    exact J_eU (y := yX3_mayTurn) (R' := (jR 1 0 0)) (owner := RX3) [] 0 r hr' rfl q1 q1280 q1281 q1278 q126 q1286 rfl (by decide +kernel) cX_1 (show 1 + 1 ≤ R.frames ∧ 8 + (1 + 11) + 48 * 1 ≤ R.locals by omega) (show k + 0 ≤ R.cells ∧ n + 0 ≤ R.slots by omega) rfl hst d (JE.of (X' := (cX E, none)) (by decide +kernel) (Nat.le_of_ble_eq_true rfl) (fun _ z => by cases z) (fX3_mayTurn G f hr hk (J_ri (h1 (by omega)))))
  · have hr' : w σ r = some (a, .inr (5, fV (G f) c)) := by rw [hr, fC, h]; rfl
    exact J_eO (y := yX4_mayTurn) (R' := (jR 1 0 0)) (owner := RX3) [] 0 r hr' rfl q1 q1280 q1278 q1286 q1285 q1283 q127 q1284 (by decide +kernel) cX_1 (show 1 + 1 ≤ R.frames ∧ 8 + (1 + 11) + 48 * 1 ≤ R.locals by omega) (show k + 0 ≤ R.cells ∧ n + 0 ≤ R.slots by omega) rfl hst d (JE.of (X' := (cX E, none)) (by decide +kernel) (Nat.le_of_ble_eq_true rfl) (fun _ z => by cases z) (fX4_mayTurn G f hr hk (J_ri (h0 (by omega)))))
end V
theorem fX3_across {E : jEnv} {St : Type} {w : St → jW} {σ : St} {Q : Option Value → St → Prop} (G : Nat → Nat → Int) (f : Nat) {r a : Nat} {c : Nat → Int} {bl t : Int} (hr : w σ r = some (a, fC (G f) c)) (hk : 0 ≤ G f 0 ∧ G f 0 ≤ 3) (ht : t = 0 ∨ t = 1) (hq : Q (some (.int (zI (mNX bl G f t)))) σ) : J E w (cX E, none) cX3_across 3 (some .int) RX3 (jR 3 0 0) 0 0 0 [some (.ref a), some (.int (zI (bl))), some (.int (zI (t)))] [] σ Q := by
  refine J_iload_n dX3_across_0 rfl ?_
  refine J_if_eq_z (tgt := 11) dX3_across_1 (by decide) (by unfold zR; omega) (fun c1 => ?_) (fun c1 => ?_)
  · skip
    refine J_aload_n dX3_across_11 rfl ?_
    refine VX3_wide G f  hr hk  q1081 (by decide) (by exact ⟨Nat.le_refl _, Nat.le_refl _⟩) (Nat.le_of_ble_eq_true rfl) dX3_across_12 ?_
    refine J_iconst (zI 2) dX3_across_15 rfl ?_
    refine J_aload_n dX3_across_16 rfl ?_
    refine J_iload_n dX3_across_17 rfl ?_
    refine VX3_edge G f  hr hk  q1125 (by decide) (by exact ⟨Nat.le_refl _, Nat.le_refl _⟩) (Nat.le_of_ble_eq_true rfl) dX3_across_18 ?_
    refine J_imul_z dX3_across_21 ?_
    refine J_iadd_z dX3_across_22 ?_
    exact J_iret rfl dX3_across_23 (by first | (rw [show mAc G f + 2 * mEd bl G f = mNX bl G f t by unfold mNX; split <;> omega]; exact hq) | (rw [show mDn G f + 2 * mEd bl G f = mNX bl G f t by unfold mNX; split <;> omega]; exact hq))
  · skip
    refine J_aload_n dX3_across_4 rfl ?_
    refine VX3_high G f  hr hk  q1099 (by decide) (by exact ⟨Nat.le_refl _, Nat.le_refl _⟩) (Nat.le_of_ble_eq_true rfl) dX3_across_5 ?_
    refine J_goto (tgt := 15) dX3_across_8 (by decide) ?_
    refine J_iconst (zI 2) dX3_across_15 rfl ?_
    refine J_aload_n dX3_across_16 rfl ?_
    refine J_iload_n dX3_across_17 rfl ?_
    refine VX3_edge G f  hr hk  q1125 (by decide) (by exact ⟨Nat.le_refl _, Nat.le_refl _⟩) (Nat.le_of_ble_eq_true rfl) dX3_across_18 ?_
    refine J_imul_z dX3_across_21 ?_
    refine J_iadd_z dX3_across_22 ?_
    exact J_iret rfl dX3_across_23 (by first | (rw [show mAc G f + 2 * mEd bl G f = mNX bl G f t by unfold mNX; split <;> omega]; exact hq) | (rw [show mDn G f + 2 * mEd bl G f = mNX bl G f t by unfold mNX; split <;> omega]; exact hq))
section V
variable {E : jEnv} {St : Type} {w : St → jW} {o : Option MethodName} {cc : ByteArray} {mL : Nat} {ret : Option FieldType} {own : String} {R : Room} {k n pc : Nat} {L : List (Option Value)} {st : List Value} {σ : St} {Q : Option Value → St → Prop}
theorem VX3_across (G : Nat → Nat → Int) (f : Nat) {r a index : Nat} {c : Nat → Int} {bl t : Int} (hr : w σ r = some (a, fC (G f) c)) (hk : 0 ≤ G f 0 ∧ G f 0 ≤ 3) (ht : t = 0 ∨ t = 1) (q1 : Cond.methodLink own index (⟨RX3, "across", "(IZ)I"⟩ : MethodName) ∈ lw_all) (hR : 3 + 1 ≤ R.frames ∧ 192 ≤ R.locals) (hcs : k ≤ R.cells ∧ n ≤ R.slots) (hst : (st.map fun v => v.category).sum ≤ 8) (d : decode cc pc = .ok (.invokevirtual index, 3)) (kk : J E w (cX E, o) cc mL ret own R k n (pc + 3) L (.int (zI (mNX bl G f t)) :: st) σ Q) : J E w (cX E, o) cc mL ret own R k n (pc) L (.int (zI t) :: .int (zI bl) :: .ref a :: st) σ Q := by
  obtain h | h | h | h : G f 0 = 0 ∨ G f 0 = 1 ∨ G f 0 = 2 ∨ G f 0 = 3 := by omega
  · have hr' : w σ r = some (a, .inr (2, fV (G f) c)) := by rw [hr, fC, h]; rfl
    exact J_eU (y := yX3_across) (R' := (jR 3 0 0)) (owner := RX3) [.int (zI bl), .int (zI t)] 2 r hr' rfl q1 q1120 q1119 q1118 q126 q1124 rfl (by decide +kernel) cX_1 (show 3 + 1 ≤ R.frames ∧ 8 + (3 + 11) + 48 * 3 ≤ R.locals by omega) (show k + 0 ≤ R.cells ∧ n + 0 ≤ R.slots by omega) rfl hst d (JE.of (X' := (cX E, none)) (by decide +kernel) (Nat.le_of_ble_eq_true rfl) (fun _ z => by cases z) (fX3_across G f hr hk ht (J_ri kk)))
  · have hr' : w σ r = some (a, .inr (3, fV (G f) c)) := by rw [hr, fC, h]; rfl
    exact J_eU (y := yX3_across) (R' := (jR 3 0 0)) (owner := RX3) [.int (zI bl), .int (zI t)] 2 r hr' rfl q1 q1120 q1122 q1118 q126 q1124 rfl (by decide +kernel) cX_1 (show 3 + 1 ≤ R.frames ∧ 8 + (3 + 11) + 48 * 3 ≤ R.locals by omega) (show k + 0 ≤ R.cells ∧ n + 0 ≤ R.slots by omega) rfl hst d (JE.of (X' := (cX E, none)) (by decide +kernel) (Nat.le_of_ble_eq_true rfl) (fun _ z => by cases z) (fX3_across G f hr hk ht (J_ri kk)))
  · have hr' : w σ r = some (a, .inr (4, fV (G f) c)) := by rw [hr, fC, h]; rfl
    exact J_eU (y := yX3_across) (R' := (jR 3 0 0)) (owner := RX3) [.int (zI bl), .int (zI t)] 2 r hr' rfl q1 q1120 q1121 q1118 q126 q1124 rfl (by decide +kernel) cX_1 (show 3 + 1 ≤ R.frames ∧ 8 + (3 + 11) + 48 * 3 ≤ R.locals by omega) (show k + 0 ≤ R.cells ∧ n + 0 ≤ R.slots by omega) rfl hst d (JE.of (X' := (cX E, none)) (by decide +kernel) (Nat.le_of_ble_eq_true rfl) (fun _ z => by cases z) (fX3_across G f hr hk ht (J_ri kk)))
  · have hr' : w σ r = some (a, .inr (5, fV (G f) c)) := by rw [hr, fC, h]; rfl
    exact J_eU (y := yX3_across) (R' := (jR 3 0 0)) (owner := RX3) [.int (zI bl), .int (zI t)] 2 r hr' rfl q1 q1120 q1123 q1118 q126 q1124 rfl (by decide +kernel) cX_1 (show 3 + 1 ≤ R.frames ∧ 8 + (3 + 11) + 48 * 3 ≤ R.locals by omega) (show k + 0 ≤ R.cells ∧ n + 0 ≤ R.slots by omega) rfl hst d (JE.of (X' := (cX E, none)) (by decide +kernel) (Nat.le_of_ble_eq_true rfl) (fun _ z => by cases z) (fX3_across G f hr hk ht (J_ri kk)))
end V
theorem fX3_down {E : jEnv} {St : Type} {w : St → jW} {σ : St} {Q : Option Value → St → Prop} (G : Nat → Nat → Int) (f : Nat) {r a : Nat} {c : Nat → Int} {bl t : Int} (hr : w σ r = some (a, fC (G f) c)) (hk : 0 ≤ G f 0 ∧ G f 0 ≤ 3) (ht : t = 0 ∨ t = 1) (hq : Q (some (.int (zI (mNY bl G f t)))) σ) : J E w (cX E, none) cX3_down 3 (some .int) RX3 (jR 3 0 0) 0 0 0 [some (.ref a), some (.int (zI (bl))), some (.int (zI (t)))] [] σ Q := by
  refine J_iload_n dX3_down_0 rfl ?_
  refine J_if_eq_z (tgt := 11) dX3_down_1 (by decide) (by unfold zR; omega) (fun c1 => ?_) (fun c1 => ?_)
  · skip
    refine J_aload_n dX3_down_11 rfl ?_
    refine VX3_high G f  hr hk  q1099 (by decide) (by exact ⟨Nat.le_refl _, Nat.le_refl _⟩) (Nat.le_of_ble_eq_true rfl) dX3_down_12 ?_
    refine J_iconst (zI 2) dX3_down_15 rfl ?_
    refine J_aload_n dX3_down_16 rfl ?_
    refine J_iload_n dX3_down_17 rfl ?_
    refine VX3_edge G f  hr hk  q1125 (by decide) (by exact ⟨Nat.le_refl _, Nat.le_refl _⟩) (Nat.le_of_ble_eq_true rfl) dX3_down_18 ?_
    refine J_imul_z dX3_down_21 ?_
    refine J_iadd_z dX3_down_22 ?_
    exact J_iret rfl dX3_down_23 (by first | (rw [show mAc G f + 2 * mEd bl G f = mNY bl G f t by unfold mNY; split <;> omega]; exact hq) | (rw [show mDn G f + 2 * mEd bl G f = mNY bl G f t by unfold mNY; split <;> omega]; exact hq))
  · skip
    refine J_aload_n dX3_down_4 rfl ?_
    refine VX3_wide G f  hr hk  q1081 (by decide) (by exact ⟨Nat.le_refl _, Nat.le_refl _⟩) (Nat.le_of_ble_eq_true rfl) dX3_down_5 ?_
    refine J_goto (tgt := 15) dX3_down_8 (by decide) ?_
    refine J_iconst (zI 2) dX3_down_15 rfl ?_
    refine J_aload_n dX3_down_16 rfl ?_
    refine J_iload_n dX3_down_17 rfl ?_
    refine VX3_edge G f  hr hk  q1125 (by decide) (by exact ⟨Nat.le_refl _, Nat.le_refl _⟩) (Nat.le_of_ble_eq_true rfl) dX3_down_18 ?_
    refine J_imul_z dX3_down_21 ?_
    refine J_iadd_z dX3_down_22 ?_
    exact J_iret rfl dX3_down_23 (by first | (rw [show mAc G f + 2 * mEd bl G f = mNY bl G f t by unfold mNY; split <;> omega]; exact hq) | (rw [show mDn G f + 2 * mEd bl G f = mNY bl G f t by unfold mNY; split <;> omega]; exact hq))
section V
variable {E : jEnv} {St : Type} {w : St → jW} {o : Option MethodName} {cc : ByteArray} {mL : Nat} {ret : Option FieldType} {own : String} {R : Room} {k n pc : Nat} {L : List (Option Value)} {st : List Value} {σ : St} {Q : Option Value → St → Prop}
theorem VX3_down (G : Nat → Nat → Int) (f : Nat) {r a index : Nat} {c : Nat → Int} {bl t : Int} (hr : w σ r = some (a, fC (G f) c)) (hk : 0 ≤ G f 0 ∧ G f 0 ≤ 3) (ht : t = 0 ∨ t = 1) (q1 : Cond.methodLink own index (⟨RX3, "down", "(IZ)I"⟩ : MethodName) ∈ lw_all) (hR : 3 + 1 ≤ R.frames ∧ 192 ≤ R.locals) (hcs : k ≤ R.cells ∧ n ≤ R.slots) (hst : (st.map fun v => v.category).sum ≤ 8) (d : decode cc pc = .ok (.invokevirtual index, 3)) (kk : J E w (cX E, o) cc mL ret own R k n (pc + 3) L (.int (zI (mNY bl G f t)) :: st) σ Q) : J E w (cX E, o) cc mL ret own R k n (pc) L (.int (zI t) :: .int (zI bl) :: .ref a :: st) σ Q := by
  obtain h | h | h | h : G f 0 = 0 ∨ G f 0 = 1 ∨ G f 0 = 2 ∨ G f 0 = 3 := by omega
  · have hr' : w σ r = some (a, .inr (2, fV (G f) c)) := by rw [hr, fC, h]; rfl
    exact J_eU (y := yX3_down) (R' := (jR 3 0 0)) (owner := RX3) [.int (zI bl), .int (zI t)] 2 r hr' rfl q1 q1139 q1138 q1137 q126 q1143 rfl (by decide +kernel) cX_1 (show 3 + 1 ≤ R.frames ∧ 8 + (3 + 11) + 48 * 3 ≤ R.locals by omega) (show k + 0 ≤ R.cells ∧ n + 0 ≤ R.slots by omega) rfl hst d (JE.of (X' := (cX E, none)) (by decide +kernel) (Nat.le_of_ble_eq_true rfl) (fun _ z => by cases z) (fX3_down G f hr hk ht (J_ri kk)))
  · have hr' : w σ r = some (a, .inr (3, fV (G f) c)) := by rw [hr, fC, h]; rfl
    exact J_eU (y := yX3_down) (R' := (jR 3 0 0)) (owner := RX3) [.int (zI bl), .int (zI t)] 2 r hr' rfl q1 q1139 q1141 q1137 q126 q1143 rfl (by decide +kernel) cX_1 (show 3 + 1 ≤ R.frames ∧ 8 + (3 + 11) + 48 * 3 ≤ R.locals by omega) (show k + 0 ≤ R.cells ∧ n + 0 ≤ R.slots by omega) rfl hst d (JE.of (X' := (cX E, none)) (by decide +kernel) (Nat.le_of_ble_eq_true rfl) (fun _ z => by cases z) (fX3_down G f hr hk ht (J_ri kk)))
  · have hr' : w σ r = some (a, .inr (4, fV (G f) c)) := by rw [hr, fC, h]; rfl
    exact J_eU (y := yX3_down) (R' := (jR 3 0 0)) (owner := RX3) [.int (zI bl), .int (zI t)] 2 r hr' rfl q1 q1139 q1140 q1137 q126 q1143 rfl (by decide +kernel) cX_1 (show 3 + 1 ≤ R.frames ∧ 8 + (3 + 11) + 48 * 3 ≤ R.locals by omega) (show k + 0 ≤ R.cells ∧ n + 0 ≤ R.slots by omega) rfl hst d (JE.of (X' := (cX E, none)) (by decide +kernel) (Nat.le_of_ble_eq_true rfl) (fun _ z => by cases z) (fX3_down G f hr hk ht (J_ri kk)))
  · have hr' : w σ r = some (a, .inr (5, fV (G f) c)) := by rw [hr, fC, h]; rfl
    exact J_eU (y := yX3_down) (R' := (jR 3 0 0)) (owner := RX3) [.int (zI bl), .int (zI t)] 2 r hr' rfl q1 q1139 q1142 q1137 q126 q1143 rfl (by decide +kernel) cX_1 (show 3 + 1 ≤ R.frames ∧ 8 + (3 + 11) + 48 * 3 ≤ R.locals by omega) (show k + 0 ≤ R.cells ∧ n + 0 ≤ R.slots by omega) rfl hst d (JE.of (X' := (cX E, none)) (by decide +kernel) (Nat.le_of_ble_eq_true rfl) (fun _ z => by cases z) (fX3_down G f hr hk ht (J_ri kk)))
end V
theorem fX3_needs {E : jEnv} {St : Type} {w : St → jW} {σ : St} {Q : Option Value → St → Prop} (G : Nat → Nat → Int) (f : Nat) {r a : Nat} {c : Nat → Int} {bl : Int} (hr : w σ r = some (a, fC (G f) c)) (hk : 0 ≤ G f 0 ∧ G f 0 ≤ 3) (hq : Q (some (.int (zI (mNX bl G f 0 * mNY bl G f 0)))) σ) : J E w (cX E, none) cX3_needs 2 (some .int) RX3 (jR 4 0 0) 0 0 0 [some (.ref a), some (.int (zI (bl)))] [] σ Q := by
  refine J_aload_n dX3_needs_0 rfl ?_
  refine J_iload_n dX3_needs_1 rfl ?_
  refine J_iconst (zI 0) dX3_needs_2 rfl ?_
  refine VX3_across G f  hr hk (Or.inl rfl) q1117 (by decide) (by exact ⟨Nat.le_refl _, Nat.le_refl _⟩) (Nat.le_of_ble_eq_true rfl) dX3_needs_3 ?_
  refine J_aload_n dX3_needs_6 rfl ?_
  refine J_iload_n dX3_needs_7 rfl ?_
  refine J_iconst (zI 0) dX3_needs_8 rfl ?_
  refine VX3_down G f  hr hk (Or.inl rfl) q1136 (by decide) (by exact ⟨Nat.le_refl _, Nat.le_refl _⟩) (Nat.le_of_ble_eq_true rfl) dX3_needs_9 ?_
  refine J_imul_z dX3_needs_12 ?_
  exact J_iret rfl dX3_needs_13 (by exact hq)
section V
variable {E : jEnv} {St : Type} {w : St → jW} {o : Option MethodName} {cc : ByteArray} {mL : Nat} {ret : Option FieldType} {own : String} {R : Room} {k n pc : Nat} {L : List (Option Value)} {st : List Value} {σ : St} {Q : Option Value → St → Prop}
theorem VX3_needs (G : Nat → Nat → Int) (f : Nat) {r a index : Nat} {c : Nat → Int} {bl : Int} (hr : w σ r = some (a, fC (G f) c)) (hk : 0 ≤ G f 0 ∧ G f 0 ≤ 3)  (q1 : Cond.methodLink own index (⟨RX3, "needs", "(I)I"⟩ : MethodName) ∈ lw_all) (hR : 4 + 1 ≤ R.frames ∧ 240 ≤ R.locals) (hcs : k ≤ R.cells ∧ n ≤ R.slots) (hst : (st.map fun v => v.category).sum ≤ 8) (d : decode cc pc = .ok (.invokevirtual index, 3)) (kk : J E w (cX E, o) cc mL ret own R k n (pc + 3) L (.int (zI (mNX bl G f 0 * mNY bl G f 0)) :: st) σ Q) : J E w (cX E, o) cc mL ret own R k n (pc) L (.int (zI bl) :: .ref a :: st) σ Q := by
  obtain h | h | h | h : G f 0 = 0 ∨ G f 0 = 1 ∨ G f 0 = 2 ∨ G f 0 = 3 := by omega
  · have hr' : w σ r = some (a, .inr (2, fV (G f) c)) := by rw [hr, fC, h]; rfl
    exact J_eU (y := yX3_needs) (R' := (jR 4 0 0)) (owner := RX3) [.int (zI bl)] 1 r hr' rfl q1 q2121 q2123 q1204 q126 q1205 rfl (by decide +kernel) cX_1 (show 4 + 1 ≤ R.frames ∧ 8 + (2 + 11) + 48 * 4 ≤ R.locals by omega) (show k + 0 ≤ R.cells ∧ n + 0 ≤ R.slots by omega) rfl hst d (JE.of (X' := (cX E, none)) (by decide +kernel) (Nat.le_of_ble_eq_true rfl) (fun _ z => by cases z) (fX3_needs G f hr hk (J_ri kk)))
  · have hr' : w σ r = some (a, .inr (3, fV (G f) c)) := by rw [hr, fC, h]; rfl
    exact J_eU (y := yX3_needs) (R' := (jR 4 0 0)) (owner := RX3) [.int (zI bl)] 1 r hr' rfl q1 q2121 q2124 q1204 q126 q1205 rfl (by decide +kernel) cX_1 (show 4 + 1 ≤ R.frames ∧ 8 + (2 + 11) + 48 * 4 ≤ R.locals by omega) (show k + 0 ≤ R.cells ∧ n + 0 ≤ R.slots by omega) rfl hst d (JE.of (X' := (cX E, none)) (by decide +kernel) (Nat.le_of_ble_eq_true rfl) (fun _ z => by cases z) (fX3_needs G f hr hk (J_ri kk)))
  · have hr' : w σ r = some (a, .inr (4, fV (G f) c)) := by rw [hr, fC, h]; rfl
    exact J_eU (y := yX3_needs) (R' := (jR 4 0 0)) (owner := RX3) [.int (zI bl)] 1 r hr' rfl q1 q2121 q2122 q1204 q126 q1205 rfl (by decide +kernel) cX_1 (show 4 + 1 ≤ R.frames ∧ 8 + (2 + 11) + 48 * 4 ≤ R.locals by omega) (show k + 0 ≤ R.cells ∧ n + 0 ≤ R.slots by omega) rfl hst d (JE.of (X' := (cX E, none)) (by decide +kernel) (Nat.le_of_ble_eq_true rfl) (fun _ z => by cases z) (fX3_needs G f hr hk (J_ri kk)))
  · have hr' : w σ r = some (a, .inr (5, fV (G f) c)) := by rw [hr, fC, h]; rfl
    exact J_eU (y := yX3_needs) (R' := (jR 4 0 0)) (owner := RX3) [.int (zI bl)] 1 r hr' rfl q1 q2121 q2125 q1204 q126 q1205 rfl (by decide +kernel) cX_1 (show 4 + 1 ≤ R.frames ∧ 8 + (2 + 11) + 48 * 4 ≤ R.locals by omega) (show k + 0 ≤ R.cells ∧ n + 0 ≤ R.slots by omega) rfl hst d (JE.of (X' := (cX E, none)) (by decide +kernel) (Nat.le_of_ble_eq_true rfl) (fun _ z => by cases z) (fX3_needs G f hr hk (J_ri kk)))
end V
section V
variable {E : jEnv} {St : Type} {w : St → jW} {o : Option MethodName} {cc : ByteArray} {mL : Nat} {ret : Option FieldType} {own : String} {R : Room} {k n pc : Nat} {L : List (Option Value)} {st : List Value} {σ : St} {Q : Option Value → St → Prop}
theorem VX5_needs (G : Nat → Nat → Int) (f : Nat) {r a index : Nat} {c : Nat → Int} {bl : Int} (hr : w σ r = some (a, fC (G f) c)) (hk : 0 ≤ G f 0 ∧ G f 0 ≤ 3) (hkk : G f 0 = 2) (q1 : Cond.methodLink own index (⟨RX5, "needs", "(I)I"⟩ : MethodName) ∈ lw_all) (hR : 4 + 1 ≤ R.frames ∧ 240 ≤ R.locals) (hcs : k ≤ R.cells ∧ n ≤ R.slots) (hst : (st.map fun v => v.category).sum ≤ 8) (d : decode cc pc = .ok (.invokevirtual index, 3)) (kk : J E w (cX E, o) cc mL ret own R k n (pc + 3) L (.int (zI (mNX bl G f 0 * mNY bl G f 0)) :: st) σ Q) : J E w (cX E, o) cc mL ret own R k n (pc) L (.int (zI bl) :: .ref a :: st) σ Q := by
  obtain h | h | h | h : G f 0 = 0 ∨ G f 0 = 1 ∨ G f 0 = 2 ∨ G f 0 = 3 := by omega
  · have hr' : w σ r = some (a, .inr (2, fV (G f) c)) := by rw [hr, fC, h]; rfl
    exfalso; omega
  · have hr' : w σ r = some (a, .inr (3, fV (G f) c)) := by rw [hr, fC, h]; rfl
    exfalso; omega
  · have hr' : w σ r = some (a, .inr (4, fV (G f) c)) := by rw [hr, fC, h]; rfl
    exact J_eU (y := yX3_needs) (R' := (jR 4 0 0)) (owner := RX3) [.int (zI bl)] 1 r hr' rfl q1 q1201 q1203 q1204 q126 q1205 rfl (by decide +kernel) cX_1 (show 4 + 1 ≤ R.frames ∧ 8 + (2 + 11) + 48 * 4 ≤ R.locals by omega) (show k + 0 ≤ R.cells ∧ n + 0 ≤ R.slots by omega) rfl hst d (JE.of (X' := (cX E, none)) (by decide +kernel) (Nat.le_of_ble_eq_true rfl) (fun _ z => by cases z) (fX3_needs G f hr hk (J_ri kk)))
  · have hr' : w σ r = some (a, .inr (5, fV (G f) c)) := by rw [hr, fC, h]; rfl
    exfalso; omega
end V
theorem s_isIn {E : jEnv} {St : Type} {w : St → jW} {σ : St} {Q : Option Value → St → Prop} {v lo hi : Int} (rv : zR v) (rl : zR lo) (rh : zR hi) (h1 : lo ≤ v ∧ v ≤ hi → Q (some (.int (zI 1))) σ) (h0 : ¬ (lo ≤ v ∧ v ≤ hi) → Q (some (.int (zI 0))) σ) : J E w (cX E, none) cX0_isIn 3 (some .boolean) RX0 (jR 1 0 0) 0 0 0 [some (.int (zI (v))), some (.int (zI (lo))), some (.int (zI (hi)))] [] σ Q := by
  refine J_iload_n dX0_isIn_0 rfl ?_
  refine J_iload_n dX0_isIn_1 rfl ?_
  refine J_icmp_lt_z (tgt := 14) dX0_isIn_2 (by decide) (by assumption) (by assumption) (fun c2 => ?_) (fun c2 => ?_)
  · skip
    refine J_iconst (zI 0) dX0_isIn_14 rfl ?_
    exact J_zret rfl dX0_isIn_15 rfl (by first | exact h1 (by omega) | exact h0 (by omega))
  · skip
    refine J_iload_n dX0_isIn_5 rfl ?_
    refine J_iload_n dX0_isIn_6 rfl ?_
    refine J_icmp_gt_z (tgt := 14) dX0_isIn_7 (by decide) (by assumption) (by assumption) (fun c7 => ?_) (fun c7 => ?_)
    · skip
      refine J_iconst (zI 0) dX0_isIn_14 rfl ?_
      exact J_zret rfl dX0_isIn_15 rfl (by first | exact h1 (by omega) | exact h0 (by omega))
    · skip
      refine J_iconst (zI 1) dX0_isIn_10 rfl ?_
      refine J_goto (tgt := 15) dX0_isIn_11 (by decide) ?_
      exact J_zret rfl dX0_isIn_15 rfl (by first | exact h1 (by omega) | exact h0 (by omega))
theorem s_less {E : jEnv} {St : Type} {w : St → jW} {σ : St} {Q : Option Value → St → Prop} {x y : Int} (rx : zR x) (ry : zR y) (hq : Q (some (.int (zI (if x < y then x else y)))) σ) : J E w (cX E, none) cX10_less 2 (some .int) RX10 (jR 1 0 0) 0 0 0 [some (.int (zI (x))), some (.int (zI (y)))] [] σ Q := by
  refine J_iload_n dX10_less_0 rfl ?_
  refine J_iload_n dX10_less_1 rfl ?_
  refine J_icmp_ge_z (tgt := 9) dX10_less_2 (by decide) (by assumption) (by assumption) (fun c2 => ?_) (fun c2 => ?_)
  · skip
    refine J_iload_n dX10_less_9 rfl ?_
    exact J_iret rfl dX10_less_10 (by first | (rw [if_neg (by omega)] at hq; exact hq) | (rw [if_pos (by omega)] at hq; exact hq))
  · skip
    refine J_iload_n dX10_less_5 rfl ?_
    refine J_goto (tgt := 10) dX10_less_6 (by decide) ?_
    exact J_iret rfl dX10_less_10 (by first | (rw [if_neg (by omega)] at hq; exact hq) | (rw [if_pos (by omega)] at hq; exact hq))
theorem s_greater {E : jEnv} {St : Type} {w : St → jW} {σ : St} {Q : Option Value → St → Prop} {x y : Int} (rx : zR x) (ry : zR y) (hq : Q (some (.int (zI (if x < y then y else x)))) σ) : J E w (cX E, none) cX10_greater 2 (some .int) RX10 (jR 1 0 0) 0 0 0 [some (.int (zI (x))), some (.int (zI (y)))] [] σ Q := by
  refine J_iload_n dX10_greater_0 rfl ?_
  refine J_iload_n dX10_greater_1 rfl ?_
  refine J_icmp_ge_z (tgt := 9) dX10_greater_2 (by decide) (by assumption) (by assumption) (fun c2 => ?_) (fun c2 => ?_)
  · skip
    refine J_iload_n dX10_greater_9 rfl ?_
    exact J_iret rfl dX10_greater_10 (by first | (rw [if_neg (by omega)] at hq; exact hq) | (rw [if_pos (by omega)] at hq; exact hq))
  · skip
    refine J_iload_n dX10_greater_5 rfl ?_
    refine J_goto (tgt := 10) dX10_greater_6 (by decide) ?_
    exact J_iret rfl dX10_greater_10 (by first | (rw [if_neg (by omega)] at hq; exact hq) | (rw [if_pos (by omega)] at hq; exact hq))
section V
variable {E : jEnv} {St : Type} {w : St → jW} {o : Option MethodName} {cc : ByteArray} {mL : Nat} {ret : Option FieldType} {own : String} {R : Room} {k n pc : Nat} {L : List (Option Value)} {st : List Value} {σ : St} {Q : Option Value → St → Prop}
theorem PX0_isIn {v lo hi : Int} (rv : zR v) (rl : zR lo) (rh : zR hi) (hR : 1 + 1 ≤ R.frames ∧ 96 ≤ R.locals) (hcs : k ≤ R.cells ∧ n ≤ R.slots) (hst : (st.map fun v => v.category).sum ≤ 8) (d : decode cc pc = .ok (.invokestatic 78, 3)) (h1 : lo ≤ v ∧ v ≤ hi → J E w (cX E, o) cc mL ret RX0 R k n (pc + 3) L (.int (zI 1) :: st) σ Q) (h0 : ¬ (lo ≤ v ∧ v ≤ hi) → J E w (cX E, o) cc mL ret RX0 R k n (pc + 3) L (.int (zI 0) :: st) σ Q) : J E w (cX E, o) cc mL ret RX0 R k n (pc) L (.int (zI hi) :: .int (zI lo) :: .int (zI v) :: st) σ Q := J_eS (y := yX0_isIn) (R' := (jR 1 0 0)) [.int (zI v), .int (zI lo), .int (zI hi)] 3 q371 q372 q105 q373 (by decide +kernel) cX_1 (show 1 + 1 ≤ R.frames ∧ 8 + (3 + 11) + 48 * 1 ≤ R.locals by omega) (show k + 0 ≤ R.cells ∧ n + 0 ≤ R.slots by omega) rfl hst d (JE.of (X' := (cX E, none)) (by decide +kernel) (Nat.le_of_ble_eq_true rfl) (fun _ z => by cases z) (s_isIn rv rl rh (fun z => J_ri (h1 z)) (fun z => J_ri (h0 z))))
end V
section V
variable {E : jEnv} {St : Type} {w : St → jW} {o : Option MethodName} {cc : ByteArray} {mL : Nat} {ret : Option FieldType} {own : String} {R : Room} {k n pc : Nat} {L : List (Option Value)} {st : List Value} {σ : St} {Q : Option Value → St → Prop}
theorem PX3_isIn {v lo hi : Int} (rv : zR v) (rl : zR lo) (rh : zR hi) (hR : 1 + 1 ≤ R.frames ∧ 96 ≤ R.locals) (hcs : k ≤ R.cells ∧ n ≤ R.slots) (hst : (st.map fun v => v.category).sum ≤ 8) (d : decode cc pc = .ok (.invokestatic 60, 3)) (h1 : lo ≤ v ∧ v ≤ hi → J E w (cX E, o) cc mL ret RX3 R k n (pc + 3) L (.int (zI 1) :: st) σ Q) (h0 : ¬ (lo ≤ v ∧ v ≤ hi) → J E w (cX E, o) cc mL ret RX3 R k n (pc + 3) L (.int (zI 0) :: st) σ Q) : J E w (cX E, o) cc mL ret RX3 R k n (pc) L (.int (zI hi) :: .int (zI lo) :: .int (zI v) :: st) σ Q := J_eSN (y := yX0_isIn) (R' := (jR 1 0 0)) [.int (zI v), .int (zI lo), .int (zI hi)] 3 (fun A s h => h.1 _ q1456 rfl) q372 q105 q373 (by decide +kernel) cX_1 (show 1 + 1 ≤ R.frames ∧ 8 + (3 + 11) + 48 * 1 ≤ R.locals by omega) (show k + 0 ≤ R.cells ∧ n + 0 ≤ R.slots by omega) rfl hst d (JE.of (X' := (cX E, none)) (by decide +kernel) (Nat.le_of_ble_eq_true rfl) (fun _ z => by cases z) (s_isIn rv rl rh (fun z => J_ri (h1 z)) (fun z => J_ri (h0 z))))
end V
section V
variable {E : jEnv} {St : Type} {w : St → jW} {o : Option MethodName} {cc : ByteArray} {mL : Nat} {ret : Option FieldType} {own : String} {R : Room} {k n pc : Nat} {L : List (Option Value)} {st : List Value} {σ : St} {Q : Option Value → St → Prop}
theorem PX1_less {x y : Int} (rx : zR x) (ry : zR y) (hR : 1 + 1 ≤ R.frames ∧ 96 ≤ R.locals) (hcs : k ≤ R.cells ∧ n ≤ R.slots) (hst : (st.map fun v => v.category).sum ≤ 8) (d : decode cc pc = .ok (.invokestatic 7, 3)) (kk : J E w (cX E, o) cc mL ret RX1 R k n (pc + 3) L (.int (zI (if x < y then x else y)) :: st) σ Q) : J E w (cX E, o) cc mL ret RX1 R k n (pc) L (.int (zI y) :: .int (zI x) :: st) σ Q := J_eS (y := yX10_less) (R' := (jR 1 0 0)) [.int (zI x), .int (zI y)] 2 q1317 q1194 q136 q1195 (by decide +kernel) cX_1 (show 1 + 1 ≤ R.frames ∧ 8 + (2 + 11) + 48 * 1 ≤ R.locals by omega) (show k + 0 ≤ R.cells ∧ n + 0 ≤ R.slots by omega) rfl hst d (JE.of (X' := (cX E, none)) (by decide +kernel) (Nat.le_of_ble_eq_true rfl) (fun _ z => by cases z) (s_less rx ry (J_ri kk)))
end V
section V
variable {E : jEnv} {St : Type} {w : St → jW} {o : Option MethodName} {cc : ByteArray} {mL : Nat} {ret : Option FieldType} {own : String} {R : Room} {k n pc : Nat} {L : List (Option Value)} {st : List Value} {σ : St} {Q : Option Value → St → Prop}
theorem PX4_less {x y : Int} (rx : zR x) (ry : zR y) (hR : 1 + 1 ≤ R.frames ∧ 96 ≤ R.locals) (hcs : k ≤ R.cells ∧ n ≤ R.slots) (hst : (st.map fun v => v.category).sum ≤ 8) (d : decode cc pc = .ok (.invokestatic 30, 3)) (kk : J E w (cX E, o) cc mL ret RX4 R k n (pc + 3) L (.int (zI (if x < y then x else y)) :: st) σ Q) : J E w (cX E, o) cc mL ret RX4 R k n (pc) L (.int (zI y) :: .int (zI x) :: st) σ Q := J_eS (y := yX10_less) (R' := (jR 1 0 0)) [.int (zI x), .int (zI y)] 2 q1193 q1194 q136 q1195 (by decide +kernel) cX_1 (show 1 + 1 ≤ R.frames ∧ 8 + (2 + 11) + 48 * 1 ≤ R.locals by omega) (show k + 0 ≤ R.cells ∧ n + 0 ≤ R.slots by omega) rfl hst d (JE.of (X' := (cX E, none)) (by decide +kernel) (Nat.le_of_ble_eq_true rfl) (fun _ z => by cases z) (s_less rx ry (J_ri kk)))
end V
section V
variable {E : jEnv} {St : Type} {w : St → jW} {o : Option MethodName} {cc : ByteArray} {mL : Nat} {ret : Option FieldType} {own : String} {R : Room} {k n pc : Nat} {L : List (Option Value)} {st : List Value} {σ : St} {Q : Option Value → St → Prop}
theorem PX10_less {x y : Int} (rx : zR x) (ry : zR y) (hR : 1 + 1 ≤ R.frames ∧ 96 ≤ R.locals) (hcs : k ≤ R.cells ∧ n ≤ R.slots) (hst : (st.map fun v => v.category).sum ≤ 8) (d : decode cc pc = .ok (.invokestatic 1, 3)) (kk : J E w (cX E, o) cc mL ret RX10 R k n (pc + 3) L (.int (zI (if x < y then x else y)) :: st) σ Q) : J E w (cX E, o) cc mL ret RX10 R k n (pc) L (.int (zI y) :: .int (zI x) :: st) σ Q := J_eS (y := yX10_less) (R' := (jR 1 0 0)) [.int (zI x), .int (zI y)] 2 q1326 q1194 q136 q1195 (by decide +kernel) cX_1 (show 1 + 1 ≤ R.frames ∧ 8 + (2 + 11) + 48 * 1 ≤ R.locals by omega) (show k + 0 ≤ R.cells ∧ n + 0 ≤ R.slots by omega) rfl hst d (JE.of (X' := (cX E, none)) (by decide +kernel) (Nat.le_of_ble_eq_true rfl) (fun _ z => by cases z) (s_less rx ry (J_ri kk)))
end V
section V
variable {E : jEnv} {St : Type} {w : St → jW} {o : Option MethodName} {cc : ByteArray} {mL : Nat} {ret : Option FieldType} {own : String} {R : Room} {k n pc : Nat} {L : List (Option Value)} {st : List Value} {σ : St} {Q : Option Value → St → Prop}
theorem PX0_greater {x y : Int} (rx : zR x) (ry : zR y) (hR : 1 + 1 ≤ R.frames ∧ 96 ≤ R.locals) (hcs : k ≤ R.cells ∧ n ≤ R.slots) (hst : (st.map fun v => v.category).sum ≤ 8) (d : decode cc pc = .ok (.invokestatic 423, 3)) (kk : J E w (cX E, o) cc mL ret RX0 R k n (pc + 3) L (.int (zI (if x < y then y else x)) :: st) σ Q) : J E w (cX E, o) cc mL ret RX0 R k n (pc) L (.int (zI y) :: .int (zI x) :: st) σ Q := J_eS (y := yX10_greater) (R' := (jR 1 0 0)) [.int (zI x), .int (zI y)] 2 q1391 q1191 q136 q1192 (by decide +kernel) cX_1 (show 1 + 1 ≤ R.frames ∧ 8 + (2 + 11) + 48 * 1 ≤ R.locals by omega) (show k + 0 ≤ R.cells ∧ n + 0 ≤ R.slots by omega) rfl hst d (JE.of (X' := (cX E, none)) (by decide +kernel) (Nat.le_of_ble_eq_true rfl) (fun _ z => by cases z) (s_greater rx ry (J_ri kk)))
end V
section V
variable {E : jEnv} {St : Type} {w : St → jW} {o : Option MethodName} {cc : ByteArray} {mL : Nat} {ret : Option FieldType} {own : String} {R : Room} {k n pc : Nat} {L : List (Option Value)} {st : List Value} {σ : St} {Q : Option Value → St → Prop}
theorem PX1_greater {x y : Int} (rx : zR x) (ry : zR y) (hR : 1 + 1 ≤ R.frames ∧ 96 ≤ R.locals) (hcs : k ≤ R.cells ∧ n ≤ R.slots) (hst : (st.map fun v => v.category).sum ≤ 8) (d : decode cc pc = .ok (.invokestatic 13, 3)) (kk : J E w (cX E, o) cc mL ret RX1 R k n (pc + 3) L (.int (zI (if x < y then y else x)) :: st) σ Q) : J E w (cX E, o) cc mL ret RX1 R k n (pc) L (.int (zI y) :: .int (zI x) :: st) σ Q := J_eS (y := yX10_greater) (R' := (jR 1 0 0)) [.int (zI x), .int (zI y)] 2 q1338 q1191 q136 q1192 (by decide +kernel) cX_1 (show 1 + 1 ≤ R.frames ∧ 8 + (2 + 11) + 48 * 1 ≤ R.locals by omega) (show k + 0 ≤ R.cells ∧ n + 0 ≤ R.slots by omega) rfl hst d (JE.of (X' := (cX E, none)) (by decide +kernel) (Nat.le_of_ble_eq_true rfl) (fun _ z => by cases z) (s_greater rx ry (J_ri kk)))
end V
section V
variable {E : jEnv} {St : Type} {w : St → jW} {o : Option MethodName} {cc : ByteArray} {mL : Nat} {ret : Option FieldType} {own : String} {R : Room} {k n pc : Nat} {L : List (Option Value)} {st : List Value} {σ : St} {Q : Option Value → St → Prop}
theorem PX4_greater {x y : Int} (rx : zR x) (ry : zR y) (hR : 1 + 1 ≤ R.frames ∧ 96 ≤ R.locals) (hcs : k ≤ R.cells ∧ n ≤ R.slots) (hst : (st.map fun v => v.category).sum ≤ 8) (d : decode cc pc = .ok (.invokestatic 24, 3)) (kk : J E w (cX E, o) cc mL ret RX4 R k n (pc + 3) L (.int (zI (if x < y then y else x)) :: st) σ Q) : J E w (cX E, o) cc mL ret RX4 R k n (pc) L (.int (zI y) :: .int (zI x) :: st) σ Q := J_eS (y := yX10_greater) (R' := (jR 1 0 0)) [.int (zI x), .int (zI y)] 2 q1190 q1191 q136 q1192 (by decide +kernel) cX_1 (show 1 + 1 ≤ R.frames ∧ 8 + (2 + 11) + 48 * 1 ≤ R.locals by omega) (show k + 0 ≤ R.cells ∧ n + 0 ≤ R.slots by omega) rfl hst d (JE.of (X' := (cX E, none)) (by decide +kernel) (Nat.le_of_ble_eq_true rfl) (fun _ z => by cases z) (s_greater rx ry (J_ri kk)))
end V
section V
variable {E : jEnv} {St : Type} {w : St → jW} {o : Option MethodName} {cc : ByteArray} {mL : Nat} {ret : Option FieldType} {own : String} {R : Room} {k n pc : Nat} {L : List (Option Value)} {st : List Value} {σ : St} {Q : Option Value → St → Prop}
theorem PX9_greater {x y : Int} (rx : zR x) (ry : zR y) (hR : 1 + 1 ≤ R.frames ∧ 96 ≤ R.locals) (hcs : k ≤ R.cells ∧ n ≤ R.slots) (hst : (st.map fun v => v.category).sum ≤ 8) (d : decode cc pc = .ok (.invokestatic 7, 3)) (kk : J E w (cX E, o) cc mL ret RX9 R k n (pc + 3) L (.int (zI (if x < y then y else x)) :: st) σ Q) : J E w (cX E, o) cc mL ret RX9 R k n (pc) L (.int (zI y) :: .int (zI x) :: st) σ Q := J_eS (y := yX10_greater) (R' := (jR 1 0 0)) [.int (zI x), .int (zI y)] 2 q1304 q1191 q136 q1192 (by decide +kernel) cX_1 (show 1 + 1 ≤ R.frames ∧ 8 + (2 + 11) + 48 * 1 ≤ R.locals by omega) (show k + 0 ≤ R.cells ∧ n + 0 ≤ R.slots by omega) rfl hst d (JE.of (X' := (cX E, none)) (by decide +kernel) (Nat.le_of_ble_eq_true rfl) (fun _ z => by cases z) (s_greater rx ry (J_ri kk)))
end V
theorem fX3_takes {E : jEnv} {St : Type} {w : St → jW} {σ : St} {Q : Option Value → St → Prop} (G : Nat → Nat → Int) (f : Nat) {r a : Nat} {c : Nat → Int} {bl x y : Int} (hr : w σ r = some (a, fC (G f) c)) (hk : 0 ≤ G f 0 ∧ G f 0 ≤ 3) (hb : 0 ≤ c 1 ∧ c 1 ≤ 100 ∧ 0 ≤ c 2 ∧ c 2 ≤ 100 ∧ -100 ≤ x ∧ x ≤ 100 ∧ -100 ≤ y ∧ y ≤ 100) (hc : c 3 = 0 ∨ c 3 = 1) (hx : 1 ≤ mNX bl G f (c 3) ∧ mNX bl G f (c 3) ≤ 22) (hy : 1 ≤ mNY bl G f (c 3) ∧ mNY bl G f (c 3) ≤ 22) (h1 : c 1 ≤ x ∧ x < c 1 + mNX bl G f (c 3) ∧ c 2 ≤ y ∧ y < c 2 + mNY bl G f (c 3) → Q (some (.int (zI 1))) σ) (h0 : ¬ (c 1 ≤ x ∧ x < c 1 + mNX bl G f (c 3) ∧ c 2 ≤ y ∧ y < c 2 + mNY bl G f (c 3)) → Q (some (.int (zI 0))) σ) : J E w (cX E, none) cX3_takes 4 (some .boolean) RX3 (jR 4 0 0) 0 0 0 [some (.ref a), some (.int (zI (bl))), some (.int (zI (x))), some (.int (zI (y)))] [] σ Q := by
  refine J_iload_n dX3_takes_0 rfl ?_
  refine J_aload_n dX3_takes_1 rfl ?_
  refine FG_x G f hr hk dX3_takes_2 ?_
  refine J_aload_n dX3_takes_5 rfl ?_
  refine FG_x G f hr hk dX3_takes_6 ?_
  refine J_aload_n dX3_takes_9 rfl ?_
  refine J_iload_n dX3_takes_10 rfl ?_
  refine J_aload_n dX3_takes_11 rfl ?_
  refine FG_turned G f hr hk dX3_takes_12 ?_
  refine VX3_across G f  hr hk hc q1117 (by decide) (by exact ⟨Nat.le_refl _, Nat.le_refl _⟩) (Nat.le_of_ble_eq_true rfl) dX3_takes_15 ?_
  refine J_iadd_z dX3_takes_18 ?_
  refine J_iconst (zI 1) dX3_takes_19 rfl ?_
  refine J_isub_z dX3_takes_20 ?_
  refine PX3_isIn (by unfold zR; omega) (by unfold zR; omega) (by unfold zR; omega) (by decide) (by exact ⟨Nat.le_refl _, Nat.le_refl _⟩) (Nat.le_of_ble_eq_true rfl) dX3_takes_21 (fun b21 => ?_) (fun b21 => ?_)
  · skip
    refine J_if_eq_n (tgt := 58) dX3_takes_24 (by decide) (by decide) ?_
    refine J_iload_n dX3_takes_27 rfl ?_
    refine J_aload_n dX3_takes_28 rfl ?_
    refine FG_y G f hr hk dX3_takes_29 ?_
    refine J_aload_n dX3_takes_32 rfl ?_
    refine FG_y G f hr hk dX3_takes_33 ?_
    refine J_aload_n dX3_takes_36 rfl ?_
    refine J_iload_n dX3_takes_37 rfl ?_
    refine J_aload_n dX3_takes_38 rfl ?_
    refine FG_turned G f hr hk dX3_takes_39 ?_
    refine VX3_down G f  hr hk hc q1136 (by decide) (by exact ⟨Nat.le_refl _, Nat.le_refl _⟩) (Nat.le_of_ble_eq_true rfl) dX3_takes_42 ?_
    refine J_iadd_z dX3_takes_45 ?_
    refine J_iconst (zI 1) dX3_takes_46 rfl ?_
    refine J_isub_z dX3_takes_47 ?_
    refine PX3_isIn (by unfold zR; omega) (by unfold zR; omega) (by unfold zR; omega) (by decide) (by exact ⟨Nat.le_refl _, Nat.le_refl _⟩) (Nat.le_of_ble_eq_true rfl) dX3_takes_48 (fun b48 => ?_) (fun b48 => ?_)
    · skip
      refine J_if_eq_n (tgt := 58) dX3_takes_51 (by decide) (by decide) ?_
      refine J_iconst (zI 1) dX3_takes_54 rfl ?_
      refine J_goto (tgt := 59) dX3_takes_55 (by decide) ?_
      exact J_zret rfl dX3_takes_59 rfl (by first | exact h1 (by omega) | exact h0 (by omega))
    · skip
      refine J_if_eq_y (tgt := 58) dX3_takes_51 (by decide) (by decide) ?_
      refine J_iconst (zI 0) dX3_takes_58 rfl ?_
      exact J_zret rfl dX3_takes_59 rfl (by first | exact h1 (by omega) | exact h0 (by omega))
  · skip
    refine J_if_eq_y (tgt := 58) dX3_takes_24 (by decide) (by decide) ?_
    refine J_iconst (zI 0) dX3_takes_58 rfl ?_
    exact J_zret rfl dX3_takes_59 rfl (by first | exact h1 (by omega) | exact h0 (by omega))
section V
variable {E : jEnv} {St : Type} {w : St → jW} {o : Option MethodName} {cc : ByteArray} {mL : Nat} {ret : Option FieldType} {own : String} {R : Room} {k n pc : Nat} {L : List (Option Value)} {st : List Value} {σ : St} {Q : Option Value → St → Prop}
theorem VX3_takes (G : Nat → Nat → Int) (f : Nat) {r a index : Nat} {c : Nat → Int} {bl x y : Int} (hr : w σ r = some (a, fC (G f) c)) (hk : 0 ≤ G f 0 ∧ G f 0 ≤ 3) (hb : 0 ≤ c 1 ∧ c 1 ≤ 100 ∧ 0 ≤ c 2 ∧ c 2 ≤ 100 ∧ -100 ≤ x ∧ x ≤ 100 ∧ -100 ≤ y ∧ y ≤ 100) (hc : c 3 = 0 ∨ c 3 = 1) (hx : 1 ≤ mNX bl G f (c 3) ∧ mNX bl G f (c 3) ≤ 22) (hy : 1 ≤ mNY bl G f (c 3) ∧ mNY bl G f (c 3) ≤ 22) (q1 : Cond.methodLink own index (⟨RX3, "takes", "(III)Z"⟩ : MethodName) ∈ lw_all) (hR : 4 + 1 ≤ R.frames ∧ 240 ≤ R.locals) (hcs : k ≤ R.cells ∧ n ≤ R.slots) (hst : (st.map fun v => v.category).sum ≤ 8) (d : decode cc pc = .ok (.invokevirtual index, 3)) (h1 : c 1 ≤ x ∧ x < c 1 + mNX bl G f (c 3) ∧ c 2 ≤ y ∧ y < c 2 + mNY bl G f (c 3) → J E w (cX E, o) cc mL ret own R k n (pc + 3) L (.int (zI 1) :: st) σ Q) (h0 : ¬ (c 1 ≤ x ∧ x < c 1 + mNX bl G f (c 3) ∧ c 2 ≤ y ∧ y < c 2 + mNY bl G f (c 3)) → J E w (cX E, o) cc mL ret own R k n (pc + 3) L (.int (zI 0) :: st) σ Q) : J E w (cX E, o) cc mL ret own R k n (pc) L (.int (zI y) :: .int (zI x) :: .int (zI bl) :: .ref a :: st) σ Q := by
  obtain h | h | h | h : G f 0 = 0 ∨ G f 0 = 1 ∨ G f 0 = 2 ∨ G f 0 = 3 := by omega
  · have hr' : w σ r = some (a, .inr (2, fV (G f) c)) := by rw [hr, fC, h]; rfl
    exact J_eU (y := yX3_takes) (R' := (jR 4 0 0)) (owner := RX3) [.int (zI bl), .int (zI x), .int (zI y)] 3 r hr' rfl q1 q1451 q1450 q1449 q126 q1455 rfl (by decide +kernel) cX_1 (show 4 + 1 ≤ R.frames ∧ 8 + (4 + 11) + 48 * 4 ≤ R.locals by omega) (show k + 0 ≤ R.cells ∧ n + 0 ≤ R.slots by omega) rfl hst d (JE.of (X' := (cX E, none)) (by decide +kernel) (Nat.le_of_ble_eq_true rfl) (fun _ z => by cases z) (fX3_takes G f hr hk hb hc hx hy (fun z => J_ri (h1 z)) (fun z => J_ri (h0 z))))
  · have hr' : w σ r = some (a, .inr (3, fV (G f) c)) := by rw [hr, fC, h]; rfl
    exact J_eU (y := yX3_takes) (R' := (jR 4 0 0)) (owner := RX3) [.int (zI bl), .int (zI x), .int (zI y)] 3 r hr' rfl q1 q1451 q1453 q1449 q126 q1455 rfl (by decide +kernel) cX_1 (show 4 + 1 ≤ R.frames ∧ 8 + (4 + 11) + 48 * 4 ≤ R.locals by omega) (show k + 0 ≤ R.cells ∧ n + 0 ≤ R.slots by omega) rfl hst d (JE.of (X' := (cX E, none)) (by decide +kernel) (Nat.le_of_ble_eq_true rfl) (fun _ z => by cases z) (fX3_takes G f hr hk hb hc hx hy (fun z => J_ri (h1 z)) (fun z => J_ri (h0 z))))
  · have hr' : w σ r = some (a, .inr (4, fV (G f) c)) := by rw [hr, fC, h]; rfl
    exact J_eU (y := yX3_takes) (R' := (jR 4 0 0)) (owner := RX3) [.int (zI bl), .int (zI x), .int (zI y)] 3 r hr' rfl q1 q1451 q1452 q1449 q126 q1455 rfl (by decide +kernel) cX_1 (show 4 + 1 ≤ R.frames ∧ 8 + (4 + 11) + 48 * 4 ≤ R.locals by omega) (show k + 0 ≤ R.cells ∧ n + 0 ≤ R.slots by omega) rfl hst d (JE.of (X' := (cX E, none)) (by decide +kernel) (Nat.le_of_ble_eq_true rfl) (fun _ z => by cases z) (fX3_takes G f hr hk hb hc hx hy (fun z => J_ri (h1 z)) (fun z => J_ri (h0 z))))
  · have hr' : w σ r = some (a, .inr (5, fV (G f) c)) := by rw [hr, fC, h]; rfl
    exact J_eU (y := yX3_takes) (R' := (jR 4 0 0)) (owner := RX3) [.int (zI bl), .int (zI x), .int (zI y)] 3 r hr' rfl q1 q1451 q1454 q1449 q126 q1455 rfl (by decide +kernel) cX_1 (show 4 + 1 ≤ R.frames ∧ 8 + (4 + 11) + 48 * 4 ≤ R.locals by omega) (show k + 0 ≤ R.cells ∧ n + 0 ≤ R.slots by omega) rfl hst d (JE.of (X' := (cX E, none)) (by decide +kernel) (Nat.le_of_ble_eq_true rfl) (fun _ z => by cases z) (fX3_takes G f hr hk hb hc hx hy (fun z => J_ri (h1 z)) (fun z => J_ri (h0 z))))
end V
theorem fX3_toldBy0 {E : jEnv} {St : Type} {w : St → jW} {σ : St} {Q : Option Value → St → Prop} (G : Nat → Nat → Int) (f : Nat) {r a : Nat} {c : Nat → Int} {bl : Int} (hr : w σ r = some (a, fC (G f) c)) (hk : 0 ≤ G f 0 ∧ G f 0 ≤ 3) (hq : Q (some (.int (zI (mTell bl G f 0)))) σ) : J E w (cX E, none) cX3_toldBy 3 (some .int) RX3 (jR 4 0 0) 0 0 0 [some (.ref a), some (.int (zI 0)), some (.int (zI bl))] [] σ Q := by
  refine J_iload_n dX3_toldBy_0 rfl ?_
  refine J_tableIn (tgt := 32) (31) dX3_toldBy_1 (by decide) (by decide) rfl (by decide) ?_
  refine J_aload_n dX3_toldBy_32 rfl ?_
  refine VX3_kind G f  hr hk  q1067 (by decide) (by exact ⟨Nat.le_refl _, Nat.le_refl _⟩) (Nat.le_of_ble_eq_true rfl) dX3_toldBy_33 ?_
  refine J_goto (tgt := 68) dX3_toldBy_36 (by decide) ?_
  exact J_iret rfl dX3_toldBy_68 (by exact hq)
theorem fX3_toldBy1 {E : jEnv} {St : Type} {w : St → jW} {σ : St} {Q : Option Value → St → Prop} (G : Nat → Nat → Int) (f : Nat) {r a : Nat} {c : Nat → Int} {bl : Int} (hr : w σ r = some (a, fC (G f) c)) (hk : 0 ≤ G f 0 ∧ G f 0 ≤ 3) (hq : Q (some (.int (zI (mTell bl G f 1)))) σ) : J E w (cX E, none) cX3_toldBy 3 (some .int) RX3 (jR 4 0 0) 0 0 0 [some (.ref a), some (.int (zI 1)), some (.int (zI bl))] [] σ Q := by
  refine J_iload_n dX3_toldBy_0 rfl ?_
  refine J_tableIn (tgt := 39) (38) dX3_toldBy_1 (by decide) (by decide) rfl (by decide) ?_
  refine J_aload_n dX3_toldBy_39 rfl ?_
  refine VX3_wide G f  hr hk  q1081 (by decide) (by exact ⟨Nat.le_refl _, Nat.le_refl _⟩) (Nat.le_of_ble_eq_true rfl) dX3_toldBy_40 ?_
  refine J_goto (tgt := 68) dX3_toldBy_43 (by decide) ?_
  exact J_iret rfl dX3_toldBy_68 (by exact hq)
theorem fX3_toldBy2 {E : jEnv} {St : Type} {w : St → jW} {σ : St} {Q : Option Value → St → Prop} (G : Nat → Nat → Int) (f : Nat) {r a : Nat} {c : Nat → Int} {bl : Int} (hr : w σ r = some (a, fC (G f) c)) (hk : 0 ≤ G f 0 ∧ G f 0 ≤ 3) (hq : Q (some (.int (zI (mTell bl G f 2)))) σ) : J E w (cX E, none) cX3_toldBy 3 (some .int) RX3 (jR 4 0 0) 0 0 0 [some (.ref a), some (.int (zI 2)), some (.int (zI bl))] [] σ Q := by
  refine J_iload_n dX3_toldBy_0 rfl ?_
  refine J_tableIn (tgt := 46) (45) dX3_toldBy_1 (by decide) (by decide) rfl (by decide) ?_
  refine J_aload_n dX3_toldBy_46 rfl ?_
  refine VX3_high G f  hr hk  q1099 (by decide) (by exact ⟨Nat.le_refl _, Nat.le_refl _⟩) (Nat.le_of_ble_eq_true rfl) dX3_toldBy_47 ?_
  refine J_goto (tgt := 68) dX3_toldBy_50 (by decide) ?_
  exact J_iret rfl dX3_toldBy_68 (by exact hq)
theorem fX3_toldBy3 {E : jEnv} {St : Type} {w : St → jW} {σ : St} {Q : Option Value → St → Prop} (G : Nat → Nat → Int) (f : Nat) {r a : Nat} {c : Nat → Int} {bl : Int} (hr : w σ r = some (a, fC (G f) c)) (hk : 0 ≤ G f 0 ∧ G f 0 ≤ 3) (hq : Q (some (.int (zI (mTell bl G f 3)))) σ) : J E w (cX E, none) cX3_toldBy 3 (some .int) RX3 (jR 4 0 0) 0 0 0 [some (.ref a), some (.int (zI 3)), some (.int (zI bl))] [] σ Q := by
  refine J_iload_n dX3_toldBy_0 rfl ?_
  refine J_tableIn (tgt := 53) (52) dX3_toldBy_1 (by decide) (by decide) rfl (by decide) ?_
  refine J_aload_n dX3_toldBy_53 rfl ?_
  refine J_iload_n dX3_toldBy_54 rfl ?_
  refine J_iconst (zI 0) dX3_toldBy_55 rfl ?_
  refine VX3_across G f  hr hk (Or.inl rfl) q1117 (by decide) (by exact ⟨Nat.le_refl _, Nat.le_refl _⟩) (Nat.le_of_ble_eq_true rfl) dX3_toldBy_56 ?_
  refine J_goto (tgt := 68) dX3_toldBy_59 (by decide) ?_
  exact J_iret rfl dX3_toldBy_68 (by exact hq)
theorem fX3_toldBy4 {E : jEnv} {St : Type} {w : St → jW} {σ : St} {Q : Option Value → St → Prop} (G : Nat → Nat → Int) (f : Nat) {r a : Nat} {c : Nat → Int} {bl : Int} (hr : w σ r = some (a, fC (G f) c)) (hk : 0 ≤ G f 0 ∧ G f 0 ≤ 3) (hq : Q (some (.int (zI (mTell bl G f 4)))) σ) : J E w (cX E, none) cX3_toldBy 3 (some .int) RX3 (jR 4 0 0) 0 0 0 [some (.ref a), some (.int (zI 4)), some (.int (zI bl))] [] σ Q := by
  refine J_iload_n dX3_toldBy_0 rfl ?_
  refine J_tableOut (tgt := 62) dX3_toldBy_1 (by decide) (by decide) ?_
  refine J_aload_n dX3_toldBy_62 rfl ?_
  refine J_iload_n dX3_toldBy_63 rfl ?_
  refine J_iconst (zI 0) dX3_toldBy_64 rfl ?_
  refine VX3_down G f  hr hk (Or.inl rfl) q1136 (by decide) (by exact ⟨Nat.le_refl _, Nat.le_refl _⟩) (Nat.le_of_ble_eq_true rfl) dX3_toldBy_65 ?_
  exact J_iret rfl dX3_toldBy_68 (by exact hq)
theorem fX3_toldBy {E : jEnv} {St : Type} {w : St → jW} {σ : St} {Q : Option Value → St → Prop} (G : Nat → Nat → Int) (f : Nat) {r a : Nat} {c : Nat → Int} {bl : Int} {m : Nat} (hr : w σ r = some (a, fC (G f) c)) (hk : 0 ≤ G f 0 ∧ G f 0 ≤ 3) (hm : m < 5) (hq : Q (some (.int (zI (mTell bl G f m)))) σ) : J E w (cX E, none) cX3_toldBy 3 (some .int) RX3 (jR 4 0 0) 0 0 0 [some (.ref a), some (.int (zI (m : Nat))), some (.int (zI bl))] [] σ Q := by
  match m, hm with
  | 0, _ => exact fX3_toldBy0 G f hr hk hq
  | 1, _ => exact fX3_toldBy1 G f hr hk hq
  | 2, _ => exact fX3_toldBy2 G f hr hk hq
  | 3, _ => exact fX3_toldBy3 G f hr hk hq
  | 4, _ => exact fX3_toldBy4 G f hr hk hq
section V
variable {E : jEnv} {St : Type} {w : St → jW} {o : Option MethodName} {cc : ByteArray} {mL : Nat} {ret : Option FieldType} {own : String} {R : Room} {k n pc : Nat} {L : List (Option Value)} {st : List Value} {σ : St} {Q : Option Value → St → Prop}
theorem VX3_toldBy (G : Nat → Nat → Int) (f : Nat) {r a index : Nat} {c : Nat → Int} {bl : Int} {m : Nat} (hr : w σ r = some (a, fC (G f) c)) (hk : 0 ≤ G f 0 ∧ G f 0 ≤ 3) (hm : m < 5) (q1 : Cond.methodLink own index (⟨RX3, "toldBy", "(II)I"⟩ : MethodName) ∈ lw_all) (hR : 4 + 1 ≤ R.frames ∧ 240 ≤ R.locals) (hcs : k ≤ R.cells ∧ n ≤ R.slots) (hst : (st.map fun v => v.category).sum ≤ 8) (d : decode cc pc = .ok (.invokevirtual index, 3)) (kk : J E w (cX E, o) cc mL ret own R k n (pc + 3) L (.int (zI (mTell bl G f m)) :: st) σ Q) : J E w (cX E, o) cc mL ret own R k n (pc) L (.int (zI bl) :: .int (zI (m : Nat)) :: .ref a :: st) σ Q := by
  obtain h | h | h | h : G f 0 = 0 ∨ G f 0 = 1 ∨ G f 0 = 2 ∨ G f 0 = 3 := by omega
  · have hr' : w σ r = some (a, .inr (2, fV (G f) c)) := by rw [hr, fC, h]; rfl
    exact J_eU (y := yX3_toldBy) (R' := (jR 4 0 0)) (owner := RX3) [.int (zI (m : Nat)), .int (zI bl)] 2 r hr' rfl q1 q1062 q1061 q1060 q126 q1066 rfl (by decide +kernel) cX_1 (show 4 + 1 ≤ R.frames ∧ 8 + (3 + 11) + 48 * 4 ≤ R.locals by omega) (show k + 0 ≤ R.cells ∧ n + 0 ≤ R.slots by omega) rfl hst d (JE.of (X' := (cX E, none)) (by decide +kernel) (Nat.le_of_ble_eq_true rfl) (fun _ z => by cases z) (fX3_toldBy G f hr hk hm (J_ri kk)))
  · have hr' : w σ r = some (a, .inr (3, fV (G f) c)) := by rw [hr, fC, h]; rfl
    exact J_eU (y := yX3_toldBy) (R' := (jR 4 0 0)) (owner := RX3) [.int (zI (m : Nat)), .int (zI bl)] 2 r hr' rfl q1 q1062 q1064 q1060 q126 q1066 rfl (by decide +kernel) cX_1 (show 4 + 1 ≤ R.frames ∧ 8 + (3 + 11) + 48 * 4 ≤ R.locals by omega) (show k + 0 ≤ R.cells ∧ n + 0 ≤ R.slots by omega) rfl hst d (JE.of (X' := (cX E, none)) (by decide +kernel) (Nat.le_of_ble_eq_true rfl) (fun _ z => by cases z) (fX3_toldBy G f hr hk hm (J_ri kk)))
  · have hr' : w σ r = some (a, .inr (4, fV (G f) c)) := by rw [hr, fC, h]; rfl
    exact J_eU (y := yX3_toldBy) (R' := (jR 4 0 0)) (owner := RX3) [.int (zI (m : Nat)), .int (zI bl)] 2 r hr' rfl q1 q1062 q1063 q1060 q126 q1066 rfl (by decide +kernel) cX_1 (show 4 + 1 ≤ R.frames ∧ 8 + (3 + 11) + 48 * 4 ≤ R.locals by omega) (show k + 0 ≤ R.cells ∧ n + 0 ≤ R.slots by omega) rfl hst d (JE.of (X' := (cX E, none)) (by decide +kernel) (Nat.le_of_ble_eq_true rfl) (fun _ z => by cases z) (fX3_toldBy G f hr hk hm (J_ri kk)))
  · have hr' : w σ r = some (a, .inr (5, fV (G f) c)) := by rw [hr, fC, h]; rfl
    exact J_eU (y := yX3_toldBy) (R' := (jR 4 0 0)) (owner := RX3) [.int (zI (m : Nat)), .int (zI bl)] 2 r hr' rfl q1 q1062 q1065 q1060 q126 q1066 rfl (by decide +kernel) cX_1 (show 4 + 1 ≤ R.frames ∧ 8 + (3 + 11) + 48 * 4 ≤ R.locals by omega) (show k + 0 ≤ R.cells ∧ n + 0 ≤ R.slots by omega) rfl hst d (JE.of (X' := (cX E, none)) (by decide +kernel) (Nat.le_of_ble_eq_true rfl) (fun _ z => by cases z) (fX3_toldBy G f hr hk hm (J_ri kk)))
end V
theorem fX3_placed0 {E : jEnv} {St : Type} {w : St → jW} {σ : St} {Q : Option Value → St → Prop} (G : Nat → Nat → Int) (f : Nat) {r a : Nat} {c : Nat → Int} (hr : w σ r = some (a, fC (G f) c)) (hk : 0 ≤ G f 0 ∧ G f 0 ≤ 3) (hc : c 3 = 0 ∨ c 3 = 1) (hq : Q (some (.int (zI (c 0)))) σ) : J E w (cX E, none) cX3_placed 2 (some .int) RX3 (jR 1 0 0) 0 0 0 [some (.ref a), some (.int (zI 0))] [] σ Q := by
  refine J_iload_n dX3_placed_0 rfl ?_
  refine J_tableIn (tgt := 28) (27) dX3_placed_1 (by decide) (by decide) rfl (by decide) ?_
  refine J_aload_n dX3_placed_28 rfl ?_
  refine FG_page G f hr hk dX3_placed_29 ?_
  refine J_goto (tgt := 61) dX3_placed_32 (by decide) ?_
  exact J_iret rfl dX3_placed_61 (by first | exact hq | (rw [show c 3 = 1 by omega] at hq; exact hq) | (rw [show c 3 = 0 by omega] at hq; exact hq))
theorem fX3_placed1 {E : jEnv} {St : Type} {w : St → jW} {σ : St} {Q : Option Value → St → Prop} (G : Nat → Nat → Int) (f : Nat) {r a : Nat} {c : Nat → Int} (hr : w σ r = some (a, fC (G f) c)) (hk : 0 ≤ G f 0 ∧ G f 0 ≤ 3) (hc : c 3 = 0 ∨ c 3 = 1) (hq : Q (some (.int (zI (c 1)))) σ) : J E w (cX E, none) cX3_placed 2 (some .int) RX3 (jR 1 0 0) 0 0 0 [some (.ref a), some (.int (zI 1))] [] σ Q := by
  refine J_iload_n dX3_placed_0 rfl ?_
  refine J_tableIn (tgt := 35) (34) dX3_placed_1 (by decide) (by decide) rfl (by decide) ?_
  refine J_aload_n dX3_placed_35 rfl ?_
  refine FG_x G f hr hk dX3_placed_36 ?_
  refine J_goto (tgt := 61) dX3_placed_39 (by decide) ?_
  exact J_iret rfl dX3_placed_61 (by first | exact hq | (rw [show c 3 = 1 by omega] at hq; exact hq) | (rw [show c 3 = 0 by omega] at hq; exact hq))
theorem fX3_placed2 {E : jEnv} {St : Type} {w : St → jW} {σ : St} {Q : Option Value → St → Prop} (G : Nat → Nat → Int) (f : Nat) {r a : Nat} {c : Nat → Int} (hr : w σ r = some (a, fC (G f) c)) (hk : 0 ≤ G f 0 ∧ G f 0 ≤ 3) (hc : c 3 = 0 ∨ c 3 = 1) (hq : Q (some (.int (zI (c 2)))) σ) : J E w (cX E, none) cX3_placed 2 (some .int) RX3 (jR 1 0 0) 0 0 0 [some (.ref a), some (.int (zI 2))] [] σ Q := by
  refine J_iload_n dX3_placed_0 rfl ?_
  refine J_tableIn (tgt := 42) (41) dX3_placed_1 (by decide) (by decide) rfl (by decide) ?_
  refine J_aload_n dX3_placed_42 rfl ?_
  refine FG_y G f hr hk dX3_placed_43 ?_
  refine J_goto (tgt := 61) dX3_placed_46 (by decide) ?_
  exact J_iret rfl dX3_placed_61 (by first | exact hq | (rw [show c 3 = 1 by omega] at hq; exact hq) | (rw [show c 3 = 0 by omega] at hq; exact hq))
theorem fX3_placed3 {E : jEnv} {St : Type} {w : St → jW} {σ : St} {Q : Option Value → St → Prop} (G : Nat → Nat → Int) (f : Nat) {r a : Nat} {c : Nat → Int} (hr : w σ r = some (a, fC (G f) c)) (hk : 0 ≤ G f 0 ∧ G f 0 ≤ 3) (hc : c 3 = 0 ∨ c 3 = 1) (hq : Q (some (.int (zI (c 3)))) σ) : J E w (cX E, none) cX3_placed 2 (some .int) RX3 (jR 1 0 0) 0 0 0 [some (.ref a), some (.int (zI 3))] [] σ Q := by
  refine J_iload_n dX3_placed_0 rfl ?_
  refine J_tableOut (tgt := 49) dX3_placed_1 (by decide) (by decide) ?_
  refine J_aload_n dX3_placed_49 rfl ?_
  refine FG_turned G f hr hk dX3_placed_50 ?_
  refine J_if_eq_z (tgt := 60) dX3_placed_53 (by decide) (by unfold zR; omega) (fun c53 => ?_) (fun c53 => ?_)
  · skip
    refine J_iconst (zI 0) dX3_placed_60 rfl ?_
    exact J_iret rfl dX3_placed_61 (by first | exact hq | (rw [show c 3 = 1 by omega] at hq; exact hq) | (rw [show c 3 = 0 by omega] at hq; exact hq))
  · skip
    refine J_iconst (zI 1) dX3_placed_56 rfl ?_
    refine J_goto (tgt := 61) dX3_placed_57 (by decide) ?_
    exact J_iret rfl dX3_placed_61 (by first | exact hq | (rw [show c 3 = 1 by omega] at hq; exact hq) | (rw [show c 3 = 0 by omega] at hq; exact hq))
theorem fX3_placed {E : jEnv} {St : Type} {w : St → jW} {σ : St} {Q : Option Value → St → Prop} (G : Nat → Nat → Int) (f : Nat) {r a : Nat} {c : Nat → Int} {m : Nat} (hr : w σ r = some (a, fC (G f) c)) (hk : 0 ≤ G f 0 ∧ G f 0 ≤ 3) (hc : c 3 = 0 ∨ c 3 = 1) (hm : m < 4) (hq : Q (some (.int (zI (c m)))) σ) : J E w (cX E, none) cX3_placed 2 (some .int) RX3 (jR 1 0 0) 0 0 0 [some (.ref a), some (.int (zI (m : Nat)))] [] σ Q := by
  match m, hm with
  | 0, _ => exact fX3_placed0 G f hr hk hc hq
  | 1, _ => exact fX3_placed1 G f hr hk hc hq
  | 2, _ => exact fX3_placed2 G f hr hk hc hq
  | 3, _ => exact fX3_placed3 G f hr hk hc hq
section V
variable {E : jEnv} {St : Type} {w : St → jW} {o : Option MethodName} {cc : ByteArray} {mL : Nat} {ret : Option FieldType} {own : String} {R : Room} {k n pc : Nat} {L : List (Option Value)} {st : List Value} {σ : St} {Q : Option Value → St → Prop}
theorem VX3_placed (G : Nat → Nat → Int) (f : Nat) {r a index : Nat} {c : Nat → Int} {m : Nat} (hr : w σ r = some (a, fC (G f) c)) (hk : 0 ≤ G f 0 ∧ G f 0 ≤ 3) (hc : c 3 = 0 ∨ c 3 = 1) (hm : m < 4) (q1 : Cond.methodLink own index (⟨RX3, "placed", "(I)I"⟩ : MethodName) ∈ lw_all) (hR : 1 + 1 ≤ R.frames ∧ 96 ≤ R.locals) (hcs : k ≤ R.cells ∧ n ≤ R.slots) (hst : (st.map fun v => v.category).sum ≤ 8) (d : decode cc pc = .ok (.invokevirtual index, 3)) (kk : J E w (cX E, o) cc mL ret own R k n (pc + 3) L (.int (zI (c m)) :: st) σ Q) : J E w (cX E, o) cc mL ret own R k n (pc) L (.int (zI (m : Nat)) :: .ref a :: st) σ Q := by
  obtain h | h | h | h : G f 0 = 0 ∨ G f 0 = 1 ∨ G f 0 = 2 ∨ G f 0 = 3 := by omega
  · have hr' : w σ r = some (a, .inr (2, fV (G f) c)) := by rw [hr, fC, h]; rfl
    exact J_eU (y := yX3_placed) (R' := (jR 1 0 0)) (owner := RX3) [.int (zI (m : Nat))] 1 r hr' rfl q1 q1155 q1154 q1153 q126 q1159 rfl (by decide +kernel) cX_1 (show 1 + 1 ≤ R.frames ∧ 8 + (2 + 11) + 48 * 1 ≤ R.locals by omega) (show k + 0 ≤ R.cells ∧ n + 0 ≤ R.slots by omega) rfl hst d (JE.of (X' := (cX E, none)) (by decide +kernel) (Nat.le_of_ble_eq_true rfl) (fun _ z => by cases z) (fX3_placed G f hr hk hc hm (J_ri kk)))
  · have hr' : w σ r = some (a, .inr (3, fV (G f) c)) := by rw [hr, fC, h]; rfl
    exact J_eU (y := yX3_placed) (R' := (jR 1 0 0)) (owner := RX3) [.int (zI (m : Nat))] 1 r hr' rfl q1 q1155 q1157 q1153 q126 q1159 rfl (by decide +kernel) cX_1 (show 1 + 1 ≤ R.frames ∧ 8 + (2 + 11) + 48 * 1 ≤ R.locals by omega) (show k + 0 ≤ R.cells ∧ n + 0 ≤ R.slots by omega) rfl hst d (JE.of (X' := (cX E, none)) (by decide +kernel) (Nat.le_of_ble_eq_true rfl) (fun _ z => by cases z) (fX3_placed G f hr hk hc hm (J_ri kk)))
  · have hr' : w σ r = some (a, .inr (4, fV (G f) c)) := by rw [hr, fC, h]; rfl
    exact J_eU (y := yX3_placed) (R' := (jR 1 0 0)) (owner := RX3) [.int (zI (m : Nat))] 1 r hr' rfl q1 q1155 q1156 q1153 q126 q1159 rfl (by decide +kernel) cX_1 (show 1 + 1 ≤ R.frames ∧ 8 + (2 + 11) + 48 * 1 ≤ R.locals by omega) (show k + 0 ≤ R.cells ∧ n + 0 ≤ R.slots by omega) rfl hst d (JE.of (X' := (cX E, none)) (by decide +kernel) (Nat.le_of_ble_eq_true rfl) (fun _ z => by cases z) (fX3_placed G f hr hk hc hm (J_ri kk)))
  · have hr' : w σ r = some (a, .inr (5, fV (G f) c)) := by rw [hr, fC, h]; rfl
    exact J_eU (y := yX3_placed) (R' := (jR 1 0 0)) (owner := RX3) [.int (zI (m : Nat))] 1 r hr' rfl q1 q1155 q1158 q1153 q126 q1159 rfl (by decide +kernel) cX_1 (show 1 + 1 ≤ R.frames ∧ 8 + (2 + 11) + 48 * 1 ≤ R.locals by omega) (show k + 0 ≤ R.cells ∧ n + 0 ≤ R.slots by omega) rfl hst d (JE.of (X' := (cX E, none)) (by decide +kernel) (Nat.le_of_ble_eq_true rfl) (fun _ z => by cases z) (fX3_placed G f hr hk hc hm (J_ri kk)))
end V
theorem fX4_longer {E : jEnv} {St : Type} {w : St → jW} {σ : St} {Q : Option Value → St → Prop} (G : Nat → Nat → Int) (f : Nat) {r a : Nat} {c : Nat → Int}  (hr : w σ r = some (a, fC (G f) c)) (hk : 0 ≤ G f 0 ∧ G f 0 ≤ 3) (hkk : G f 0 = 1 ∨ G f 0 = 3) (hb : 1 ≤ mAc G f ∧ mAc G f ≤ 16 ∧ 1 ≤ mDn G f ∧ mDn G f ≤ 16) (hq : Q (some (.int (zI ((if mAc G f < mDn G f then mDn G f else mAc G f) - (if mAc G f < mDn G f then mAc G f else mDn G f))))) σ) : J E w (cX E, none) cX4_longer 1 (some .int) RX4 (jR 3 0 0) 0 0 0 [some (.ref a)] [] σ Q := by
  refine J_aload_n dX4_longer_0 rfl ?_
  refine VX4_wide G f  hr hk hkk q1184 (by decide) (by exact ⟨Nat.le_refl _, Nat.le_refl _⟩) (Nat.le_of_ble_eq_true rfl) dX4_longer_1 ?_
  refine J_aload_n dX4_longer_4 rfl ?_
  refine VX4_high G f  hr hk hkk q1187 (by decide) (by exact ⟨Nat.le_refl _, Nat.le_refl _⟩) (Nat.le_of_ble_eq_true rfl) dX4_longer_5 ?_
  refine PX4_greater (by unfold zR; omega) (by unfold zR; omega) (by decide) (by exact ⟨Nat.le_refl _, Nat.le_refl _⟩) (Nat.le_of_ble_eq_true rfl) dX4_longer_8 ?_
  refine J_aload_n dX4_longer_11 rfl ?_
  refine VX4_wide G f  hr hk hkk q1184 (by decide) (by exact ⟨Nat.le_refl _, Nat.le_refl _⟩) (Nat.le_of_ble_eq_true rfl) dX4_longer_12 ?_
  refine J_aload_n dX4_longer_15 rfl ?_
  refine VX4_high G f  hr hk hkk q1187 (by decide) (by exact ⟨Nat.le_refl _, Nat.le_refl _⟩) (Nat.le_of_ble_eq_true rfl) dX4_longer_16 ?_
  refine PX4_less (by unfold zR; omega) (by unfold zR; omega) (by decide) (by exact ⟨Nat.le_refl _, Nat.le_refl _⟩) (Nat.le_of_ble_eq_true rfl) dX4_longer_19 ?_
  refine J_isub_z dX4_longer_22 ?_
  exact J_iret rfl dX4_longer_23 (by exact hq)
theorem fX5_edges {E : jEnv} {St : Type} {w : St → jW} {σ : St} {Q : Option Value → St → Prop} (G : Nat → Nat → Int) (f : Nat) {r a : Nat} {c : Nat → Int} {bl : Int} (hr : w σ r = some (a, fC (G f) c)) (hk : 0 ≤ G f 0 ∧ G f 0 ≤ 3) (hkk : G f 0 = 2) (hq : Q (some (.int (zI (mNX bl G f 0 * mNY bl G f 0 - mAc G f * mDn G f)))) σ) : J E w (cX E, none) cX5_edges 2 (some .int) RX5 (jR 5 0 0) 0 0 0 [some (.ref a), some (.int (zI (bl)))] [] σ Q := by
  refine J_aload_n dX5_edges_0 rfl ?_
  refine J_iload_n dX5_edges_1 rfl ?_
  refine VX5_needs G f  hr hk hkk q1200 (by decide) (by exact ⟨Nat.le_refl _, Nat.le_refl _⟩) (Nat.le_of_ble_eq_true rfl) dX5_edges_2 ?_
  refine J_aload_n dX5_edges_5 rfl ?_
  refine VX5_wide G f  hr hk hkk q1206 (by decide) (by exact ⟨Nat.le_refl _, Nat.le_refl _⟩) (Nat.le_of_ble_eq_true rfl) dX5_edges_6 ?_
  refine J_aload_n dX5_edges_9 rfl ?_
  refine VX5_high G f  hr hk hkk q1209 (by decide) (by exact ⟨Nat.le_refl _, Nat.le_refl _⟩) (Nat.le_of_ble_eq_true rfl) dX5_edges_10 ?_
  refine J_imul_z dX5_edges_13 ?_
  refine J_isub_z dX5_edges_14 ?_
  exact J_iret rfl dX5_edges_15 (by exact hq)
theorem fX6_trims {E : jEnv} {St : Type} {w : St → jW} {σ : St} {Q : Option Value → St → Prop} (G : Nat → Nat → Int) (f : Nat) {r a : Nat} {c : Nat → Int}  (hr : w σ r = some (a, fC (G f) c)) (hk : 0 ≤ G f 0 ∧ G f 0 ≤ 3) (hkk : G f 0 = 3) (hq : Q (some (.int (zI (mAc G f * mDn G f - (G f 1 - G f 3 - G f 5) * (G f 2 - G f 4 - G f 6))))) σ) : J E w (cX E, none) cX6_trims 1 (some .int) RX6 (jR 3 0 0) 0 0 0 [some (.ref a)] [] σ Q := by
  have hkd := hkk
  refine J_aload_n dX6_trims_0 rfl ?_
  refine VX6_wide G f  hr hk hkk q1216 (by decide) (by exact ⟨Nat.le_refl _, Nat.le_refl _⟩) (Nat.le_of_ble_eq_true rfl) dX6_trims_1 ?_
  refine J_aload_n dX6_trims_4 rfl ?_
  refine VX6_high G f  hr hk hkk q1217 (by decide) (by exact ⟨Nat.le_refl _, Nat.le_refl _⟩) (Nat.le_of_ble_eq_true rfl) dX6_trims_5 ?_
  refine J_imul_z dX6_trims_8 ?_
  refine J_aload_n dX6_trims_9 rfl ?_
  refine SX6_wide G f hr hk hkd (by decide) (by exact ⟨Nat.le_refl _, Nat.le_refl _⟩) (Nat.le_of_ble_eq_true rfl) dX6_trims_10 ?_
  refine J_aload_n dX6_trims_13 rfl ?_
  refine SX6_high G f hr hk hkd (by decide) (by exact ⟨Nat.le_refl _, Nat.le_refl _⟩) (Nat.le_of_ble_eq_true rfl) dX6_trims_14 ?_
  refine J_imul_z dX6_trims_17 ?_
  refine J_isub_z dX6_trims_18 ?_
  exact J_iret rfl dX6_trims_19 (by exact hq)
section V
variable {E : jEnv} {St : Type} {w : St → jW} {o : Option MethodName} {cc : ByteArray} {mL : Nat} {ret : Option FieldType} {own : String} {R : Room} {k n pc : Nat} {L : List (Option Value)} {st : List Value} {σ : St} {Q : Option Value → St → Prop}
theorem VX4_longer (G : Nat → Nat → Int) (f : Nat) {r a index : Nat} {c : Nat → Int}  (hr : w σ r = some (a, fC (G f) c)) (hk : 0 ≤ G f 0 ∧ G f 0 ≤ 3) (hkk : G f 0 = 1 ∨ G f 0 = 3) (hb : 1 ≤ mAc G f ∧ mAc G f ≤ 16 ∧ 1 ≤ mDn G f ∧ mDn G f ≤ 16) (q1 : Cond.methodLink own index (⟨RX4, "longer", "()I"⟩ : MethodName) ∈ lw_all) (hR : 3 + 1 ≤ R.frames ∧ 192 ≤ R.locals) (hcs : k ≤ R.cells ∧ n ≤ R.slots) (hst : (st.map fun v => v.category).sum ≤ 8) (d : decode cc pc = .ok (.invokevirtual index, 3)) (kk : J E w (cX E, o) cc mL ret own R k n (pc + 3) L (.int (zI ((if mAc G f < mDn G f then mDn G f else mAc G f) - (if mAc G f < mDn G f then mAc G f else mDn G f))) :: st) σ Q) : J E w (cX E, o) cc mL ret own R k n (pc) L (.ref a :: st) σ Q := by
  obtain h | h | h | h : G f 0 = 0 ∨ G f 0 = 1 ∨ G f 0 = 2 ∨ G f 0 = 3 := by omega
  · have hr' : w σ r = some (a, .inr (2, fV (G f) c)) := by rw [hr, fC, h]; rfl
    exfalso; omega
  · have hr' : w σ r = some (a, .inr (3, fV (G f) c)) := by rw [hr, fC, h]; rfl
    exact J_eU (y := yX4_longer) (R' := (jR 3 0 0)) (owner := RX4) [] 0 r hr' rfl q1 q1181 q1180 q1179 q127 q1183 rfl (by decide +kernel) cX_1 (show 3 + 1 ≤ R.frames ∧ 8 + (1 + 11) + 48 * 3 ≤ R.locals by omega) (show k + 0 ≤ R.cells ∧ n + 0 ≤ R.slots by omega) rfl hst d (JE.of (X' := (cX E, none)) (by decide +kernel) (Nat.le_of_ble_eq_true rfl) (fun _ z => by cases z) (fX4_longer G f hr hk hkk hb (J_ri kk)))
  · have hr' : w σ r = some (a, .inr (4, fV (G f) c)) := by rw [hr, fC, h]; rfl
    exfalso; omega
  · have hr' : w σ r = some (a, .inr (5, fV (G f) c)) := by rw [hr, fC, h]; rfl
    exact J_eU (y := yX4_longer) (R' := (jR 3 0 0)) (owner := RX4) [] 0 r hr' rfl q1 q1181 q1182 q1179 q127 q1183 rfl (by decide +kernel) cX_1 (show 3 + 1 ≤ R.frames ∧ 8 + (1 + 11) + 48 * 3 ≤ R.locals by omega) (show k + 0 ≤ R.cells ∧ n + 0 ≤ R.slots by omega) rfl hst d (JE.of (X' := (cX E, none)) (by decide +kernel) (Nat.le_of_ble_eq_true rfl) (fun _ z => by cases z) (fX4_longer G f hr hk hkk hb (J_ri kk)))
end V
section V
variable {E : jEnv} {St : Type} {w : St → jW} {o : Option MethodName} {cc : ByteArray} {mL : Nat} {ret : Option FieldType} {own : String} {R : Room} {k n pc : Nat} {L : List (Option Value)} {st : List Value} {σ : St} {Q : Option Value → St → Prop}
theorem VX5_edges (G : Nat → Nat → Int) (f : Nat) {r a index : Nat} {c : Nat → Int} {bl : Int} (hr : w σ r = some (a, fC (G f) c)) (hk : 0 ≤ G f 0 ∧ G f 0 ≤ 3) (hkk : G f 0 = 2) (q1 : Cond.methodLink own index (⟨RX5, "edges", "(I)I"⟩ : MethodName) ∈ lw_all) (hR : 5 + 1 ≤ R.frames ∧ 288 ≤ R.locals) (hcs : k ≤ R.cells ∧ n ≤ R.slots) (hst : (st.map fun v => v.category).sum ≤ 8) (d : decode cc pc = .ok (.invokevirtual index, 3)) (kk : J E w (cX E, o) cc mL ret own R k n (pc + 3) L (.int (zI (mNX bl G f 0 * mNY bl G f 0 - mAc G f * mDn G f)) :: st) σ Q) : J E w (cX E, o) cc mL ret own R k n (pc) L (.int (zI bl) :: .ref a :: st) σ Q := by
  obtain h | h | h | h : G f 0 = 0 ∨ G f 0 = 1 ∨ G f 0 = 2 ∨ G f 0 = 3 := by omega
  · have hr' : w σ r = some (a, .inr (2, fV (G f) c)) := by rw [hr, fC, h]; rfl
    exfalso; omega
  · have hr' : w σ r = some (a, .inr (3, fV (G f) c)) := by rw [hr, fC, h]; rfl
    exfalso; omega
  · have hr' : w σ r = some (a, .inr (4, fV (G f) c)) := by rw [hr, fC, h]; rfl
    exact J_eV (y := yX5_edges) (R' := (jR 5 0 0)) [.int (zI bl)] 1 r hr' rfl q1 q1197 q1198 q128 q1199 (by decide +kernel) cX_1 (show 5 + 1 ≤ R.frames ∧ 8 + (2 + 11) + 48 * 5 ≤ R.locals by omega) (show k + 0 ≤ R.cells ∧ n + 0 ≤ R.slots by omega) rfl hst d (JE.of (X' := (cX E, none)) (by decide +kernel) (Nat.le_of_ble_eq_true rfl) (fun _ z => by cases z) (fX5_edges G f hr hk hkk (J_ri kk)))
  · have hr' : w σ r = some (a, .inr (5, fV (G f) c)) := by rw [hr, fC, h]; rfl
    exfalso; omega
end V
section V
variable {E : jEnv} {St : Type} {w : St → jW} {o : Option MethodName} {cc : ByteArray} {mL : Nat} {ret : Option FieldType} {own : String} {R : Room} {k n pc : Nat} {L : List (Option Value)} {st : List Value} {σ : St} {Q : Option Value → St → Prop}
theorem VX6_trims (G : Nat → Nat → Int) (f : Nat) {r a index : Nat} {c : Nat → Int}  (hr : w σ r = some (a, fC (G f) c)) (hk : 0 ≤ G f 0 ∧ G f 0 ≤ 3) (hkk : G f 0 = 3) (q1 : Cond.methodLink own index (⟨RX6, "trims", "()I"⟩ : MethodName) ∈ lw_all) (hR : 3 + 1 ≤ R.frames ∧ 192 ≤ R.locals) (hcs : k ≤ R.cells ∧ n ≤ R.slots) (hst : (st.map fun v => v.category).sum ≤ 8) (d : decode cc pc = .ok (.invokevirtual index, 3)) (kk : J E w (cX E, o) cc mL ret own R k n (pc + 3) L (.int (zI (mAc G f * mDn G f - (G f 1 - G f 3 - G f 5) * (G f 2 - G f 4 - G f 6))) :: st) σ Q) : J E w (cX E, o) cc mL ret own R k n (pc) L (.ref a :: st) σ Q := by
  obtain h | h | h | h : G f 0 = 0 ∨ G f 0 = 1 ∨ G f 0 = 2 ∨ G f 0 = 3 := by omega
  · have hr' : w σ r = some (a, .inr (2, fV (G f) c)) := by rw [hr, fC, h]; rfl
    exfalso; omega
  · have hr' : w σ r = some (a, .inr (3, fV (G f) c)) := by rw [hr, fC, h]; rfl
    exfalso; omega
  · have hr' : w σ r = some (a, .inr (4, fV (G f) c)) := by rw [hr, fC, h]; rfl
    exfalso; omega
  · have hr' : w σ r = some (a, .inr (5, fV (G f) c)) := by rw [hr, fC, h]; rfl
    exact J_eV (y := yX6_trims) (R' := (jR 3 0 0)) [] 0 r hr' rfl q1 q1213 q1214 q129 q1215 (by decide +kernel) cX_1 (show 3 + 1 ≤ R.frames ∧ 8 + (1 + 11) + 48 * 3 ≤ R.locals by omega) (show k + 0 ≤ R.cells ∧ n + 0 ≤ R.slots by omega) rfl hst d (JE.of (X' := (cX E, none)) (by decide +kernel) (Nat.le_of_ble_eq_true rfl) (fun _ z => by cases z) (fX6_trims G f hr hk hkk (J_ri kk)))
end V
def rF (ru : Nat) (a d l b : Int) : Int := if ru = 0 then (if a < d then a else d) else if ru = 1 then l else if ru = 2 then b else (if a < d then d else a)
def rS (ru : Nat) (a d x : Int) : Int := if ru = 0 then (if a < d then d else a) else if ru = 2 then x else (if a < d then a else d)
theorem r0_number {E : jEnv} {St : Type} {w : St → jW} {σ : St} {Q : Option Value → St → Prop} {a : Nat}  (hq : Q (some (.int (zI (0)))) σ) : J E w (cX E, none) cX1_number 1 (some .int) RX1 (jR 1 0 0) 0 0 0 [some (.ref a)] [] σ Q := by
  refine J_iconst (zI 0) dX1_number_0 rfl ?_
  exact J_iret rfl dX1_number_1 (by exact hq)
theorem r1_number {E : jEnv} {St : Type} {w : St → jW} {σ : St} {Q : Option Value → St → Prop} {a : Nat}  (hq : Q (some (.int (zI (1)))) σ) : J E w (cX E, none) cX7_number 1 (some .int) RX7 (jR 1 0 0) 0 0 0 [some (.ref a)] [] σ Q := by
  refine J_iconst (zI 1) dX7_number_0 rfl ?_
  exact J_iret rfl dX7_number_1 (by exact hq)
theorem r2_number {E : jEnv} {St : Type} {w : St → jW} {σ : St} {Q : Option Value → St → Prop} {a : Nat}  (hq : Q (some (.int (zI (2)))) σ) : J E w (cX E, none) cX8_number 1 (some .int) RX8 (jR 1 0 0) 0 0 0 [some (.ref a)] [] σ Q := by
  refine J_iconst (zI 2) dX8_number_0 rfl ?_
  exact J_iret rfl dX8_number_1 (by exact hq)
theorem r3_number {E : jEnv} {St : Type} {w : St → jW} {σ : St} {Q : Option Value → St → Prop} {a : Nat}  (hq : Q (some (.int (zI (3)))) σ) : J E w (cX E, none) cX9_number 1 (some .int) RX9 (jR 1 0 0) 0 0 0 [some (.ref a)] [] σ Q := by
  refine J_iconst (zI 3) dX9_number_0 rfl ?_
  exact J_iret rfl dX9_number_1 (by exact hq)
section V
variable {E : jEnv} {St : Type} {w : St → jW} {o : Option MethodName} {cc : ByteArray} {mL : Nat} {ret : Option FieldType} {own : String} {R : Room} {k n pc : Nat} {L : List (Option Value)} {st : List Value} {σ : St} {Q : Option Value → St → Prop}
theorem VR_number {r a ru cnt : Nat} {V : Nat → Value}  (hr : w σ r = some (a, .inr (9 + ru, V))) (hru : ru < 4) (hR : 1 + 1 ≤ R.frames ∧ 96 ≤ R.locals) (hcs : k ≤ R.cells ∧ n ≤ R.slots) (hst : (st.map fun v => v.category).sum ≤ 8) (d : decode cc pc = .ok (.invokeinterface 406 cnt, 5)) (kk : J E w (cX E, o) cc mL ret RX0 R k n (pc + 5) L (.int (zI (((ru : Nat) : Int))) :: st) σ Q) : J E w (cX E, o) cc mL ret RX0 R k n (pc) L (.ref a :: st) σ Q := by
  match ru, hru with
  | 0, _ => exact J_eF (y := yX1_number) (R' := (jR 1 0 0)) (x := ⟨RX10, "number", "()I"⟩) [] 0 r hr rfl (fun A s h => h.2.1 _ (List.mem_of_getElem? (i := 6) rfl)) q1348 q1366 q1368 q106 q1370 (by decide +kernel) cX_1 (show 1 + 1 ≤ R.frames ∧ 8 + (1 + 11) + 48 * 1 ≤ R.locals by omega) (show k + 0 ≤ R.cells ∧ n + 0 ≤ R.slots by omega) rfl hst d (JE.of (X' := (cX E, none)) (by decide +kernel) (Nat.le_of_ble_eq_true rfl) (fun _ z => by cases z) (r0_number (J_ri kk)))
  | 1, _ => exact J_eF (y := yX7_number) (R' := (jR 1 0 0)) (x := ⟨RX10, "number", "()I"⟩) [] 0 r hr rfl (fun A s h => h.2.1 _ (List.mem_of_getElem? (i := 7) rfl)) q1348 q1351 q1353 q130 q1355 (by decide +kernel) cX_1 (show 1 + 1 ≤ R.frames ∧ 8 + (1 + 11) + 48 * 1 ≤ R.locals by omega) (show k + 0 ≤ R.cells ∧ n + 0 ≤ R.slots by omega) rfl hst d (JE.of (X' := (cX E, none)) (by decide +kernel) (Nat.le_of_ble_eq_true rfl) (fun _ z => by cases z) (r1_number (J_ri kk)))
  | 2, _ => exact J_eF (y := yX8_number) (R' := (jR 1 0 0)) (x := ⟨RX10, "number", "()I"⟩) [] 0 r hr rfl (fun A s h => h.2.1 _ (List.mem_of_getElem? (i := 8) rfl)) q1348 q1361 q1363 q131 q1365 (by decide +kernel) cX_1 (show 1 + 1 ≤ R.frames ∧ 8 + (1 + 11) + 48 * 1 ≤ R.locals by omega) (show k + 0 ≤ R.cells ∧ n + 0 ≤ R.slots by omega) rfl hst d (JE.of (X' := (cX E, none)) (by decide +kernel) (Nat.le_of_ble_eq_true rfl) (fun _ z => by cases z) (r2_number (J_ri kk)))
  | 3, _ => exact J_eF (y := yX9_number) (R' := (jR 1 0 0)) (x := ⟨RX10, "number", "()I"⟩) [] 0 r hr rfl (fun A s h => h.2.1 _ (List.mem_of_getElem? (i := 9) rfl)) q1348 q1356 q1358 q132 q1360 (by decide +kernel) cX_1 (show 1 + 1 ≤ R.frames ∧ 8 + (1 + 11) + 48 * 1 ≤ R.locals by omega) (show k + 0 ≤ R.cells ∧ n + 0 ≤ R.slots by omega) rfl hst d (JE.of (X' := (cX E, none)) (by decide +kernel) (Nat.le_of_ble_eq_true rfl) (fun _ z => by cases z) (r3_number (J_ri kk)))
end V
theorem r0_first {E : jEnv} {St : Type} {w : St → jW} {σ : St} {Q : Option Value → St → Prop} {a : Nat} {x y l b : Int} (rx : zR x) (ry : zR y) (hq : Q (some (.int (zI (if x < y then x else y)))) σ) : J E w (cX E, none) cX1_first 5 (some .int) RX1 (jR 2 0 0) 0 0 0 [some (.ref a), some (.int (zI (x))), some (.int (zI (y))), some (.int (zI (l))), some (.int (zI (b)))] [] σ Q := by
  refine J_iload_n dX1_first_0 rfl ?_
  refine J_iload_n dX1_first_1 rfl ?_
  refine PX1_less (by assumption) (by assumption) (by decide) (by exact ⟨Nat.le_refl _, Nat.le_refl _⟩) (Nat.le_of_ble_eq_true rfl) dX1_first_2 ?_
  exact J_iret rfl dX1_first_5 (by exact hq)
theorem r1_first {E : jEnv} {St : Type} {w : St → jW} {σ : St} {Q : Option Value → St → Prop} {a : Nat} {x y l b : Int} (rx : zR x) (ry : zR y) (hq : Q (some (.int (zI (l)))) σ) : J E w (cX E, none) cX7_first 5 (some .int) RX7 (jR 1 0 0) 0 0 0 [some (.ref a), some (.int (zI (x))), some (.int (zI (y))), some (.int (zI (l))), some (.int (zI (b)))] [] σ Q := by
  refine J_iload_n dX7_first_0 rfl ?_
  exact J_iret rfl dX7_first_1 (by exact hq)
theorem r2_first {E : jEnv} {St : Type} {w : St → jW} {σ : St} {Q : Option Value → St → Prop} {a : Nat} {x y l b : Int} (rx : zR x) (ry : zR y) (hq : Q (some (.int (zI (b)))) σ) : J E w (cX E, none) cX8_first 5 (some .int) RX8 (jR 1 0 0) 0 0 0 [some (.ref a), some (.int (zI (x))), some (.int (zI (y))), some (.int (zI (l))), some (.int (zI (b)))] [] σ Q := by
  refine J_iload dX8_first_0 rfl ?_
  exact J_iret rfl dX8_first_2 (by exact hq)
theorem r3_first {E : jEnv} {St : Type} {w : St → jW} {σ : St} {Q : Option Value → St → Prop} {a : Nat} {x y l b : Int} (rx : zR x) (ry : zR y) (hq : Q (some (.int (zI (if x < y then y else x)))) σ) : J E w (cX E, none) cX9_first 5 (some .int) RX9 (jR 2 0 0) 0 0 0 [some (.ref a), some (.int (zI (x))), some (.int (zI (y))), some (.int (zI (l))), some (.int (zI (b)))] [] σ Q := by
  refine J_iload_n dX9_first_0 rfl ?_
  refine J_iload_n dX9_first_1 rfl ?_
  refine PX9_greater (by assumption) (by assumption) (by decide) (by exact ⟨Nat.le_refl _, Nat.le_refl _⟩) (Nat.le_of_ble_eq_true rfl) dX9_first_2 ?_
  exact J_iret rfl dX9_first_5 (by exact hq)
section V
variable {E : jEnv} {St : Type} {w : St → jW} {o : Option MethodName} {cc : ByteArray} {mL : Nat} {ret : Option FieldType} {own : String} {R : Room} {k n pc : Nat} {L : List (Option Value)} {st : List Value} {σ : St} {Q : Option Value → St → Prop}
theorem VR_first {r a ru cnt : Nat} {V : Nat → Value} {x y l b : Int} (hr : w σ r = some (a, .inr (9 + ru, V))) (hru : ru < 4) (rx : zR x) (ry : zR y) (hR : 2 + 1 ≤ R.frames ∧ 144 ≤ R.locals) (hcs : k ≤ R.cells ∧ n ≤ R.slots) (hst : (st.map fun v => v.category).sum ≤ 8) (d : decode cc pc = .ok (.invokeinterface 369 cnt, 5)) (kk : J E w (cX E, o) cc mL ret RX0 R k n (pc + 5) L (.int (zI (rF ru x y l b)) :: st) σ Q) : J E w (cX E, o) cc mL ret RX0 R k n (pc) L (.int (zI b) :: .int (zI l) :: .int (zI y) :: .int (zI x) :: .ref a :: st) σ Q := by
  match ru, hru with
  | 0, _ => exact J_eF (y := yX1_first) (R' := (jR 2 0 0)) (x := ⟨RX10, "first", "(IIII)I"⟩) [.int (zI x), .int (zI y), .int (zI l), .int (zI b)] 4 r hr rfl (fun A s h => h.2.1 _ (List.mem_of_getElem? (i := 0) rfl)) q1289 q1312 q1314 q106 q1316 (by decide +kernel) cX_1 (show 2 + 1 ≤ R.frames ∧ 8 + (5 + 11) + 48 * 2 ≤ R.locals by omega) (show k + 0 ≤ R.cells ∧ n + 0 ≤ R.slots by omega) rfl hst d (JE.of (X' := (cX E, none)) (by decide +kernel) (Nat.le_of_ble_eq_true rfl) (fun _ z => by cases z) (r0_first rx ry (J_ri kk)))
  | 1, _ => exact J_eF (y := yX7_first) (R' := (jR 1 0 0)) (x := ⟨RX10, "first", "(IIII)I"⟩) [.int (zI x), .int (zI y), .int (zI l), .int (zI b)] 4 r hr rfl (fun A s h => h.2.1 _ (List.mem_of_getElem? (i := 1) rfl)) q1289 q1293 q1295 q130 q1297 (by decide +kernel) cX_1 (show 1 + 1 ≤ R.frames ∧ 8 + (5 + 11) + 48 * 1 ≤ R.locals by omega) (show k + 0 ≤ R.cells ∧ n + 0 ≤ R.slots by omega) rfl hst d (JE.of (X' := (cX E, none)) (by decide +kernel) (Nat.le_of_ble_eq_true rfl) (fun _ z => by cases z) (r1_first rx ry (J_ri kk)))
  | 2, _ => exact J_eF (y := yX8_first) (R' := (jR 1 0 0)) (x := ⟨RX10, "first", "(IIII)I"⟩) [.int (zI x), .int (zI y), .int (zI l), .int (zI b)] 4 r hr rfl (fun A s h => h.2.1 _ (List.mem_of_getElem? (i := 2) rfl)) q1289 q1306 q1308 q131 q1310 (by decide +kernel) cX_1 (show 1 + 1 ≤ R.frames ∧ 8 + (5 + 11) + 48 * 1 ≤ R.locals by omega) (show k + 0 ≤ R.cells ∧ n + 0 ≤ R.slots by omega) rfl hst d (JE.of (X' := (cX E, none)) (by decide +kernel) (Nat.le_of_ble_eq_true rfl) (fun _ z => by cases z) (r2_first rx ry (J_ri kk)))
  | 3, _ => exact J_eF (y := yX9_first) (R' := (jR 2 0 0)) (x := ⟨RX10, "first", "(IIII)I"⟩) [.int (zI x), .int (zI y), .int (zI l), .int (zI b)] 4 r hr rfl (fun A s h => h.2.1 _ (List.mem_of_getElem? (i := 3) rfl)) q1289 q1299 q1301 q132 q1303 (by decide +kernel) cX_1 (show 2 + 1 ≤ R.frames ∧ 8 + (5 + 11) + 48 * 2 ≤ R.locals by omega) (show k + 0 ≤ R.cells ∧ n + 0 ≤ R.slots by omega) rfl hst d (JE.of (X' := (cX E, none)) (by decide +kernel) (Nat.le_of_ble_eq_true rfl) (fun _ z => by cases z) (r3_first rx ry (J_ri kk)))
end V
theorem r0_second {E : jEnv} {St : Type} {w : St → jW} {σ : St} {Q : Option Value → St → Prop} {a : Nat} {x y l : Int} (rx : zR x) (ry : zR y) (hq : Q (some (.int (zI (if x < y then y else x)))) σ) : J E w (cX E, none) cX1_second 4 (some .int) RX1 (jR 2 0 0) 0 0 0 [some (.ref a), some (.int (zI (x))), some (.int (zI (y))), some (.int (zI (l)))] [] σ Q := by
  refine J_iload_n dX1_second_0 rfl ?_
  refine J_iload_n dX1_second_1 rfl ?_
  refine PX1_greater (by assumption) (by assumption) (by decide) (by exact ⟨Nat.le_refl _, Nat.le_refl _⟩) (Nat.le_of_ble_eq_true rfl) dX1_second_2 ?_
  exact J_iret rfl dX1_second_5 (by exact hq)
theorem r2_second {E : jEnv} {St : Type} {w : St → jW} {σ : St} {Q : Option Value → St → Prop} {a : Nat} {x y l : Int} (rx : zR x) (ry : zR y) (hq : Q (some (.int (zI (l)))) σ) : J E w (cX E, none) cX8_second 4 (some .int) RX8 (jR 1 0 0) 0 0 0 [some (.ref a), some (.int (zI (x))), some (.int (zI (y))), some (.int (zI (l)))] [] σ Q := by
  refine J_iload_n dX8_second_0 rfl ?_
  exact J_iret rfl dX8_second_1 (by exact hq)
theorem r9_second {E : jEnv} {St : Type} {w : St → jW} {σ : St} {Q : Option Value → St → Prop} {a : Nat} {x y l : Int} (rx : zR x) (ry : zR y) (hq : Q (some (.int (zI (if x < y then x else y)))) σ) : J E w (cX E, none) cX10_second 4 (some .int) RX10 (jR 2 0 0) 0 0 0 [some (.ref a), some (.int (zI (x))), some (.int (zI (y))), some (.int (zI (l)))] [] σ Q := by
  refine J_iload_n dX10_second_0 rfl ?_
  refine J_iload_n dX10_second_1 rfl ?_
  refine PX10_less (by assumption) (by assumption) (by decide) (by exact ⟨Nat.le_refl _, Nat.le_refl _⟩) (Nat.le_of_ble_eq_true rfl) dX10_second_2 ?_
  exact J_iret rfl dX10_second_5 (by exact hq)
section V
variable {E : jEnv} {St : Type} {w : St → jW} {o : Option MethodName} {cc : ByteArray} {mL : Nat} {ret : Option FieldType} {own : String} {R : Room} {k n pc : Nat} {L : List (Option Value)} {st : List Value} {σ : St} {Q : Option Value → St → Prop}
theorem VR_second {r a ru cnt : Nat} {V : Nat → Value} {x y l : Int} (hr : w σ r = some (a, .inr (9 + ru, V))) (hru : ru < 4) (rx : zR x) (ry : zR y) (hR : 2 + 1 ≤ R.frames ∧ 144 ≤ R.locals) (hcs : k ≤ R.cells ∧ n ≤ R.slots) (hst : (st.map fun v => v.category).sum ≤ 8) (d : decode cc pc = .ok (.invokeinterface 375 cnt, 5)) (kk : J E w (cX E, o) cc mL ret RX0 R k n (pc + 5) L (.int (zI (rS ru x y l)) :: st) σ Q) : J E w (cX E, o) cc mL ret RX0 R k n (pc) L (.int (zI l) :: .int (zI y) :: .int (zI x) :: .ref a :: st) σ Q := by
  match ru, hru with
  | 0, _ => exact J_eF (y := yX1_second) (R' := (jR 2 0 0)) (x := ⟨RX10, "second", "(III)I"⟩) [.int (zI x), .int (zI y), .int (zI l)] 3 r hr rfl (fun A s h => h.2.1 _ (List.mem_of_getElem? (i := 4) rfl)) q1319 q1333 q1335 q106 q1337 (by decide +kernel) cX_1 (show 2 + 1 ≤ R.frames ∧ 8 + (4 + 11) + 48 * 2 ≤ R.locals by omega) (show k + 0 ≤ R.cells ∧ n + 0 ≤ R.slots by omega) rfl hst d (JE.of (X' := (cX E, none)) (by decide +kernel) (Nat.le_of_ble_eq_true rfl) (fun _ z => by cases z) (r0_second rx ry (J_ri kk)))
  | 1, _ => exact J_eFD (y := yX10_second) (R' := (jR 2 0 0)) (x := ⟨RX10, "second", "(III)I"⟩) [.int (zI x), .int (zI y), .int (zI l)] 3 r hr rfl (fun A s h => h.2.2.1 _ (List.mem_of_getElem? (i := 0) rfl)) q1319 q1323 q136 q1325 (by decide +kernel) cX_1 (show 2 + 1 ≤ R.frames ∧ 8 + (4 + 11) + 48 * 2 ≤ R.locals by omega) (show k + 0 ≤ R.cells ∧ n + 0 ≤ R.slots by omega) rfl hst d (JE.of (X' := (cX E, none)) (by decide +kernel) (Nat.le_of_ble_eq_true rfl) (fun _ z => by cases z) (r9_second rx ry (J_ri kk)))
  | 2, _ => exact J_eF (y := yX8_second) (R' := (jR 1 0 0)) (x := ⟨RX10, "second", "(III)I"⟩) [.int (zI x), .int (zI y), .int (zI l)] 3 r hr rfl (fun A s h => h.2.1 _ (List.mem_of_getElem? (i := 5) rfl)) q1319 q1328 q1330 q131 q1332 (by decide +kernel) cX_1 (show 1 + 1 ≤ R.frames ∧ 8 + (4 + 11) + 48 * 1 ≤ R.locals by omega) (show k + 0 ≤ R.cells ∧ n + 0 ≤ R.slots by omega) rfl hst d (JE.of (X' := (cX E, none)) (by decide +kernel) (Nat.le_of_ble_eq_true rfl) (fun _ z => by cases z) (r2_second rx ry (J_ri kk)))
  | 3, _ => exact J_eFD (y := yX10_second) (R' := (jR 2 0 0)) (x := ⟨RX10, "second", "(III)I"⟩) [.int (zI x), .int (zI y), .int (zI l)] 3 r hr rfl (fun A s h => h.2.2.1 _ (List.mem_of_getElem? (i := 1) rfl)) q1319 q1323 q136 q1325 (by decide +kernel) cX_1 (show 2 + 1 ≤ R.frames ∧ 8 + (4 + 11) + 48 * 2 ≤ R.locals by omega) (show k + 0 ≤ R.cells ∧ n + 0 ≤ R.slots by omega) rfl hst d (JE.of (X' := (cX E, none)) (by decide +kernel) (Nat.le_of_ble_eq_true rfl) (fun _ z => by cases z) (r9_second rx ry (J_ri kk)))
end V
