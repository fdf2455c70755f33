set_option maxRecDepth 100000
/-! the component: what is where -/
theorem qc {σ : cS} {Q : Option Value → cS → Prop} {a b : Int} (h : Q (some (.int (zI a))) σ) (e : b = a) : Q (some (.int (zI b))) σ := e ▸ h
theorem J_kn {E : jEnv} {St : Type} {w : St → jW} {X : jX} {cc : ByteArray} {mL : Nat} {ret : Option FieldType} {own : String} {R : Room} {k n k' n' pc : Nat} {L : List (Option Value)} {st : List Value} {σ : St} {Q : Option Value → St → Prop} (h1 : k = k') (h2 : n = n') (kk : J E w X cc mL ret own R k' n' pc L st σ Q) : J E w X cc mL ret own R k n pc L st σ Q := by subst h1; subst h2; exact kk

theorem c_isPage {E : jEnv} {α : Nat → Nat} {σ : cS} {Q : Option Value → cS → Prop} {many : Nat} {wide high bl : Int} {G : Nat → Nat → Int} {ad : Nat → Nat} {c : Nat → Nat → Int} {P : Nat → Nat → Int} {rule : Int} {v : Int} (hS : cSh many wide high bl G ad c σ) (hO : shOK many wide high bl G) (hP : cPl many P c) (hN : plOK many P rule) (rv : zR v) (h1 : 0 ≤ v ∧ v < pgM P many → Q (some (.int (zI 1))) σ) (h0 : ¬ (0 ≤ v ∧ v < pgM P many) → Q (some (.int (zI 0))) σ) : jX0_isPage E α 0 [some (.ref (α 0)), some (.int (zI (v)))] [] σ Q := by
  have hO8 := hO.s
  have hpb := pgM_b hN many (Nat.le_refl _)
  refine J_iload_n dX0_isPage_0 rfl ?_
  refine J_iconst (zI 0) dX0_isPage_1 rfl ?_
  refine J_aload_n dX0_isPage_2 rfl ?_
  refine CC_X0_pageMany (by decide) (by decide) (Nat.le_of_ble_eq_true rfl) dX0_isPage_3 ?_
  refine c_pageMany hS hO hP hN  ?_
  refine J_ri ?_
  refine J_iconst (zI 1) dX0_isPage_6 rfl ?_
  refine J_isub_z dX0_isPage_7 ?_
  refine PX0_isIn (by unfold zR at *; omega) (by unfold zR at *; omega) (by unfold zR at *; omega) (by decide) (by exact ⟨Nat.le_refl _, Nat.le_refl _⟩) (Nat.le_of_ble_eq_true rfl) dX0_isPage_8 (fun b8 => ?_) (fun b8 => ?_)
  · skip
    exact J_zret rfl dX0_isPage_11 rfl (by first | exact h1 (by omega) | exact h0 (by omega))
  · skip
    exact J_zret rfl dX0_isPage_11 rfl (by first | exact h1 (by omega) | exact h0 (by omega))
theorem c_freeTells0 {E : jEnv} {α : Nat → Nat} {σ : cS} {Q : Option Value → cS → Prop} {l : List rct} {k : Nat}  (hl : cFl l σ) (hk : k < l.length) (hq : Q (some (.int (zI (rTell (rGet l k) 0)))) σ) : jX0_freeTells E α 0 [some (.ref (α 0)), some (.int (zI (k : Nat))), some (.int (zI 0))] [] σ Q := by
  obtain ⟨hF0, hl5, b, hb, hbl⟩ := hl
  refine J_iload_n dX0_freeTells_0 rfl ?_
  refine J_tableIn (tgt := 28) (27) dX0_freeTells_1 (by decide) (by decide) rfl (by decide) ?_
  refine J_aload_n dX0_freeTells_28 rfl ?_
  refine CG_freeX dX0_freeTells_29 ?_
  refine J_iload_n dX0_freeTells_32 rfl ?_
  refine CJ_iald 21 (k) ⟨rfl, by decide, by decide, by decide⟩ (by omega) (show k < 512 by omega) dX0_freeTells_33 ?_
  refine J_top (zI ((rGet l k).1)) (((hb k (by omega)).1.trans (congrArg zI (by rw [hbl k hk])))) ?_
  refine J_goto (tgt := 61) dX0_freeTells_34 (by decide) ?_
  exact J_iret rfl dX0_freeTells_61 (by exact hq)
theorem c_freeTells1 {E : jEnv} {α : Nat → Nat} {σ : cS} {Q : Option Value → cS → Prop} {l : List rct} {k : Nat}  (hl : cFl l σ) (hk : k < l.length) (hq : Q (some (.int (zI (rTell (rGet l k) 1)))) σ) : jX0_freeTells E α 0 [some (.ref (α 0)), some (.int (zI (k : Nat))), some (.int (zI 1))] [] σ Q := by
  obtain ⟨hF0, hl5, b, hb, hbl⟩ := hl
  refine J_iload_n dX0_freeTells_0 rfl ?_
  refine J_tableIn (tgt := 37) (36) dX0_freeTells_1 (by decide) (by decide) rfl (by decide) ?_
  refine J_aload_n dX0_freeTells_37 rfl ?_
  refine CG_freeY dX0_freeTells_38 ?_
  refine J_iload_n dX0_freeTells_41 rfl ?_
  refine CJ_iald 22 (k) ⟨rfl, by decide, by decide, by decide⟩ (by omega) (show k < 512 by omega) dX0_freeTells_42 ?_
  refine J_top (zI ((rGet l k).2.1)) (((hb k (by omega)).2.1.trans (congrArg zI (by rw [hbl k hk])))) ?_
  refine J_goto (tgt := 61) dX0_freeTells_43 (by decide) ?_
  exact J_iret rfl dX0_freeTells_61 (by exact hq)
theorem c_freeTells2 {E : jEnv} {α : Nat → Nat} {σ : cS} {Q : Option Value → cS → Prop} {l : List rct} {k : Nat}  (hl : cFl l σ) (hk : k < l.length) (hq : Q (some (.int (zI (rTell (rGet l k) 2)))) σ) : jX0_freeTells E α 0 [some (.ref (α 0)), some (.int (zI (k : Nat))), some (.int (zI 2))] [] σ Q := by
  obtain ⟨hF0, hl5, b, hb, hbl⟩ := hl
  refine J_iload_n dX0_freeTells_0 rfl ?_
  refine J_tableIn (tgt := 46) (45) dX0_freeTells_1 (by decide) (by decide) rfl (by decide) ?_
  refine J_aload_n dX0_freeTells_46 rfl ?_
  refine CG_freeW dX0_freeTells_47 ?_
  refine J_iload_n dX0_freeTells_50 rfl ?_
  refine CJ_iald 23 (k) ⟨rfl, by decide, by decide, by decide⟩ (by omega) (show k < 512 by omega) dX0_freeTells_51 ?_
  refine J_top (zI ((rGet l k).2.2.1)) (((hb k (by omega)).2.2.1.trans (congrArg zI (by rw [hbl k hk])))) ?_
  refine J_goto (tgt := 61) dX0_freeTells_52 (by decide) ?_
  exact J_iret rfl dX0_freeTells_61 (by exact hq)
theorem c_freeTells3 {E : jEnv} {α : Nat → Nat} {σ : cS} {Q : Option Value → cS → Prop} {l : List rct} {k : Nat}  (hl : cFl l σ) (hk : k < l.length) (hq : Q (some (.int (zI (rTell (rGet l k) 3)))) σ) : jX0_freeTells E α 0 [some (.ref (α 0)), some (.int (zI (k : Nat))), some (.int (zI 3))] [] σ Q := by
  obtain ⟨hF0, hl5, b, hb, hbl⟩ := hl
  refine J_iload_n dX0_freeTells_0 rfl ?_
  refine J_tableOut (tgt := 55) dX0_freeTells_1 (by decide) (by decide) ?_
  refine J_aload_n dX0_freeTells_55 rfl ?_
  refine CG_freeH dX0_freeTells_56 ?_
  refine J_iload_n dX0_freeTells_59 rfl ?_
  refine CJ_iald 24 (k) ⟨rfl, by decide, by decide, by decide⟩ (by omega) (show k < 512 by omega) dX0_freeTells_60 ?_
  refine J_top (zI ((rGet l k).2.2.2)) (((hb k (by omega)).2.2.2.trans (congrArg zI (by rw [hbl k hk])))) ?_
  exact J_iret rfl dX0_freeTells_61 (by exact hq)
theorem c_freeTells {E : jEnv} {α : Nat → Nat} {σ : cS} {Q : Option Value → cS → Prop} {l : List rct} {k : Nat} {u : Int} (hl : cFl l σ) (hk : k < l.length) (hu : 0 ≤ u ∧ u ≤ 3) (hq : Q (some (.int (zI (rTell (rGet l k) u)))) σ) : jX0_freeTells E α 0 [some (.ref (α 0)), some (.int (zI (k : Nat))), some (.int (zI u))] [] σ Q := by
  obtain rfl | rfl | rfl | rfl : u = 0 ∨ u = 1 ∨ u = 2 ∨ u = 3 := by omega
  · exact c_freeTells0 hl hk hq
  · exact c_freeTells1 hl hk hq
  · exact c_freeTells2 hl hk hq
  · exact c_freeTells3 hl hk hq
theorem c_free_bad {E : jEnv} {α : Nat → Nat} {σ : cS} {Q : Option Value → cS → Prop} {many : Nat} {wide high bl : Int} {G : Nat → Nat → Int} {ad : Nat → Nat} {c : Nat → Nat → Int} {P : Nat → Nat → Int} {rule : Int} {v k u : Int} (hS : cSh many wide high bl G ad c σ) (hO : shOK many wide high bl G) (hP : cPl many P c) (hN : plOK many P rule) (rv : zR v) (rk : zR k) (ru : zR u) (hv : ¬ (0 ≤ v ∧ v < pgM P many) ∨ k < 0 ∨ ¬ (0 ≤ u ∧ u ≤ 3)) (hq : Q (some (.int (zI (-1)))) σ) : jX0_free E α 0 [some (.ref (α 0)), some (.int (zI (v))), some (.int (zI (k))), some (.int (zI (u)))] [] σ Q := by
  refine J_aload_n dX0_free_0 rfl ?_
  refine J_iload_n dX0_free_1 rfl ?_
  refine CC_X0_isPage (by decide) (by decide) (Nat.le_of_ble_eq_true rfl) dX0_free_2 ?_
  refine c_isPage hS hO hP hN (by unfold zR at *; omega) (fun b2 => ?_) (fun b2 => ?_)
  · refine J_ri ?_
    refine J_if_eq_n (tgt := 21) dX0_free_5 (by decide) (by decide) ?_
    refine J_iload_n dX0_free_8 rfl ?_
    refine J_if_lt_z (tgt := 21) dX0_free_9 (by decide) (by unfold zR at *; omega) (fun c9 => ?_) (fun c9 => ?_)
    · skip
      refine J_iconst (zI (-1)) dX0_free_21 rfl ?_
      exact J_iret rfl dX0_free_22 (by exact hq)
    · skip
      refine J_iload_n dX0_free_12 rfl ?_
      refine J_iconst (zI 0) dX0_free_13 rfl ?_
      refine J_iconst (zI 3) dX0_free_14 rfl ?_
      refine PX0_isIn (by unfold zR at *; omega) (by unfold zR at *; omega) (by unfold zR at *; omega) (by decide) (by exact ⟨Nat.le_refl _, Nat.le_refl _⟩) (Nat.le_of_ble_eq_true rfl) dX0_free_15 (fun b15 => ?_) (fun b15 => ?_)
      · exfalso; omega
      · skip
        refine J_if_ne_n (tgt := 23) dX0_free_18 (by decide) (by decide) ?_
        refine J_iconst (zI (-1)) dX0_free_21 rfl ?_
        exact J_iret rfl dX0_free_22 (by exact hq)
  · refine J_ri ?_
    refine J_if_eq_y (tgt := 21) dX0_free_5 (by decide) (by decide) ?_
    refine J_iconst (zI (-1)) dX0_free_21 rfl ?_
    exact J_iret rfl dX0_free_22 (by exact hq)
theorem c_free {E : jEnv} {α : Nat → Nat} {σ : cS} {Q : Option Value → cS → Prop} {many : Nat} {wide high bl : Int} {G : Nat → Nat → Int} {ad : Nat → Nat} {c : Nat → Nat → Int} {P : Nat → Nat → Int} {rule : Int} {v u : Int} {k : Nat} (hS : cSh many wide high bl G ad c σ) (hO : shOK many wide high bl G) (hP : cPl many P c) (hN : plOK many P rule) (hV : plV many wide high bl G P) (hv : 0 ≤ v ∧ v < pgM P many) (hk : k < 2147483648) (hu : 0 ≤ u ∧ u ≤ 3) (q0 : (frL wide high (gO bl G P v many)).length ≤ k → ∀ σ', cQ [20] [21, 22, 23, 24, 25] σ σ' → Q (some (.int (zI (-9)))) σ') (q1 : k < (frL wide high (gO bl G P v many)).length → ∀ σ', cQ [2, 20] [21, 22, 23, 24, 25] σ σ' → σ'.i 2 = zI (rTell ((frL wide high (gO bl G P v many)).getD k (0, 0, 0, 0)) u) → Q (some (.int (zI 1))) σ') : jX0_free E α 0 [some (.ref (α 0)), some (.int (zI (v))), some (.int (zI (k : Nat))), some (.int (zI (u)))] [] σ Q := by
  have hO8 := hO.s
  have hpb := pgM_b hN many (Nat.le_refl _)
  refine J_aload_n dX0_free_0 rfl ?_
  refine J_iload_n dX0_free_1 rfl ?_
  refine CC_X0_isPage (by decide) (by decide) (Nat.le_of_ble_eq_true rfl) dX0_free_2 ?_
  refine c_isPage hS hO hP hN (by unfold zR at *; omega) (fun b2 => ?_) (fun b2 => ?_)
  · refine J_ri ?_
    refine J_if_eq_n (tgt := 21) dX0_free_5 (by decide) (by decide) ?_
    refine J_iload_n dX0_free_8 rfl ?_
    refine J_if_lt_z (tgt := 21) dX0_free_9 (by decide) (by unfold zR; omega) (fun c9 => ?_) (fun c9 => ?_)
    · exfalso; omega
    · skip
      refine J_iload_n dX0_free_12 rfl ?_
      refine J_iconst (zI 0) dX0_free_13 rfl ?_
      refine J_iconst (zI 3) dX0_free_14 rfl ?_
      refine PX0_isIn (by unfold zR; omega) (by unfold zR; omega) (by unfold zR; omega) (by decide) (by exact ⟨Nat.le_refl _, Nat.le_refl _⟩) (Nat.le_of_ble_eq_true rfl) dX0_free_15 (fun b15 => ?_) (fun b15 => ?_)
      · skip
        refine J_if_ne_y (tgt := 23) dX0_free_18 (by decide) (by decide) ?_
        refine J_aload_n dX0_free_23 rfl ?_
        refine J_iload_n dX0_free_24 rfl ?_
        refine CC_X0_setFree (by decide) (by decide) (Nat.le_of_ble_eq_true rfl) dX0_free_25 ?_
        have hm0 : 0 < many := by
          rcases Nat.eq_zero_or_pos many with z | z
          · subst z; simp [pgM] at hv; omega
          · exact z
        refine c_setFree hS hO hP hN hV hm0 (by omega) (fun σ1 l1 e1 => ?_)
        have hS := hS.up e1 (by decide) (by decide) (by decide) (by decide)
        have hl9 := l1.2.1
        refine J_rv ?_
        refine J_iload_n dX0_free_28 rfl ?_
        refine J_aload_n dX0_free_29 rfl ?_
        refine CG_freeMany dX0_free_30 ?_
        refine J_top (zI ((frL wide high (gO bl G P v many)).length)) l1.1 ?_
        refine J_icmp_ge_z (tgt := 50) dX0_free_33 (by decide) (by unfold zR; omega) (by unfold zR; omega) (fun c33 => ?_) (fun c33 => ?_)
        · skip
          refine J_bipush (zI (-9)) dX0_free_50 rfl ?_
          exact J_iret rfl dX0_free_52 (by exact q0 (by omega) σ1 e1)
        · skip
          refine J_aload_n dX0_free_36 rfl ?_
          refine J_aload_n dX0_free_37 rfl ?_
          refine J_iload_n dX0_free_38 rfl ?_
          refine J_iload_n dX0_free_39 rfl ?_
          refine CC_X0_freeTells (by decide) (by decide) (Nat.le_of_ble_eq_true rfl) dX0_free_40 ?_
          refine c_freeTells l1 (by omega) hu ?_
          refine J_ri ?_
          refine J_iconst (zI 1) dX0_free_43 rfl ?_
          refine CC_X0_ask (by decide) (by decide) (Nat.le_of_ble_eq_true rfl) dX0_free_44 ?_
          refine c_ask  ?_
          refine J_ri ?_
          refine J_goto (tgt := 52) dX0_free_47 (by decide) ?_
          exact J_iret rfl dX0_free_52 (by exact q1 (by omega) _ ((e1.mono (by decide) (by decide)).sI (by decide)) rfl)
      · exfalso; omega
  · exfalso; omega
theorem c_nearest {E : jEnv} {α : Nat → Nat} {σ : cS} {Q : Option Value → cS → Prop} {v m : Int} (rv : zR v) (rm : zR m) (hm : 0 ≤ m) (hq : Q (some (.int (zI (mCl v m)))) σ) : jX0_nearest E α 0 [some (.int (zI (v))), some (.int (zI (m)))] [] σ Q := by
  refine J_iconst (zI 0) dX0_nearest_0 rfl ?_
  refine J_iload_n dX0_nearest_1 rfl ?_
  refine J_iload_n dX0_nearest_2 rfl ?_
  refine PX0_min (by unfold zR at *; (try split) <;> omega) (by unfold zR at *; (try split) <;> omega) (by decide) (by exact ⟨Nat.le_refl _, Nat.le_refl _⟩) (Nat.le_of_ble_eq_true rfl) dX0_nearest_3 ?_
  refine PX0_max (by unfold zR at *; (try split) <;> omega) (by unfold zR at *; (try split) <;> omega) (by decide) (by exact ⟨Nat.le_refl _, Nat.le_refl _⟩) (Nat.le_of_ble_eq_true rfl) dX0_nearest_6 ?_
  exact J_iret rfl dX0_nearest_9 (by exact qc hq (by unfold mCl; (repeat' split) <;> omega))
theorem c_seen_bad {E : jEnv} {α : Nat → Nat} {σ : cS} {Q : Option Value → cS → Prop} {many : Nat} {wide high bl : Int} {G : Nat → Nat → Int} {ad : Nat → Nat} {c : Nat → Nat → Int} {P : Nat → Nat → Int} {rule : Int} {v x y : Int} (hS : cSh many wide high bl G ad c σ) (hO : shOK many wide high bl G) (hP : cPl many P c) (hN : plOK many P rule) (rv : zR v) (rx : zR x) (ry : zR y) (hv : ¬ (0 ≤ v ∧ v < pgM P many) ∨ ¬ (0 ≤ x ∧ x < wide) ∨ ¬ (0 ≤ y ∧ y < high)) (hq : Q (some (.int (zI (-1)))) σ) : jX0_seen E α 0 [some (.ref (α 0)), some (.int (zI (v))), some (.int (zI (x))), some (.int (zI (y))), none, none, none, none, none, none] [] σ Q := by
  have hO8 := hO.s
  refine J_aload_n dX0_seen_0 rfl ?_
  refine J_iload_n dX0_seen_1 rfl ?_
  refine CC_X0_isPage (by decide) (by decide) (Nat.le_of_ble_eq_true rfl) dX0_seen_2 ?_
  refine c_isPage hS hO hP hN (by unfold zR at *; omega) (fun b2 => ?_) (fun b2 => ?_)
  · refine J_ri ?_
    refine J_if_eq_n (tgt := 36) dX0_seen_5 (by decide) (by decide) ?_
    refine J_iload_n dX0_seen_8 rfl ?_
    refine J_iconst (zI 0) dX0_seen_9 rfl ?_
    refine J_aload_n dX0_seen_10 rfl ?_
    refine CG_wide dX0_seen_11 ?_
    refine J_top (zI (wide)) hS.2.1 ?_
    refine J_iconst (zI 1) dX0_seen_14 rfl ?_
    refine J_isub_z dX0_seen_15 ?_
    refine PX0_isIn (by unfold zR at *; omega) (by unfold zR at *; omega) (by unfold zR at *; omega) (by decide) (by exact ⟨Nat.le_refl _, Nat.le_refl _⟩) (Nat.le_of_ble_eq_true rfl) dX0_seen_16 (fun b16 => ?_) (fun b16 => ?_)
    · skip
      refine J_if_eq_n (tgt := 36) dX0_seen_19 (by decide) (by decide) ?_
      refine J_iload_n dX0_seen_22 rfl ?_
      refine J_iconst (zI 0) dX0_seen_23 rfl ?_
      refine J_aload_n dX0_seen_24 rfl ?_
      refine CG_high dX0_seen_25 ?_
      refine J_top (zI (high)) hS.2.2.1 ?_
      refine J_iconst (zI 1) dX0_seen_28 rfl ?_
      refine J_isub_z dX0_seen_29 ?_
      refine PX0_isIn (by unfold zR at *; omega) (by unfold zR at *; omega) (by unfold zR at *; omega) (by decide) (by exact ⟨Nat.le_refl _, Nat.le_refl _⟩) (Nat.le_of_ble_eq_true rfl) dX0_seen_30 (fun b30 => ?_) (fun b30 => ?_)
      · exfalso; omega
      · skip
        refine J_if_ne_n (tgt := 38) dX0_seen_33 (by decide) (by decide) ?_
        refine J_iconst (zI (-1)) dX0_seen_36 rfl ?_
        exact J_iret rfl dX0_seen_37 (by exact hq)
    · skip
      refine J_if_eq_y (tgt := 36) dX0_seen_19 (by decide) (by decide) ?_
      refine J_iconst (zI (-1)) dX0_seen_36 rfl ?_
      exact J_iret rfl dX0_seen_37 (by exact hq)
  · refine J_ri ?_
    refine J_if_eq_y (tgt := 36) dX0_seen_5 (by decide) (by decide) ?_
    refine J_iconst (zI (-1)) dX0_seen_36 rfl ?_
    exact J_iret rfl dX0_seen_37 (by exact hq)
theorem cl_seen41 {E : jEnv} {α : Nat → Nat} {σ : cS} {Q : Option Value → cS → Prop} {many : Nat} {wide high bl : Int} {G : Nat → Nat → Int} {ad : Nat → Nat} {c : Nat → Nat → Int} {P : Nat → Nat → Int} {rule : Int} {v x y : Int}  (hS : cSh many wide high bl G ad c σ) (hO : shOK many wide high bl G) (hP : cPl many P c) (hN : plOK many P rule) (hV : plV many wide high bl G P) (hD : plD many bl G P) (hv : 0 ≤ v ∧ v ≤ 8) (hx : 0 ≤ x ∧ x < wide) (hy : 0 ≤ y ∧ y < high) (q0 : gO bl G P v many x y = -9 → Q (some (.int (zI (-9)))) σ) (q1 : ∀ f : Nat, f < many → gO bl G P v many x y = f → Q (some (.int (zI (f : Nat)))) (cI σ 2 (zI (mSeen bl G P f x y))))  : ∀ (n : Nat) (f : Nat), f ≤ many → (∀ g, g < f → P g 0 = v → ¬ (P g 1 ≤ x ∧ x < P g 1 + mNX bl G g (P g 3) ∧ P g 2 ≤ y ∧ y < P g 2 + mNY bl G g (P g 3))) → many - f < n → jX0_seen E α 41 [some (.ref (α 0)), some (.int (zI (v))), some (.int (zI (x))), some (.int (zI (y))), some (.int (zI (f : Nat))), none, none, none, none, none] [] σ Q := by
  intro n
  induction n with
  | zero => intro f h1 h2 hn; exact absurd hn (Nat.not_lt_zero _)
  | succ n ih =>
    intro f h1 h2 hn
    have hO8 := hO.s
    refine J_iload dX0_seen_41 rfl ?_
    refine J_aload_n dX0_seen_43 rfl ?_
    refine CG_many dX0_seen_44 ?_
    refine J_top (zI (many)) hS.1 ?_
    refine J_icmp_ge_z (tgt := 207) dX0_seen_47 (by decide) (by unfold zR; omega) (by unfold zR; omega) (fun c47 => ?_) (fun c47 => ?_)
    · skip
      obtain rfl : f = many := by omega
      refine J_bipush (zI (-9)) dX0_seen_207 rfl ?_
      exact J_iret rfl dX0_seen_209 (by exact q0 ((gO_free f).mpr h2))
    · skip
      have hf : f < many := by omega
      have hg8 := hO.g hf
      have hac := mAc_b hO hf
      have hdn := mDn_b hO hf
      have hlf := mLf_b hO hf
      have hab := mAb_b hO hf
      have hed := mEd_b hO f
      have hnf := hN.1 f hf
      have hpf := hP f hf
      have hxb := mNX_b hO hf (c f 3)
      have hyb := mNY_b hO hf (c f 3)
      refine J_aload_n dX0_seen_50 rfl ?_
      refine CG_frames dX0_seen_51 ?_
      refine J_iload dX0_seen_54 rfl ?_
      refine CA_fr (hS.2.2.2.2 _ hf) (by omega) (by have := hO.1; omega) dX0_seen_56 ?_
      refine J_astore dX0_seen_57 rfl (by decide) _ rfl ?_
      refine J_aload dX0_seen_59 rfl ?_
      refine FNX0_page G f (hS.w hf hO.1) (hO.k hf) dX0_seen_61 ?_
      refine J_iload_n dX0_seen_64 rfl ?_
      refine J_icmp_ne_z (tgt := 201) dX0_seen_65 (by decide) (by unfold zR; omega) (by unfold zR; omega) (fun c65 => ?_) (fun c65 => ?_)
      · skip
        refine J_iinc_z ((((f + 1)) : Nat) : Int) (by omega) dX0_seen_201 rfl rfl (by decide) _ rfl ?_
        refine J_goto (tgt := 41) dX0_seen_204 (by decide) ?_
        refine J_fg (L' := [some (.ref (α 0)), some (.int (zI (v))), some (.int (zI (x))), some (.int (zI (y))), some (.int (zI ((f + 1 : Nat)))), none, none, none, none, none]) (by repeat' constructor) ?_
        refine ih (f + 1) (by omega) (fun g hg hgv => ?_) (by omega)
        by_cases z : g = f
        · subst z; omega
        · exact h2 g (by omega) hgv
      · skip
        have hcc : c f 1 = P f 1 ∧ c f 2 = P f 2 ∧ c f 3 = P f 3 := by omega
        refine J_aload dX0_seen_68 rfl ?_
        refine J_aload_n dX0_seen_70 rfl ?_
        refine CG_bleed dX0_seen_71 ?_
        refine J_top (zI (bl)) hS.2.2.2.1 ?_
        refine J_iload_n dX0_seen_74 rfl ?_
        refine J_iload_n dX0_seen_75 rfl ?_
        refine VX3_takes G f (c := (c f))  (hS.w hf hO.1) (hO.k hf) (by omega) (by omega) hxb hyb q1448 (by decide) (by decide) (Nat.le_of_ble_eq_true rfl) dX0_seen_76 (fun b76 => ?_) (fun b76 => ?_)
        · skip
          rw [hcc.2.2] at b76
          refine J_if_eq_n (tgt := 201) dX0_seen_79 (by decide) (by decide) ?_
          refine J_iload_n dX0_seen_82 rfl ?_
          refine J_aload dX0_seen_83 rfl ?_
          refine FNX0_x G f (hS.w hf hO.1) (hO.k hf) dX0_seen_85 ?_
          refine J_isub_z dX0_seen_88 ?_
          refine J_aload dX0_seen_89 rfl ?_
          refine J_aload_n dX0_seen_91 rfl ?_
          refine CG_bleed dX0_seen_92 ?_
          refine J_top (zI (bl)) hS.2.2.2.1 ?_
          refine VX3_edge G f (c := (c f))  (hS.w hf hO.1) (hO.k hf)  q1457 (by decide) (by decide) (Nat.le_of_ble_eq_true rfl) dX0_seen_95 ?_
          refine J_isub_z dX0_seen_98 ?_
          refine J_istore dX0_seen_99 rfl (by decide) _ rfl ?_
          refine J_iload_n dX0_seen_101 rfl ?_
          refine J_aload dX0_seen_102 rfl ?_
          refine FNX0_y G f (hS.w hf hO.1) (hO.k hf) dX0_seen_104 ?_
          refine J_isub_z dX0_seen_107 ?_
          refine J_aload dX0_seen_108 rfl ?_
          refine J_aload_n dX0_seen_110 rfl ?_
          refine CG_bleed dX0_seen_111 ?_
          refine J_top (zI (bl)) hS.2.2.2.1 ?_
          refine VX3_edge G f (c := (c f))  (hS.w hf hO.1) (hO.k hf)  q1457 (by decide) (by decide) (Nat.le_of_ble_eq_true rfl) dX0_seen_114 ?_
          refine J_isub_z dX0_seen_117 ?_
          refine J_istore dX0_seen_118 rfl (by decide) _ rfl ?_
          refine J_aload dX0_seen_120 rfl ?_
          refine FNX0_turned G f (hS.w hf hO.1) (hO.k hf) dX0_seen_122 ?_
          refine J_if_eq_z (tgt := 133) dX0_seen_125 (by decide) (by unfold zR; omega) (fun c125 => ?_) (fun c125 => ?_)
          · skip
            refine J_iload dX0_seen_133 rfl ?_
            refine J_aload dX0_seen_135 rfl ?_
            refine VX3_wide G f (c := (c f))  (hS.w hf hO.1) (hO.k hf)  q1458 (by decide) (by decide) (Nat.le_of_ble_eq_true rfl) dX0_seen_137 ?_
            refine J_iconst (zI 1) dX0_seen_140 rfl ?_
            refine J_isub_z dX0_seen_141 ?_
            refine CC_X0_nearest (by decide) (by decide) (Nat.le_of_ble_eq_true rfl) dX0_seen_142 ?_
            refine c_nearest (by unfold zR; omega) (by unfold zR; omega) (by omega) ?_
            refine J_ri ?_
            refine J_istore dX0_seen_145 rfl (by decide) _ rfl ?_
            refine J_aload dX0_seen_147 rfl ?_
            refine FNX0_turned G f (hS.w hf hO.1) (hO.k hf) dX0_seen_149 ?_
            refine J_if_eq_z (tgt := 160) dX0_seen_152 (by decide) (by unfold zR; omega) (fun c152 => ?_) (fun c152 => ?_)
            · skip
              refine J_iload dX0_seen_160 rfl ?_
              refine J_aload dX0_seen_162 rfl ?_
              refine VX3_high G f (c := (c f))  (hS.w hf hO.1) (hO.k hf)  q1462 (by decide) (by decide) (Nat.le_of_ble_eq_true rfl) dX0_seen_164 ?_
              refine J_iconst (zI 1) dX0_seen_167 rfl ?_
              refine J_isub_z dX0_seen_168 ?_
              refine CC_X0_nearest (by decide) (by decide) (Nat.le_of_ble_eq_true rfl) dX0_seen_169 ?_
              refine c_nearest (by unfold zR; omega) (by unfold zR; omega) (by omega) ?_
              refine J_ri ?_
              refine J_istore dX0_seen_172 rfl (by decide) _ rfl ?_
              refine J_aload_n dX0_seen_174 rfl ?_
              refine J_bipush (zI 100) dX0_seen_175 rfl ?_
              refine J_aload dX0_seen_177 rfl ?_
              refine VX3_firstColumn G f (c := (c f))  (hS.w hf hO.1) (hO.k hf)  q1463 (by decide) (by decide) (Nat.le_of_ble_eq_true rfl) dX0_seen_179 ?_
              refine J_iload dX0_seen_182 rfl ?_
              refine J_iadd_z dX0_seen_184 ?_
              refine J_imul_z dX0_seen_185 ?_
              refine J_aload dX0_seen_186 rfl ?_
              refine VX3_firstRow G f (c := (c f))  (hS.w hf hO.1) (hO.k hf)  q1466 (by decide) (by decide) (Nat.le_of_ble_eq_true rfl) dX0_seen_188 ?_
              refine J_iadd_z dX0_seen_191 ?_
              refine J_iload dX0_seen_192 rfl ?_
              refine J_iadd_z dX0_seen_194 ?_
              refine J_iload dX0_seen_195 rfl ?_
              refine CC_X0_ask (by decide) (by decide) (Nat.le_of_ble_eq_true rfl) dX0_seen_197 ?_
              refine c_ask  ?_
              refine J_ri ?_
              refine J_iret rfl dX0_seen_200 ?_
              have hgo := plD_one hD (page := v) (i := x) (j := y) hv.1 hf (by omega) (by rw [← hcc.1, ← hcc.2.1]; omega)
              have hs := q1 f hf hgo
              have e : mSeen bl G P f x y = 100 * (mLf G f + mCl (x - c f 1 - mEd bl G f) (mAc G f - 1)) + mAb G f + mCl (y - c f 2 - mEd bl G f) (mDn G f - 1) := by unfold mSeen; rw [← hcc.1, ← hcc.2.1, ← hcc.2.2]; first | (rw [if_neg (by omega), if_neg (by omega)]; omega) | (rw [if_pos (by omega), if_pos (by omega)]; omega)
              rw [e] at hs
              exact hs
            · exfalso; omega
          · skip
            refine J_iload dX0_seen_128 rfl ?_
            refine J_goto (tgt := 135) dX0_seen_130 (by decide) ?_
            refine J_aload dX0_seen_135 rfl ?_
            refine VX3_wide G f (c := (c f))  (hS.w hf hO.1) (hO.k hf)  q1458 (by decide) (by decide) (Nat.le_of_ble_eq_true rfl) dX0_seen_137 ?_
            refine J_iconst (zI 1) dX0_seen_140 rfl ?_
            refine J_isub_z dX0_seen_141 ?_
            refine CC_X0_nearest (by decide) (by decide) (Nat.le_of_ble_eq_true rfl) dX0_seen_142 ?_
            refine c_nearest (by unfold zR; omega) (by unfold zR; omega) (by omega) ?_
            refine J_ri ?_
            refine J_istore dX0_seen_145 rfl (by decide) _ rfl ?_
            refine J_aload dX0_seen_147 rfl ?_
            refine FNX0_turned G f (hS.w hf hO.1) (hO.k hf) dX0_seen_149 ?_
            refine J_if_eq_z (tgt := 160) dX0_seen_152 (by decide) (by unfold zR; omega) (fun c152 => ?_) (fun c152 => ?_)
            · exfalso; omega
            · skip
              refine J_iload dX0_seen_155 rfl ?_
              refine J_goto (tgt := 162) dX0_seen_157 (by decide) ?_
              refine J_aload dX0_seen_162 rfl ?_
              refine VX3_high G f (c := (c f))  (hS.w hf hO.1) (hO.k hf)  q1462 (by decide) (by decide) (Nat.le_of_ble_eq_true rfl) dX0_seen_164 ?_
              refine J_iconst (zI 1) dX0_seen_167 rfl ?_
              refine J_isub_z dX0_seen_168 ?_
              refine CC_X0_nearest (by decide) (by decide) (Nat.le_of_ble_eq_true rfl) dX0_seen_169 ?_
              refine c_nearest (by unfold zR; omega) (by unfold zR; omega) (by omega) ?_
              refine J_ri ?_
              refine J_istore dX0_seen_172 rfl (by decide) _ rfl ?_
              refine J_aload_n dX0_seen_174 rfl ?_
              refine J_bipush (zI 100) dX0_seen_175 rfl ?_
              refine J_aload dX0_seen_177 rfl ?_
              refine VX3_firstColumn G f (c := (c f))  (hS.w hf hO.1) (hO.k hf)  q1463 (by decide) (by decide) (Nat.le_of_ble_eq_true rfl) dX0_seen_179 ?_
              refine J_iload dX0_seen_182 rfl ?_
              refine J_iadd_z dX0_seen_184 ?_
              refine J_imul_z dX0_seen_185 ?_
              refine J_aload dX0_seen_186 rfl ?_
              refine VX3_firstRow G f (c := (c f))  (hS.w hf hO.1) (hO.k hf)  q1466 (by decide) (by decide) (Nat.le_of_ble_eq_true rfl) dX0_seen_188 ?_
              refine J_iadd_z dX0_seen_191 ?_
              refine J_iload dX0_seen_192 rfl ?_
              refine J_iadd_z dX0_seen_194 ?_
              refine J_iload dX0_seen_195 rfl ?_
              refine CC_X0_ask (by decide) (by decide) (Nat.le_of_ble_eq_true rfl) dX0_seen_197 ?_
              refine c_ask  ?_
              refine J_ri ?_
              refine J_iret rfl dX0_seen_200 ?_
              have hgo := plD_one hD (page := v) (i := x) (j := y) hv.1 hf (by omega) (by rw [← hcc.1, ← hcc.2.1]; omega)
              have hs := q1 f hf hgo
              have e : mSeen bl G P f x y = 100 * (mLf G f + mCl (y - c f 2 - mEd bl G f) (mAc G f - 1)) + mAb G f + mCl (x - c f 1 - mEd bl G f) (mDn G f - 1) := by unfold mSeen; rw [← hcc.1, ← hcc.2.1, ← hcc.2.2]; first | (rw [if_neg (by omega), if_neg (by omega)]; omega) | (rw [if_pos (by omega), if_pos (by omega)]; omega)
              rw [e] at hs
              exact hs
        · skip
          rw [hcc.2.2] at b76
          refine J_if_eq_y (tgt := 201) dX0_seen_79 (by decide) (by decide) ?_
          refine J_iinc_z ((((f + 1)) : Nat) : Int) (by omega) dX0_seen_201 rfl rfl (by decide) _ rfl ?_
          refine J_goto (tgt := 41) dX0_seen_204 (by decide) ?_
          refine J_fg (L' := [some (.ref (α 0)), some (.int (zI (v))), some (.int (zI (x))), some (.int (zI (y))), some (.int (zI ((f + 1 : Nat)))), none, none, none, none, none]) (by repeat' constructor) ?_
          refine ih (f + 1) (by omega) (fun g hg hgv => ?_) (by omega)
          by_cases z : g = f
          · subst z; rw [hcc.1, hcc.2.1] at b76; exact b76
          · exact h2 g (by omega) hgv
theorem c_seen {E : jEnv} {α : Nat → Nat} {σ : cS} {Q : Option Value → cS → Prop} {many : Nat} {wide high bl : Int} {G : Nat → Nat → Int} {ad : Nat → Nat} {c : Nat → Nat → Int} {P : Nat → Nat → Int} {rule : Int} {v x y : Int}  (hS : cSh many wide high bl G ad c σ) (hO : shOK many wide high bl G) (hP : cPl many P c) (hN : plOK many P rule) (hV : plV many wide high bl G P) (hD : plD many bl G P) (hv : 0 ≤ v ∧ v < pgM P many) (hx : 0 ≤ x ∧ x < wide) (hy : 0 ≤ y ∧ y < high) (q0 : gO bl G P v many x y = -9 → Q (some (.int (zI (-9)))) σ) (q1 : ∀ f : Nat, f < many → gO bl G P v many x y = f → Q (some (.int (zI (f : Nat)))) (cI σ 2 (zI (mSeen bl G P f x y))))  : jX0_seen E α 0 [some (.ref (α 0)), some (.int (zI (v))), some (.int (zI (x))), some (.int (zI (y))), none, none, none, none, none, none] [] σ Q := by
  have hO8 := hO.s
  have hpb := pgM_b hN many (Nat.le_refl _)
  refine J_aload_n dX0_seen_0 rfl ?_
  refine J_iload_n dX0_seen_1 rfl ?_
  refine CC_X0_isPage (by decide) (by decide) (Nat.le_of_ble_eq_true rfl) dX0_seen_2 ?_
  refine c_isPage hS hO hP hN (by unfold zR at *; omega) (fun b2 => ?_) (fun b2 => ?_)
  · refine J_ri ?_
    refine J_if_eq_n (tgt := 36) dX0_seen_5 (by decide) (by decide) ?_
    refine J_iload_n dX0_seen_8 rfl ?_
    refine J_iconst (zI 0) dX0_seen_9 rfl ?_
    refine J_aload_n dX0_seen_10 rfl ?_
    refine CG_wide dX0_seen_11 ?_
    refine J_top (zI (wide)) hS.2.1 ?_
    refine J_iconst (zI 1) dX0_seen_14 rfl ?_
    refine J_isub_z dX0_seen_15 ?_
    refine PX0_isIn (by unfold zR; omega) (by unfold zR; omega) (by unfold zR; omega) (by decide) (by exact ⟨Nat.le_refl _, Nat.le_refl _⟩) (Nat.le_of_ble_eq_true rfl) dX0_seen_16 (fun b16 => ?_) (fun b16 => ?_)
    · skip
      refine J_if_eq_n (tgt := 36) dX0_seen_19 (by decide) (by decide) ?_
      refine J_iload_n dX0_seen_22 rfl ?_
      refine J_iconst (zI 0) dX0_seen_23 rfl ?_
      refine J_aload_n dX0_seen_24 rfl ?_
      refine CG_high dX0_seen_25 ?_
      refine J_top (zI (high)) hS.2.2.1 ?_
      refine J_iconst (zI 1) dX0_seen_28 rfl ?_
      refine J_isub_z dX0_seen_29 ?_
      refine PX0_isIn (by unfold zR; omega) (by unfold zR; omega) (by unfold zR; omega) (by decide) (by exact ⟨Nat.le_refl _, Nat.le_refl _⟩) (Nat.le_of_ble_eq_true rfl) dX0_seen_30 (fun b30 => ?_) (fun b30 => ?_)
      · skip
        refine J_if_ne_y (tgt := 38) dX0_seen_33 (by decide) (by decide) ?_
        refine J_iconst (zI 0) dX0_seen_38 rfl ?_
        refine J_istore dX0_seen_39 rfl (by decide) _ rfl ?_
        refine J_fg (L' := [some (.ref (α 0)), some (.int (zI (v))), some (.int (zI (x))), some (.int (zI (y))), some (.int (zI ((0 : Nat)))), none, none, none, none, none]) (by repeat' constructor) ?_
        exact cl_seen41 hS hO hP hN hV hD (by omega) hx hy q0 q1 _ 0 (by omega) (fun g hg => by omega) (Nat.lt_succ_self _)
      · exfalso; omega
    · exfalso; omega
  · exfalso; omega
theorem c_point_bad {E : jEnv} {α : Nat → Nat} {σ : cS} {Q : Option Value → cS → Prop} {many : Nat} {wide high bl : Int} {G : Nat → Nat → Int} {ad : Nat → Nat} {c : Nat → Nat → Int} {v cx r : Int} (hS : cSh many wide high bl G ad c σ) (hO : shOK many wide high bl G) (rv : zR v) (hv : ¬ (0 ≤ v ∧ v < many)) (hq : Q (some (.int (zI (-1)))) σ) : jX0_point E α 0 [some (.ref (α 0)), some (.int (zI (v))), some (.int (zI (cx))), some (.int (zI (r))), none, none, none, none, none] [] σ Q := by
  refine J_aload_n dX0_point_0 rfl ?_
  refine J_iload_n dX0_point_1 rfl ?_
  refine CC_X0_isFrame (by decide) (by decide) (Nat.le_of_ble_eq_true rfl) dX0_point_2 ?_
  refine c_isFrame hS hO (by unfold zR at *; omega) (fun b2 => ?_) (fun b2 => ?_)
  · exfalso; omega
  · refine J_ri ?_
    refine J_if_eq_y (tgt := 46) dX0_point_5 (by decide) (by decide) ?_
    refine J_iconst (zI (-1)) dX0_point_46 rfl ?_
    exact J_iret rfl dX0_point_47 (by exact hq)
theorem c_point_bad2 {E : jEnv} {α : Nat → Nat} {σ : cS} {Q : Option Value → cS → Prop} {many : Nat} {wide high bl : Int} {G : Nat → Nat → Int} {ad : Nat → Nat} {c : Nat → Nat → Int} {f : Nat} {cx r : Int} (hS : cSh many wide high bl G ad c σ) (hO : shOK many wide high bl G) (hf : f < many) (rc : zR cx) (rr : zR r) (hv : ¬ (0 ≤ cx ∧ cx < G f 1) ∨ ¬ (0 ≤ r ∧ r < G f 2)) (hq : Q (some (.int (zI (-1)))) σ) : jX0_point E α 0 [some (.ref (α 0)), some (.int (zI (f : Nat))), some (.int (zI (cx))), some (.int (zI (r))), none, none, none, none, none] [] σ Q := by
  have hO8 := hO.s
  have := hO.g hf
  refine J_aload_n dX0_point_0 rfl ?_
  refine J_iload_n dX0_point_1 rfl ?_
  refine CC_X0_isFrame (by decide) (by decide) (Nat.le_of_ble_eq_true rfl) dX0_point_2 ?_
  refine c_isFrame hS hO (by unfold zR at *; omega) (fun b2 => ?_) (fun b2 => ?_)
  · refine J_ri ?_
    refine J_if_eq_n (tgt := 46) dX0_point_5 (by decide) (by decide) ?_
    refine J_iload_n dX0_point_8 rfl ?_
    refine J_iconst (zI 0) dX0_point_9 rfl ?_
    refine J_aload_n dX0_point_10 rfl ?_
    refine CG_frames dX0_point_11 ?_
    refine J_iload_n dX0_point_14 rfl ?_
    refine CA_fr (hS.2.2.2.2 _ hf) (by omega) (by have := hO.1; omega) dX0_point_15 ?_
    refine FNX0_w G f (hS.w hf hO.1) (hO.k hf) dX0_point_16 ?_
    refine J_iconst (zI 1) dX0_point_19 rfl ?_
    refine J_isub_z dX0_point_20 ?_
    refine PX0_isIn (by unfold zR at *; omega) (by unfold zR at *; omega) (by unfold zR at *; omega) (by decide) (by exact ⟨Nat.le_refl _, Nat.le_refl _⟩) (Nat.le_of_ble_eq_true rfl) dX0_point_21 (fun b21 => ?_) (fun b21 => ?_)
    · skip
      refine J_if_eq_n (tgt := 46) dX0_point_24 (by decide) (by decide) ?_
      refine J_iload_n dX0_point_27 rfl ?_
      refine J_iconst (zI 0) dX0_point_28 rfl ?_
      refine J_aload_n dX0_point_29 rfl ?_
      refine CG_frames dX0_point_30 ?_
      refine J_iload_n dX0_point_33 rfl ?_
      refine CA_fr (hS.2.2.2.2 _ hf) (by omega) (by have := hO.1; omega) dX0_point_34 ?_
      refine FNX0_h G f (hS.w hf hO.1) (hO.k hf) dX0_point_35 ?_
      refine J_iconst (zI 1) dX0_point_38 rfl ?_
      refine J_isub_z dX0_point_39 ?_
      refine PX0_isIn (by unfold zR at *; omega) (by unfold zR at *; omega) (by unfold zR at *; omega) (by decide) (by exact ⟨Nat.le_refl _, Nat.le_refl _⟩) (Nat.le_of_ble_eq_true rfl) dX0_point_40 (fun b40 => ?_) (fun b40 => ?_)
      · exfalso; omega
      · skip
        refine J_if_ne_n (tgt := 48) dX0_point_43 (by decide) (by decide) ?_
        refine J_iconst (zI (-1)) dX0_point_46 rfl ?_
        exact J_iret rfl dX0_point_47 (by exact hq)
    · skip
      refine J_if_eq_y (tgt := 46) dX0_point_24 (by decide) (by decide) ?_
      refine J_iconst (zI (-1)) dX0_point_46 rfl ?_
      exact J_iret rfl dX0_point_47 (by exact hq)
  · exfalso; omega
theorem c_point {E : jEnv} {α : Nat → Nat} {σ : cS} {Q : Option Value → cS → Prop} {many : Nat} {wide high bl : Int} {G : Nat → Nat → Int} {ad : Nat → Nat} {c : Nat → Nat → Int} {P : Nat → Nat → Int} {rule : Int} {f : Nat} {cx r : Int} (hS : cSh many wide high bl G ad c σ) (hO : shOK many wide high bl G) (hP : cPl many P c) (hN : plOK many P rule) (hf : f < many) (hc : 0 ≤ cx ∧ cx < G f 1) (hr : 0 ≤ r ∧ r < G f 2) (q0 : P f 0 = -1 → Q (some (.int (zI (-4)))) σ) (q1 : 0 ≤ P f 0 → ¬ (0 ≤ cx - mLf G f ∧ cx - mLf G f < mAc G f ∧ 0 ≤ r - mAb G f ∧ r - mAb G f < mDn G f) → Q (some (.int (zI (-9)))) σ) (q2 : 0 ≤ P f 0 → 0 ≤ cx - mLf G f ∧ cx - mLf G f < mAc G f ∧ 0 ≤ r - mAb G f ∧ r - mAb G f < mDn G f → Q (some (.int (zI (mPoint bl G P f cx r)))) σ) : jX0_point E α 0 [some (.ref (α 0)), some (.int (zI (f : Nat))), some (.int (zI (cx))), some (.int (zI (r))), none, none, none, none, none] [] σ Q := by
  have hO8 := hO.s
  have hg8 := hO.g hf
  have hac := mAc_b hO hf
  have hdn := mDn_b hO hf
  have hlf := mLf_b hO hf
  have hab := mAb_b hO hf
  have hed := mEd_b hO f
  have hnf := hN.1 f hf
  have hpf := hP f hf
  refine J_aload_n dX0_point_0 rfl ?_
  refine J_iload_n dX0_point_1 rfl ?_
  refine CC_X0_isFrame (by decide) (by decide) (Nat.le_of_ble_eq_true rfl) dX0_point_2 ?_
  refine c_isFrame hS hO (by unfold zR at *; omega) (fun b2 => ?_) (fun b2 => ?_)
  · refine J_ri ?_
    refine J_if_eq_n (tgt := 46) dX0_point_5 (by decide) (by decide) ?_
    refine J_iload_n dX0_point_8 rfl ?_
    refine J_iconst (zI 0) dX0_point_9 rfl ?_
    refine J_aload_n dX0_point_10 rfl ?_
    refine CG_frames dX0_point_11 ?_
    refine J_iload_n dX0_point_14 rfl ?_
    refine CA_fr (hS.2.2.2.2 _ hf) (by omega) (by have := hO.1; omega) dX0_point_15 ?_
    refine FNX0_w G f (hS.w hf hO.1) (hO.k hf) dX0_point_16 ?_
    refine J_iconst (zI 1) dX0_point_19 rfl ?_
    refine J_isub_z dX0_point_20 ?_
    refine PX0_isIn (by unfold zR; omega) (by unfold zR; omega) (by unfold zR; omega) (by decide) (by exact ⟨Nat.le_refl _, Nat.le_refl _⟩) (Nat.le_of_ble_eq_true rfl) dX0_point_21 (fun b21 => ?_) (fun b21 => ?_)
    · skip
      refine J_if_eq_n (tgt := 46) dX0_point_24 (by decide) (by decide) ?_
      refine J_iload_n dX0_point_27 rfl ?_
      refine J_iconst (zI 0) dX0_point_28 rfl ?_
      refine J_aload_n dX0_point_29 rfl ?_
      refine CG_frames dX0_point_30 ?_
      refine J_iload_n dX0_point_33 rfl ?_
      refine CA_fr (hS.2.2.2.2 _ hf) (by omega) (by have := hO.1; omega) dX0_point_34 ?_
      refine FNX0_h G f (hS.w hf hO.1) (hO.k hf) dX0_point_35 ?_
      refine J_iconst (zI 1) dX0_point_38 rfl ?_
      refine J_isub_z dX0_point_39 ?_
      refine PX0_isIn (by unfold zR; omega) (by unfold zR; omega) (by unfold zR; omega) (by decide) (by exact ⟨Nat.le_refl _, Nat.le_refl _⟩) (Nat.le_of_ble_eq_true rfl) dX0_point_40 (fun b40 => ?_) (fun b40 => ?_)
      · skip
        refine J_if_ne_y (tgt := 48) dX0_point_43 (by decide) (by decide) ?_
        refine J_aload_n dX0_point_48 rfl ?_
        refine J_iload_n dX0_point_49 rfl ?_
        refine CC_X0_isSet (by decide) (by decide) (Nat.le_of_ble_eq_true rfl) dX0_point_50 ?_
        refine c_isSet hS hO hP hN hf (fun b50 => ?_) (fun b50 => ?_)
        · refine J_ri ?_
          refine J_if_ne_y (tgt := 59) dX0_point_53 (by decide) (by decide) ?_
          refine J_aload_n dX0_point_59 rfl ?_
          refine CG_frames dX0_point_60 ?_
          refine J_iload_n dX0_point_63 rfl ?_
          refine CA_fr (hS.2.2.2.2 _ hf) (by omega) (by have := hO.1; omega) dX0_point_64 ?_
          refine J_astore dX0_point_65 rfl (by decide) _ rfl ?_
          refine J_iload_n dX0_point_67 rfl ?_
          refine J_aload dX0_point_68 rfl ?_
          refine VX3_firstColumn G f (c := (c f))  (hS.w hf hO.1) (hO.k hf)  q1463 (by decide) (by decide) (Nat.le_of_ble_eq_true rfl) dX0_point_70 ?_
          refine J_isub_z dX0_point_73 ?_
          refine J_istore dX0_point_74 rfl (by decide) _ rfl ?_
          refine J_iload_n dX0_point_76 rfl ?_
          refine J_aload dX0_point_77 rfl ?_
          refine VX3_firstRow G f (c := (c f))  (hS.w hf hO.1) (hO.k hf)  q1466 (by decide) (by decide) (Nat.le_of_ble_eq_true rfl) dX0_point_79 ?_
          refine J_isub_z dX0_point_82 ?_
          refine J_istore dX0_point_83 rfl (by decide) _ rfl ?_
          refine J_iload dX0_point_85 rfl ?_
          refine J_iconst (zI 0) dX0_point_87 rfl ?_
          refine J_aload dX0_point_88 rfl ?_
          refine VX3_wide G f (c := (c f))  (hS.w hf hO.1) (hO.k hf)  q1458 (by decide) (by decide) (Nat.le_of_ble_eq_true rfl) dX0_point_90 ?_
          refine J_iconst (zI 1) dX0_point_93 rfl ?_
          refine J_isub_z dX0_point_94 ?_
          refine PX0_isIn (by unfold zR; omega) (by unfold zR; omega) (by unfold zR; omega) (by decide) (by exact ⟨Nat.le_refl _, Nat.le_refl _⟩) (Nat.le_of_ble_eq_true rfl) dX0_point_95 (fun b95 => ?_) (fun b95 => ?_)
          · skip
            refine J_if_eq_n (tgt := 117) dX0_point_98 (by decide) (by decide) ?_
            refine J_iload dX0_point_101 rfl ?_
            refine J_iconst (zI 0) dX0_point_103 rfl ?_
            refine J_aload dX0_point_104 rfl ?_
            refine VX3_high G f (c := (c f))  (hS.w hf hO.1) (hO.k hf)  q1462 (by decide) (by decide) (Nat.le_of_ble_eq_true rfl) dX0_point_106 ?_
            refine J_iconst (zI 1) dX0_point_109 rfl ?_
            refine J_isub_z dX0_point_110 ?_
            refine PX0_isIn (by unfold zR; omega) (by unfold zR; omega) (by unfold zR; omega) (by decide) (by exact ⟨Nat.le_refl _, Nat.le_refl _⟩) (Nat.le_of_ble_eq_true rfl) dX0_point_111 (fun b111 => ?_) (fun b111 => ?_)
            · skip
              refine J_if_ne_y (tgt := 120) dX0_point_114 (by decide) (by decide) ?_
              refine J_aload dX0_point_120 rfl ?_
              refine FNX0_x G f (hS.w hf hO.1) (hO.k hf) dX0_point_122 ?_
              refine J_aload dX0_point_125 rfl ?_
              refine J_aload_n dX0_point_127 rfl ?_
              refine CG_bleed dX0_point_128 ?_
              refine J_top (zI (bl)) hS.2.2.2.1 ?_
              refine VX3_edge G f (c := (c f))  (hS.w hf hO.1) (hO.k hf)  q1457 (by decide) (by decide) (Nat.le_of_ble_eq_true rfl) dX0_point_131 ?_
              refine J_iadd_z dX0_point_134 ?_
              refine J_aload dX0_point_135 rfl ?_
              refine FNX0_turned G f (hS.w hf hO.1) (hO.k hf) dX0_point_137 ?_
              refine J_if_eq_z (tgt := 148) dX0_point_140 (by decide) (by unfold zR; omega) (fun c140 => ?_) (fun c140 => ?_)
              · skip
                refine J_iload dX0_point_148 rfl ?_
                refine J_iadd_z dX0_point_150 ?_
                refine J_istore dX0_point_151 rfl (by decide) _ rfl ?_
                refine J_aload dX0_point_153 rfl ?_
                refine FNX0_y G f (hS.w hf hO.1) (hO.k hf) dX0_point_155 ?_
                refine J_aload dX0_point_158 rfl ?_
                refine J_aload_n dX0_point_160 rfl ?_
                refine CG_bleed dX0_point_161 ?_
                refine J_top (zI (bl)) hS.2.2.2.1 ?_
                refine VX3_edge G f (c := (c f))  (hS.w hf hO.1) (hO.k hf)  q1457 (by decide) (by decide) (Nat.le_of_ble_eq_true rfl) dX0_point_164 ?_
                refine J_iadd_z dX0_point_167 ?_
                refine J_aload dX0_point_168 rfl ?_
                refine FNX0_turned G f (hS.w hf hO.1) (hO.k hf) dX0_point_170 ?_
                refine J_if_eq_z (tgt := 181) dX0_point_173 (by decide) (by unfold zR; omega) (fun c173 => ?_) (fun c173 => ?_)
                · skip
                  refine J_iload dX0_point_181 rfl ?_
                  refine J_iadd_z dX0_point_183 ?_
                  refine J_istore dX0_point_184 rfl (by decide) _ rfl ?_
                  refine J_sipush (zI 10000) dX0_point_186 rfl ?_
                  refine J_aload dX0_point_189 rfl ?_
                  refine FNX0_page G f (hS.w hf hO.1) (hO.k hf) dX0_point_191 ?_
                  refine J_imul_z dX0_point_194 ?_
                  refine J_bipush (zI 100) dX0_point_195 rfl ?_
                  refine J_iload dX0_point_197 rfl ?_
                  refine J_imul_z dX0_point_199 ?_
                  refine J_iadd_z dX0_point_200 ?_
                  refine J_iload dX0_point_201 rfl ?_
                  refine J_iadd_z dX0_point_203 ?_
                  exact J_iret rfl dX0_point_204 (by exact qc (q2 (by omega) (by omega)) (by unfold mPoint; split <;> omega))
                · skip
                  refine J_iload dX0_point_176 rfl ?_
                  refine J_goto (tgt := 183) dX0_point_178 (by decide) ?_
                  refine J_iadd_z dX0_point_183 ?_
                  refine J_istore dX0_point_184 rfl (by decide) _ rfl ?_
                  refine J_sipush (zI 10000) dX0_point_186 rfl ?_
                  refine J_aload dX0_point_189 rfl ?_
                  refine FNX0_page G f (hS.w hf hO.1) (hO.k hf) dX0_point_191 ?_
                  refine J_imul_z dX0_point_194 ?_
                  refine J_bipush (zI 100) dX0_point_195 rfl ?_
                  refine J_iload dX0_point_197 rfl ?_
                  refine J_imul_z dX0_point_199 ?_
                  refine J_iadd_z dX0_point_200 ?_
                  refine J_iload dX0_point_201 rfl ?_
                  refine J_iadd_z dX0_point_203 ?_
                  exact J_iret rfl dX0_point_204 (by exact qc (q2 (by omega) (by omega)) (by unfold mPoint; split <;> omega))
              · skip
                refine J_iload dX0_point_143 rfl ?_
                refine J_goto (tgt := 150) dX0_point_145 (by decide) ?_
                refine J_iadd_z dX0_point_150 ?_
                refine J_istore dX0_point_151 rfl (by decide) _ rfl ?_
                refine J_aload dX0_point_153 rfl ?_
                refine FNX0_y G f (hS.w hf hO.1) (hO.k hf) dX0_point_155 ?_
                refine J_aload dX0_point_158 rfl ?_
                refine J_aload_n dX0_point_160 rfl ?_
                refine CG_bleed dX0_point_161 ?_
                refine J_top (zI (bl)) hS.2.2.2.1 ?_
                refine VX3_edge G f (c := (c f))  (hS.w hf hO.1) (hO.k hf)  q1457 (by decide) (by decide) (Nat.le_of_ble_eq_true rfl) dX0_point_164 ?_
                refine J_iadd_z dX0_point_167 ?_
                refine J_aload dX0_point_168 rfl ?_
                refine FNX0_turned G f (hS.w hf hO.1) (hO.k hf) dX0_point_170 ?_
                refine J_if_eq_z (tgt := 181) dX0_point_173 (by decide) (by unfold zR; omega) (fun c173 => ?_) (fun c173 => ?_)
                · skip
                  refine J_iload dX0_point_181 rfl ?_
                  refine J_iadd_z dX0_point_183 ?_
                  refine J_istore dX0_point_184 rfl (by decide) _ rfl ?_
                  refine J_sipush (zI 10000) dX0_point_186 rfl ?_
                  refine J_aload dX0_point_189 rfl ?_
                  refine FNX0_page G f (hS.w hf hO.1) (hO.k hf) dX0_point_191 ?_
                  refine J_imul_z dX0_point_194 ?_
                  refine J_bipush (zI 100) dX0_point_195 rfl ?_
                  refine J_iload dX0_point_197 rfl ?_
                  refine J_imul_z dX0_point_199 ?_
                  refine J_iadd_z dX0_point_200 ?_
                  refine J_iload dX0_point_201 rfl ?_
                  refine J_iadd_z dX0_point_203 ?_
                  exact J_iret rfl dX0_point_204 (by exact qc (q2 (by omega) (by omega)) (by unfold mPoint; split <;> omega))
                · skip
                  refine J_iload dX0_point_176 rfl ?_
                  refine J_goto (tgt := 183) dX0_point_178 (by decide) ?_
                  refine J_iadd_z dX0_point_183 ?_
                  refine J_istore dX0_point_184 rfl (by decide) _ rfl ?_
                  refine J_sipush (zI 10000) dX0_point_186 rfl ?_
                  refine J_aload dX0_point_189 rfl ?_
                  refine FNX0_page G f (hS.w hf hO.1) (hO.k hf) dX0_point_191 ?_
                  refine J_imul_z dX0_point_194 ?_
                  refine J_bipush (zI 100) dX0_point_195 rfl ?_
                  refine J_iload dX0_point_197 rfl ?_
                  refine J_imul_z dX0_point_199 ?_
                  refine J_iadd_z dX0_point_200 ?_
                  refine J_iload dX0_point_201 rfl ?_
                  refine J_iadd_z dX0_point_203 ?_
                  exact J_iret rfl dX0_point_204 (by exact qc (q2 (by omega) (by omega)) (by unfold mPoint; split <;> omega))
            · skip
              refine J_if_ne_n (tgt := 120) dX0_point_114 (by decide) (by decide) ?_
              refine J_bipush (zI (-9)) dX0_point_117 rfl ?_
              exact J_iret rfl dX0_point_119 (by exact q1 (by omega) (by omega))
          · skip
            refine J_if_eq_y (tgt := 117) dX0_point_98 (by decide) (by decide) ?_
            refine J_bipush (zI (-9)) dX0_point_117 rfl ?_
            exact J_iret rfl dX0_point_119 (by exact q1 (by omega) (by omega))
        · refine J_ri ?_
          refine J_if_ne_n (tgt := 59) dX0_point_53 (by decide) (by decide) ?_
          refine J_bipush (zI (-4)) dX0_point_56 rfl ?_
          exact J_iret rfl dX0_point_58 (by exact q0 (by omega))
      · exfalso; omega
    · exfalso; omega
  · exfalso; omega
theorem cl_usedOf4 {E : jEnv} {α : Nat → Nat} {σ : cS} {Q : Option Value → cS → Prop} {many : Nat} {wide high bl : Int} {G : Nat → Nat → Int} {ad : Nat → Nat} {c : Nat → Nat → Int} {P : Nat → Nat → Int} {rule : Int} {v : Int}  (hS : cSh many wide high bl G ad c σ) (hO : shOK many wide high bl G) (hP : cPl many P c) (hN : plOK many P rule) (hv : 0 ≤ v ∧ v ≤ 100) (hq : Q (some (.int (zI (mTaken bl G P v many)))) σ)  : ∀ (n : Nat) (f : Nat), f ≤ many → many - f < n → jX0_usedOf E α 4 [some (.ref (α 0)), some (.int (zI (v))), some (.int (zI (mTaken bl G P v f))), some (.int (zI (f : Nat)))] [] σ Q := by
  intro n
  induction n with
  | zero => intro f h1 hn; exact absurd hn (Nat.not_lt_zero _)
  | succ n ih =>
    intro f h1 hn
    have hO8 := hO.s
    refine J_iload_n dX0_usedOf_4 rfl ?_
    refine J_aload_n dX0_usedOf_5 rfl ?_
    refine CG_many dX0_usedOf_6 ?_
    refine J_top (zI (many)) hS.1 ?_
    refine J_icmp_ge_z (tgt := 51) dX0_usedOf_9 (by decide) (by unfold zR; omega) (by unfold zR; omega) (fun c9 => ?_) (fun c9 => ?_)
    · skip
      obtain rfl : f = many := by omega
      refine J_iload_n dX0_usedOf_51 rfl ?_
      exact J_iret rfl dX0_usedOf_52 (by exact hq)
    · skip
      have hf : f < many := by omega
      have hpf := hP f hf
      have hnf := hN.1 f hf
      refine J_iload_n dX0_usedOf_12 rfl ?_
      refine J_aload_n dX0_usedOf_13 rfl ?_
      refine CG_frames dX0_usedOf_14 ?_
      refine J_iload_n dX0_usedOf_17 rfl ?_
      refine CA_fr (hS.2.2.2.2 _ hf) (by omega) (by have := hO.1; omega) dX0_usedOf_18 ?_
      refine FNX0_page G f (hS.w hf hO.1) (hO.k hf) dX0_usedOf_19 ?_
      refine J_iload_n dX0_usedOf_22 rfl ?_
      refine J_icmp_ne_z (tgt := 42) dX0_usedOf_23 (by decide) (by unfold zR; omega) (by unfold zR; omega) (fun c23 => ?_) (fun c23 => ?_)
      · skip
        refine J_iconst (zI 0) dX0_usedOf_42 rfl ?_
        refine J_iadd_z dX0_usedOf_43 ?_
        refine J_top (zI (mTaken bl G P v (f + 1))) (congrArg zI (by show _ = mTaken bl G P v f + (if P f 0 = v then mNX bl G f 0 * mNY bl G f 0 else 0); split <;> omega)) ?_
        refine J_istore_n dX0_usedOf_44 rfl (by decide) _ rfl ?_
        refine J_iinc_z ((((f + 1)) : Nat) : Int) (by omega) dX0_usedOf_45 rfl rfl (by decide) _ rfl ?_
        refine J_goto (tgt := 4) dX0_usedOf_48 (by decide) ?_
        exact ih (f + 1) (by omega) (by omega)
      · skip
        refine J_aload_n dX0_usedOf_26 rfl ?_
        refine CG_frames dX0_usedOf_27 ?_
        refine J_iload_n dX0_usedOf_30 rfl ?_
        refine CA_fr (hS.2.2.2.2 _ hf) (by omega) (by have := hO.1; omega) dX0_usedOf_31 ?_
        refine J_aload_n dX0_usedOf_32 rfl ?_
        refine CG_bleed dX0_usedOf_33 ?_
        refine J_top (zI (bl)) hS.2.2.2.1 ?_
        refine VX3_needs G f (c := (c f))  (hS.w hf hO.1) (hO.k hf)  q1287 (by decide) (by decide) (Nat.le_of_ble_eq_true rfl) dX0_usedOf_36 ?_
        refine J_goto (tgt := 43) dX0_usedOf_39 (by decide) ?_
        refine J_iadd_z dX0_usedOf_43 ?_
        refine J_top (zI (mTaken bl G P v (f + 1))) (congrArg zI (by show _ = mTaken bl G P v f + (if P f 0 = v then mNX bl G f 0 * mNY bl G f 0 else 0); split <;> omega)) ?_
        refine J_istore_n dX0_usedOf_44 rfl (by decide) _ rfl ?_
        refine J_iinc_z ((((f + 1)) : Nat) : Int) (by omega) dX0_usedOf_45 rfl rfl (by decide) _ rfl ?_
        refine J_goto (tgt := 4) dX0_usedOf_48 (by decide) ?_
        exact ih (f + 1) (by omega) (by omega)
theorem c_usedOf {E : jEnv} {α : Nat → Nat} {σ : cS} {Q : Option Value → cS → Prop} {many : Nat} {wide high bl : Int} {G : Nat → Nat → Int} {ad : Nat → Nat} {c : Nat → Nat → Int} {P : Nat → Nat → Int} {rule : Int} {v : Int}  (hS : cSh many wide high bl G ad c σ) (hO : shOK many wide high bl G) (hP : cPl many P c) (hN : plOK many P rule) (hv : 0 ≤ v ∧ v ≤ 100) (hq : Q (some (.int (zI (mTaken bl G P v many)))) σ)  : jX0_usedOf E α 0 [some (.ref (α 0)), some (.int (zI (v))), none, none] [] σ Q := by
  refine J_iconst (zI 0) dX0_usedOf_0 rfl ?_
  refine J_istore_n dX0_usedOf_1 rfl (by decide) _ rfl ?_
  refine J_iconst (zI 0) dX0_usedOf_2 rfl ?_
  refine J_istore_n dX0_usedOf_3 rfl (by decide) _ rfl ?_
  refine J_fg (L' := [some (.ref (α 0)), some (.int (zI (v))), some (.int (zI (mTaken bl G P v 0))), some (.int (zI ((0 : Nat))))]) (by repeat' constructor) ?_
  exact cl_usedOf4 hS hO hP hN hv hq _ 0 (by omega) (Nat.lt_succ_self _)
theorem cl_usedOf4m {E : jEnv} {α : Nat → Nat} {σ : cS} {Q : Option Value → cS → Prop} {many : Nat} {wide high bl : Int} {G : Nat → Nat → Int} {ad : Nat → Nat} {c : Nat → Nat → Int} {P : Nat → Nat → Int} {rule : Int}  (hS : cSh many wide high bl G ad c σ) (hO : shOK many wide high bl G) (hP : cPl many P c) (hN : plOK many P rule) (hq : Q (some (.int (zI 0))) σ)  : ∀ (n : Nat) (f : Nat), f ≤ many → many - f < n → jX0_usedOf E α 4 [some (.ref (α 0)), some (.int (zI (-1))), some (.int (zI (0))), some (.int (zI (f : Nat)))] [] σ Q := by
  intro n
  induction n with
  | zero => intro f h1 hn; exact absurd hn (Nat.not_lt_zero _)
  | succ n ih =>
    intro f h1 hn
    have hO8 := hO.s
    refine J_iload_n dX0_usedOf_4 rfl ?_
    refine J_aload_n dX0_usedOf_5 rfl ?_
    refine CG_many dX0_usedOf_6 ?_
    refine J_top (zI (many)) hS.1 ?_
    refine J_icmp_ge_z (tgt := 51) dX0_usedOf_9 (by decide) (by unfold zR; omega) (by unfold zR; omega) (fun c9 => ?_) (fun c9 => ?_)
    · skip
      obtain rfl : f = many := by omega
      refine J_iload_n dX0_usedOf_51 rfl ?_
      exact J_iret rfl dX0_usedOf_52 (by exact hq)
    · skip
      have hf : f < many := by omega
      have hpf := hP f hf
      have hnf := hN.1 f hf
      refine J_iload_n dX0_usedOf_12 rfl ?_
      refine J_aload_n dX0_usedOf_13 rfl ?_
      refine CG_frames dX0_usedOf_14 ?_
      refine J_iload_n dX0_usedOf_17 rfl ?_
      refine CA_fr (hS.2.2.2.2 _ hf) (by omega) (by have := hO.1; omega) dX0_usedOf_18 ?_
      refine FNX0_page G f (hS.w hf hO.1) (hO.k hf) dX0_usedOf_19 ?_
      refine J_iload_n dX0_usedOf_22 rfl ?_
      refine J_icmp_ne_z (tgt := 42) dX0_usedOf_23 (by decide) (by unfold zR; omega) (by unfold zR; omega) (fun c23 => ?_) (fun c23 => ?_)
      · skip
        refine J_iconst (zI 0) dX0_usedOf_42 rfl ?_
        refine J_iadd_z dX0_usedOf_43 ?_
        refine J_top (zI (0)) (congrArg zI (by omega)) ?_
        refine J_istore_n dX0_usedOf_44 rfl (by decide) _ rfl ?_
        refine J_iinc_z ((((f + 1)) : Nat) : Int) (by omega) dX0_usedOf_45 rfl rfl (by decide) _ rfl ?_
        refine J_goto (tgt := 4) dX0_usedOf_48 (by decide) ?_
        exact ih (f + 1) (by omega) (by omega)
      · exfalso; omega
theorem c_usedOfm {E : jEnv} {α : Nat → Nat} {σ : cS} {Q : Option Value → cS → Prop} {many : Nat} {wide high bl : Int} {G : Nat → Nat → Int} {ad : Nat → Nat} {c : Nat → Nat → Int} {P : Nat → Nat → Int} {rule : Int}  (hS : cSh many wide high bl G ad c σ) (hO : shOK many wide high bl G) (hP : cPl many P c) (hN : plOK many P rule) (hq : Q (some (.int (zI 0))) σ)  : jX0_usedOf E α 0 [some (.ref (α 0)), some (.int (zI (-1))), none, none] [] σ Q := by
  refine J_iconst (zI 0) dX0_usedOf_0 rfl ?_
  refine J_istore_n dX0_usedOf_1 rfl (by decide) _ rfl ?_
  refine J_iconst (zI 0) dX0_usedOf_2 rfl ?_
  refine J_istore_n dX0_usedOf_3 rfl (by decide) _ rfl ?_
  refine J_fg (L' := [some (.ref (α 0)), some (.int (zI (-1))), some (.int (zI (0))), some (.int (zI ((0 : Nat))))]) (by repeat' constructor) ?_
  exact cl_usedOf4m hS hO hP hN hq _ 0 (by omega) (Nat.lt_succ_self _)
theorem c_used_bad {E : jEnv} {α : Nat → Nat} {σ : cS} {Q : Option Value → cS → Prop} {many : Nat} {wide high bl : Int} {G : Nat → Nat → Int} {ad : Nat → Nat} {c : Nat → Nat → Int} {P : Nat → Nat → Int} {rule : Int} {v : Int} (hS : cSh many wide high bl G ad c σ) (hO : shOK many wide high bl G) (hP : cPl many P c) (hN : plOK many P rule) (rv : zR v) (hv : ¬ (0 ≤ v ∧ v < pgM P many)) (hq : Q (some (.int (zI (-1)))) σ) : jX0_used E α 0 [some (.ref (α 0)), some (.int (zI (v))), none] [] σ Q := by
  refine J_aload_n dX0_used_0 rfl ?_
  refine J_iload_n dX0_used_1 rfl ?_
  refine CC_X0_isPage (by decide) (by decide) (Nat.le_of_ble_eq_true rfl) dX0_used_2 ?_
  refine c_isPage hS hO hP hN (by unfold zR at *; omega) (fun b2 => ?_) (fun b2 => ?_)
  · exfalso; omega
  · refine J_ri ?_
    refine J_if_ne_n (tgt := 10) dX0_used_5 (by decide) (by decide) ?_
    refine J_iconst (zI (-1)) dX0_used_8 rfl ?_
    exact J_iret rfl dX0_used_9 (by exact hq)
theorem c_used {E : jEnv} {α : Nat → Nat} {σ : cS} {Q : Option Value → cS → Prop} {many : Nat} {wide high bl : Int} {G : Nat → Nat → Int} {ad : Nat → Nat} {c : Nat → Nat → Int} {P : Nat → Nat → Int} {rule : Int} {v : Int} (hS : cSh many wide high bl G ad c σ) (hO : shOK many wide high bl G) (hP : cPl many P c) (hN : plOK many P rule) (hv : 0 ≤ v ∧ v < pgM P many) (hm : 0 < many) (hq : Q (some (.int (zI (mTaken bl G P v many)))) (cI σ 2 (zI (100 * mTaken bl G P v many / (wide * high))))) : jX0_used E α 0 [some (.ref (α 0)), some (.int (zI (v))), none] [] σ Q := by
  have hO8 := hO.s
  have hpb := pgM_b hN many (Nat.le_refl _)
  have := mTaken_b (P := P) (page := v) hO many (Nat.le_refl _)
  have := hO.2.2.2.2.2.1 hm
  have := mul_b (a := wide) (b := high) (c := 16) (d := 16) (by omega) (by omega)
  refine J_aload_n dX0_used_0 rfl ?_
  refine J_iload_n dX0_used_1 rfl ?_
  refine CC_X0_isPage (by decide) (by decide) (Nat.le_of_ble_eq_true rfl) dX0_used_2 ?_
  refine c_isPage hS hO hP hN (by unfold zR at *; omega) (fun b2 => ?_) (fun b2 => ?_)
  · refine J_ri ?_
    refine J_if_ne_y (tgt := 10) dX0_used_5 (by decide) (by decide) ?_
    refine J_aload_n dX0_used_10 rfl ?_
    refine J_iload_n dX0_used_11 rfl ?_
    refine CC_X0_usedOf (by decide) (by decide) (Nat.le_of_ble_eq_true rfl) dX0_used_12 ?_
    refine c_usedOf hS hO hP hN (by omega) ?_
    refine J_ri ?_
    refine J_istore_n dX0_used_15 rfl (by decide) _ rfl ?_
    refine J_aload_n dX0_used_16 rfl ?_
    refine J_bipush (zI 100) dX0_used_17 rfl ?_
    refine J_iload_n dX0_used_19 rfl ?_
    refine J_imul_z dX0_used_20 ?_
    refine J_aload_n dX0_used_21 rfl ?_
    refine CG_wide dX0_used_22 ?_
    refine J_top (zI (wide)) hS.2.1 ?_
    refine J_aload_n dX0_used_25 rfl ?_
    refine CG_high dX0_used_26 ?_
    refine J_top (zI (high)) hS.2.2.1 ?_
    refine J_imul_z dX0_used_29 ?_
    refine J_idiv_z dX0_used_30 (by unfold zR; omega) (by unfold zR; omega) (by omega) (by omega) ?_
    refine J_iload_n dX0_used_31 rfl ?_
    refine CC_X0_ask (by decide) (by decide) (Nat.le_of_ble_eq_true rfl) dX0_used_32 ?_
    refine c_ask  ?_
    refine J_ri ?_
    exact J_iret rfl dX0_used_35 (by exact hq)
  · exfalso; omega
theorem cl_setMany4 {E : jEnv} {α : Nat → Nat} {σ : cS} {Q : Option Value → cS → Prop} {many : Nat} {wide high bl : Int} {G : Nat → Nat → Int} {ad : Nat → Nat} {c : Nat → Nat → Int} {P : Nat → Nat → Int} {rule : Int}  (hS : cSh many wide high bl G ad c σ) (hO : shOK many wide high bl G) (hP : cPl many P c) (hN : plOK many P rule) (hq : Q (some (.int (zI (mSetN P many)))) σ)  : ∀ (n : Nat) (f : Nat), f ≤ many → many - f < n → jX0_setMany E α 4 [some (.ref (α 0)), some (.int (zI (mSetN P f))), some (.int (zI (f : Nat)))] [] σ Q := by
  intro n
  induction n with
  | zero => intro f h1 hn; exact absurd hn (Nat.not_lt_zero _)
  | succ n ih =>
    intro f h1 hn
    have hO8 := hO.s
    refine J_iload_n dX0_setMany_4 rfl ?_
    refine J_aload_n dX0_setMany_5 rfl ?_
    refine CG_many dX0_setMany_6 ?_
    refine J_top (zI (many)) hS.1 ?_
    refine J_icmp_ge_z (tgt := 34) dX0_setMany_9 (by decide) (by unfold zR; omega) (by unfold zR; omega) (fun c9 => ?_) (fun c9 => ?_)
    · skip
      obtain rfl : f = many := by omega
      refine J_iload_n dX0_setMany_34 rfl ?_
      exact J_iret rfl dX0_setMany_35 (by exact hq)
    · skip
      have hf : f < many := by omega
      refine J_iload_n dX0_setMany_12 rfl ?_
      refine J_aload_n dX0_setMany_13 rfl ?_
      refine J_iload_n dX0_setMany_14 rfl ?_
      refine CC_X0_isSet (by decide) (by decide) (Nat.le_of_ble_eq_true rfl) dX0_setMany_15 ?_
      refine c_isSet hS hO hP hN hf (fun b15 => ?_) (fun b15 => ?_)
      · refine J_ri ?_
        refine J_if_eq_n (tgt := 25) dX0_setMany_18 (by decide) (by decide) ?_
        refine J_iconst (zI 1) dX0_setMany_21 rfl ?_
        refine J_goto (tgt := 26) dX0_setMany_22 (by decide) ?_
        refine J_iadd_z dX0_setMany_26 ?_
        refine J_top (zI (mSetN P (f + 1))) (congrArg zI (by show _ = mSetN P f + (if 0 ≤ P f 0 then 1 else 0); split <;> omega)) ?_
        refine J_istore_n dX0_setMany_27 rfl (by decide) _ rfl ?_
        refine J_iinc_z ((((f + 1)) : Nat) : Int) (by omega) dX0_setMany_28 rfl rfl (by decide) _ rfl ?_
        refine J_goto (tgt := 4) dX0_setMany_31 (by decide) ?_
        exact ih (f + 1) (by omega) (by omega)
      · refine J_ri ?_
        refine J_if_eq_y (tgt := 25) dX0_setMany_18 (by decide) (by decide) ?_
        refine J_iconst (zI 0) dX0_setMany_25 rfl ?_
        refine J_iadd_z dX0_setMany_26 ?_
        refine J_top (zI (mSetN P (f + 1))) (congrArg zI (by show _ = mSetN P f + (if 0 ≤ P f 0 then 1 else 0); split <;> omega)) ?_
        refine J_istore_n dX0_setMany_27 rfl (by decide) _ rfl ?_
        refine J_iinc_z ((((f + 1)) : Nat) : Int) (by omega) dX0_setMany_28 rfl rfl (by decide) _ rfl ?_
        refine J_goto (tgt := 4) dX0_setMany_31 (by decide) ?_
        exact ih (f + 1) (by omega) (by omega)
theorem c_setMany {E : jEnv} {α : Nat → Nat} {σ : cS} {Q : Option Value → cS → Prop} {many : Nat} {wide high bl : Int} {G : Nat → Nat → Int} {ad : Nat → Nat} {c : Nat → Nat → Int} {P : Nat → Nat → Int} {rule : Int}  (hS : cSh many wide high bl G ad c σ) (hO : shOK many wide high bl G) (hP : cPl many P c) (hN : plOK many P rule) (hq : Q (some (.int (zI (mSetN P many)))) σ)  : jX0_setMany E α 0 [some (.ref (α 0)), none, none] [] σ Q := by
  refine J_iconst (zI 0) dX0_setMany_0 rfl ?_
  refine J_istore_n dX0_setMany_1 rfl (by decide) _ rfl ?_
  refine J_iconst (zI 0) dX0_setMany_2 rfl ?_
  refine J_istore_n dX0_setMany_3 rfl (by decide) _ rfl ?_
  refine J_fg (L' := [some (.ref (α 0)), some (.int (zI (mSetN P 0))), some (.int (zI ((0 : Nat))))]) (by repeat' constructor) ?_
  exact cl_setMany4 hS hO hP hN hq _ 0 (by omega) (Nat.lt_succ_self _)
/-- a lifted frame is not turned -/
def plZ (many : Nat) (P : Nat → Nat → Int) : Prop := ∀ f, f < many → P f 0 = -1 → P f 3 = 0
theorem cl_turnedMany4 {E : jEnv} {α : Nat → Nat} {σ : cS} {Q : Option Value → cS → Prop} {many : Nat} {wide high bl : Int} {G : Nat → Nat → Int} {ad : Nat → Nat} {c : Nat → Nat → Int} {P : Nat → Nat → Int} {rule : Int}  (hS : cSh many wide high bl G ad c σ) (hO : shOK many wide high bl G) (hP : cPl many P c) (hN : plOK many P rule) (hZ : plZ many P) (hq : Q (some (.int (zI (mTurnN P many)))) σ)  : ∀ (n : Nat) (f : Nat), f ≤ many → many - f < n → jX0_turnedMany E α 4 [some (.ref (α 0)), some (.int (zI (mTurnN P f))), some (.int (zI (f : Nat)))] [] σ Q := by
  intro n
  induction n with
  | zero => intro f h1 hn; exact absurd hn (Nat.not_lt_zero _)
  | succ n ih =>
    intro f h1 hn
    have hO8 := hO.s
    refine J_iload_n dX0_turnedMany_4 rfl ?_
    refine J_aload_n dX0_turnedMany_5 rfl ?_
    refine CG_many dX0_turnedMany_6 ?_
    refine J_top (zI (many)) hS.1 ?_
    refine J_icmp_ge_z (tgt := 46) dX0_turnedMany_9 (by decide) (by unfold zR; omega) (by unfold zR; omega) (fun c9 => ?_) (fun c9 => ?_)
    · skip
      obtain rfl : f = many := by omega
      refine J_iload_n dX0_turnedMany_46 rfl ?_
      exact J_iret rfl dX0_turnedMany_47 (by exact hq)
    · skip
      have hf : f < many := by omega
      have hnf := hN.1 f hf
      have hzf := hZ f hf
      refine J_iload_n dX0_turnedMany_12 rfl ?_
      refine J_aload_n dX0_turnedMany_13 rfl ?_
      refine J_iload_n dX0_turnedMany_14 rfl ?_
      refine CC_X0_isSet (by decide) (by decide) (Nat.le_of_ble_eq_true rfl) dX0_turnedMany_15 ?_
      refine c_isSet hS hO hP hN hf (fun b15 => ?_) (fun b15 => ?_)
      · refine J_ri ?_
        refine J_if_eq_n (tgt := 37) dX0_turnedMany_18 (by decide) (by decide) ?_
        refine J_aload_n dX0_turnedMany_21 rfl ?_
        refine CG_frames dX0_turnedMany_22 ?_
        refine J_iload_n dX0_turnedMany_25 rfl ?_
        refine CA_fr (hS.2.2.2.2 _ hf) (by omega) (by have := hO.1; omega) dX0_turnedMany_26 ?_
        refine FNX0_turned G f (hS.w hf hO.1) (hO.k hf) dX0_turnedMany_27 ?_
        refine J_if_eq_z (tgt := 37) dX0_turnedMany_30 (by decide) (by unfold zR; omega) (fun c30 => ?_) (fun c30 => ?_)
        · skip
          refine J_iconst (zI 0) dX0_turnedMany_37 rfl ?_
          refine J_iadd_z dX0_turnedMany_38 ?_
          refine J_top (zI (mTurnN P (f + 1))) (congrArg zI (by show _ = mTurnN P f + P f 3; omega)) ?_
          refine J_istore_n dX0_turnedMany_39 rfl (by decide) _ rfl ?_
          refine J_iinc_z ((((f + 1)) : Nat) : Int) (by omega) dX0_turnedMany_40 rfl rfl (by decide) _ rfl ?_
          refine J_goto (tgt := 4) dX0_turnedMany_43 (by decide) ?_
          exact ih (f + 1) (by omega) (by omega)
        · skip
          refine J_iconst (zI 1) dX0_turnedMany_33 rfl ?_
          refine J_goto (tgt := 38) dX0_turnedMany_34 (by decide) ?_
          refine J_iadd_z dX0_turnedMany_38 ?_
          refine J_top (zI (mTurnN P (f + 1))) (congrArg zI (by show _ = mTurnN P f + P f 3; omega)) ?_
          refine J_istore_n dX0_turnedMany_39 rfl (by decide) _ rfl ?_
          refine J_iinc_z ((((f + 1)) : Nat) : Int) (by omega) dX0_turnedMany_40 rfl rfl (by decide) _ rfl ?_
          refine J_goto (tgt := 4) dX0_turnedMany_43 (by decide) ?_
          exact ih (f + 1) (by omega) (by omega)
      · refine J_ri ?_
        refine J_if_eq_y (tgt := 37) dX0_turnedMany_18 (by decide) (by decide) ?_
        refine J_iconst (zI 0) dX0_turnedMany_37 rfl ?_
        refine J_iadd_z dX0_turnedMany_38 ?_
        refine J_top (zI (mTurnN P (f + 1))) (congrArg zI (by show _ = mTurnN P f + P f 3; omega)) ?_
        refine J_istore_n dX0_turnedMany_39 rfl (by decide) _ rfl ?_
        refine J_iinc_z ((((f + 1)) : Nat) : Int) (by omega) dX0_turnedMany_40 rfl rfl (by decide) _ rfl ?_
        refine J_goto (tgt := 4) dX0_turnedMany_43 (by decide) ?_
        exact ih (f + 1) (by omega) (by omega)
theorem c_turnedMany {E : jEnv} {α : Nat → Nat} {σ : cS} {Q : Option Value → cS → Prop} {many : Nat} {wide high bl : Int} {G : Nat → Nat → Int} {ad : Nat → Nat} {c : Nat → Nat → Int} {P : Nat → Nat → Int} {rule : Int}  (hS : cSh many wide high bl G ad c σ) (hO : shOK many wide high bl G) (hP : cPl many P c) (hN : plOK many P rule) (hZ : plZ many P) (hq : Q (some (.int (zI (mTurnN P many)))) σ)  : jX0_turnedMany E α 0 [some (.ref (α 0)), none, none] [] σ Q := by
  refine J_iconst (zI 0) dX0_turnedMany_0 rfl ?_
  refine J_istore_n dX0_turnedMany_1 rfl (by decide) _ rfl ?_
  refine J_iconst (zI 0) dX0_turnedMany_2 rfl ?_
  refine J_istore_n dX0_turnedMany_3 rfl (by decide) _ rfl ?_
  refine J_fg (L' := [some (.ref (α 0)), some (.int (zI (mTurnN P 0))), some (.int (zI ((0 : Nat))))]) (by repeat' constructor) ?_
  exact cl_turnedMany4 hS hO hP hN hZ hq _ 0 (by omega) (Nat.lt_succ_self _)
theorem pgM_hi {P : Nat → Nat → Int} : ∀ n f, f < n → P f 0 < pgM P n
  | 0, f, h => absurd h (by omega)
  | n + 1, f, h => by
    show P f 0 < (if pgM P n ≤ P n 0 then P n 0 + 1 else pgM P n)
    by_cases z : f = n
    · subst z; split <;> omega
    · have := pgM_hi (P := P) n f (by omega)
      split <;> omega
theorem mTaken_0 {bl : Int} {G P : Nat → Nat → Int} {p : Int} : ∀ n, (∀ f, f < n → P f 0 ≠ p) → mTaken bl G P p n = 0
  | 0, _ => rfl
  | n + 1, h => by
    show mTaken bl G P p n + (if P n 0 = p then _ else 0) = 0
    rw [mTaken_0 n (fun f hf => h f (by omega)), if_neg (h n (by omega))]; rfl
theorem mSumT_hi {bl : Int} {G P : Nat → Nat → Int} {many q : Nat} (hq : pgM P many ≤ q) : ∀ p, q ≤ p → mSumT bl G P many p = mSumT bl G P many q
  | 0, h => by rw [show q = 0 by omega]
  | p + 1, h => by
    by_cases z : q = p + 1
    · rw [z]
    · show mSumT bl G P many p + mTaken bl G P (p : Int) many = _
      rw [mSumT_hi hq p (by omega), mTaken_0 many (fun f hf => by have := pgM_hi (P := P) many f hf; omega)]; omega
theorem cl_usedAll4 {E : jEnv} {α : Nat → Nat} {σ : cS} {Q : Option Value → cS → Prop} {many : Nat} {wide high bl : Int} {G : Nat → Nat → Int} {ad : Nat → Nat} {c : Nat → Nat → Int} {P : Nat → Nat → Int} {rule : Int}  (hS : cSh many wide high bl G ad c σ) (hO : shOK many wide high bl G) (hP : cPl many P c) (hN : plOK many P rule) (hq : Q (some (.int (zI (mSumT bl G P many 8)))) σ)  : ∀ (n : Nat) (p : Nat), p ≤ 8 → 8 - p < n → jX0_usedAll E α 4 [some (.ref (α 0)), some (.int (zI (mSumT bl G P many p))), some (.int (zI (p : Nat)))] [] σ Q := by
  intro n
  induction n with
  | zero => intro p h1 hn; exact absurd hn (Nat.not_lt_zero _)
  | succ n ih =>
    intro p h1 hn
    refine J_iload_n dX0_usedAll_4 rfl ?_
    refine J_bipush (zI 8) dX0_usedAll_5 rfl ?_
    refine J_icmp_ge_z (tgt := 24) dX0_usedAll_7 (by decide) (by unfold zR; omega) (by unfold zR; omega) (fun c7 => ?_) (fun c7 => ?_)
    · skip
      obtain rfl : p = 8 := by omega
      refine J_iload_n dX0_usedAll_24 rfl ?_
      exact J_iret rfl dX0_usedAll_25 (by exact hq)
    · skip
      refine J_iload_n dX0_usedAll_10 rfl ?_
      refine J_aload_n dX0_usedAll_11 rfl ?_
      refine J_iload_n dX0_usedAll_12 rfl ?_
      refine CC_X0_usedOf (by decide) (by decide) (Nat.le_of_ble_eq_true rfl) dX0_usedAll_13 ?_
      refine c_usedOf hS hO hP hN (by omega) ?_
      refine J_ri ?_
      refine J_iadd_z dX0_usedAll_16 ?_
      refine J_top (zI (mSumT bl G P many (p + 1))) rfl ?_
      refine J_istore_n dX0_usedAll_17 rfl (by decide) _ rfl ?_
      refine J_iinc_z ((((p + 1)) : Nat) : Int) (by omega) dX0_usedAll_18 rfl rfl (by decide) _ rfl ?_
      refine J_goto (tgt := 4) dX0_usedAll_21 (by decide) ?_
      exact ih (p + 1) (by omega) (by omega)
theorem c_usedAll {E : jEnv} {α : Nat → Nat} {σ : cS} {Q : Option Value → cS → Prop} {many : Nat} {wide high bl : Int} {G : Nat → Nat → Int} {ad : Nat → Nat} {c : Nat → Nat → Int} {P : Nat → Nat → Int} {rule : Int}  (hS : cSh many wide high bl G ad c σ) (hO : shOK many wide high bl G) (hP : cPl many P c) (hN : plOK many P rule) (hq : Q (some (.int (zI (mSumT bl G P many (pgM P many).toNat)))) σ)  : jX0_usedAll E α 0 [some (.ref (α 0)), none, none] [] σ Q := by
  refine J_iconst (zI 0) dX0_usedAll_0 rfl ?_
  refine J_istore_n dX0_usedAll_1 rfl (by decide) _ rfl ?_
  refine J_iconst (zI 0) dX0_usedAll_2 rfl ?_
  refine J_istore_n dX0_usedAll_3 rfl (by decide) _ rfl ?_
  refine J_fg (L' := [some (.ref (α 0)), some (.int (zI (mSumT bl G P many 0))), some (.int (zI ((0 : Nat))))]) (by repeat' constructor) ?_
  have hpb := pgM_b hN many (Nat.le_refl _)
  rw [← mSumT_hi (bl := bl) (G := G) (P := P) (many := many) (q := (pgM P many).toNat) (by omega) 8 (by omega)] at hq
  exact cl_usedAll4 hS hO hP hN hq _ 0 (by omega) (Nat.lt_succ_self _)
theorem cl_freeAll4 {E : jEnv} {α : Nat → Nat} {σ : cS} {Q : Option Value → cS → Prop} {many : Nat} {wide high bl : Int} {G : Nat → Nat → Int} {ad : Nat → Nat} {c : Nat → Nat → Int} {P : Nat → Nat → Int} {rule : Int}  (hS : cSh many wide high bl G ad c σ) (hO : shOK many wide high bl G) (hP : cPl many P c) (hN : plOK many P rule) (hV : plV many wide high bl G P) (hq : ∀ σ', cQ [20] [21, 22, 23, 24, 25] σ σ' → Q (some (.int (zI (mSumF many wide high bl G P (pgM P many).toNat)))) σ')  : ∀ (n : Nat) (p : Nat) (σ1 : cS), p ≤ (pgM P many).toNat → cQ [20] [21, 22, 23, 24, 25] σ σ1 → (pgM P many).toNat - p < n → jX0_freeAll E α 4 [some (.ref (α 0)), some (.int (zI (mSumF many wide high bl G P p))), some (.int (zI (p : Nat)))] [] σ1 Q := by
  intro n
  induction n with
  | zero => intro p σ1 h1 h2 hn; exact absurd hn (Nat.not_lt_zero _)
  | succ n ih =>
    intro p σ1 h1 h2 hn
    have hO8 := hO.s
    have hpb := pgM_b hN many (Nat.le_refl _)
    have hS := hS.up h2 (by decide) (by decide) (by decide) (by decide)
    refine J_iload_n dX0_freeAll_4 rfl ?_
    refine J_aload_n dX0_freeAll_5 rfl ?_
    refine CC_X0_pageMany (by decide) (by decide) (Nat.le_of_ble_eq_true rfl) dX0_freeAll_6 ?_
    refine c_pageMany hS hO hP hN  ?_
    refine J_ri ?_
    refine J_icmp_ge_z (tgt := 30) dX0_freeAll_9 (by decide) (by unfold zR; omega) (by unfold zR; omega) (fun c9 => ?_) (fun c9 => ?_)
    · skip
      obtain rfl : p = (pgM P many).toNat := by omega
      refine J_iload_n dX0_freeAll_30 rfl ?_
      exact J_iret rfl dX0_freeAll_31 (by exact hq σ1 h2)
    · skip
      have hv : 0 ≤ (p : Int) ∧ (p : Int) < pgM P many := by omega
      refine J_aload_n dX0_freeAll_12 rfl ?_
      refine J_iload_n dX0_freeAll_13 rfl ?_
      refine CC_X0_setFree (by decide) (by decide) (Nat.le_of_ble_eq_true rfl) dX0_freeAll_14 ?_
      have hm0 : 0 < many := by
        rcases Nat.eq_zero_or_pos many with z | z
        · subst z; simp [pgM] at hv; omega
        · exact z
      refine c_setFree hS hO hP hN hV hm0 (by omega) (fun σ1 l1 e1 => ?_)
      have hS := hS.up e1 (by decide) (by decide) (by decide) (by decide)
      refine J_rv ?_
      refine J_iload_n dX0_freeAll_17 rfl ?_
      refine J_aload_n dX0_freeAll_18 rfl ?_
      refine CG_freeMany dX0_freeAll_19 ?_
      refine J_top (zI ((frL wide high (gO bl G P ((p : Nat) : Int) many)).length)) l1.1 ?_
      refine J_iadd_z dX0_freeAll_22 ?_
      refine J_top (zI (mSumF many wide high bl G P (p + 1))) rfl ?_
      refine J_istore_n dX0_freeAll_23 rfl (by decide) _ rfl ?_
      refine J_iinc_z ((((p + 1)) : Nat) : Int) (by omega) dX0_freeAll_24 rfl rfl (by decide) _ rfl ?_
      refine J_goto (tgt := 4) dX0_freeAll_27 (by decide) ?_
      exact ih (p + 1) _ (by omega) (h2.trans e1) (by omega)
theorem c_freeAll {E : jEnv} {α : Nat → Nat} {σ : cS} {Q : Option Value → cS → Prop} {many : Nat} {wide high bl : Int} {G : Nat → Nat → Int} {ad : Nat → Nat} {c : Nat → Nat → Int} {P : Nat → Nat → Int} {rule : Int}  (hS : cSh many wide high bl G ad c σ) (hO : shOK many wide high bl G) (hP : cPl many P c) (hN : plOK many P rule) (hV : plV many wide high bl G P) (hq : ∀ σ', cQ [20] [21, 22, 23, 24, 25] σ σ' → Q (some (.int (zI (mSumF many wide high bl G P (pgM P many).toNat)))) σ')  : jX0_freeAll E α 0 [some (.ref (α 0)), none, none] [] σ Q := by
  refine J_iconst (zI 0) dX0_freeAll_0 rfl ?_
  refine J_istore_n dX0_freeAll_1 rfl (by decide) _ rfl ?_
  refine J_iconst (zI 0) dX0_freeAll_2 rfl ?_
  refine J_istore_n dX0_freeAll_3 rfl (by decide) _ rfl ?_
  refine J_fg (L' := [some (.ref (α 0)), some (.int (zI (mSumF many wide high bl G P 0))), some (.int (zI ((0 : Nat))))]) (by repeat' constructor) ?_
  exact cl_freeAll4 hS hO hP hN hV hq _ 0 σ (by omega) cQ.refl (Nat.lt_succ_self _)
theorem c_frame_bad {E : jEnv} {α : Nat → Nat} {σ : cS} {Q : Option Value → cS → Prop} {many : Nat} {wide high bl : Int} {G : Nat → Nat → Int} {ad : Nat → Nat} {c : Nat → Nat → Int} {v u : Int} (hS : cSh many wide high bl G ad c σ) (hO : shOK many wide high bl G) (rv : zR v) (ru : zR u) (hv : ¬ (0 ≤ v ∧ v < many) ∨ ¬ (0 ≤ u ∧ u ≤ 4)) (hq : Q (some (.int (zI (-1)))) σ) : jX0_frame E α 0 [some (.ref (α 0)), some (.int (zI (v))), some (.int (zI (u)))] [] σ Q := by
  refine J_aload_n dX0_frame_0 rfl ?_
  refine J_iload_n dX0_frame_1 rfl ?_
  refine CC_X0_isFrame (by decide) (by decide) (Nat.le_of_ble_eq_true rfl) dX0_frame_2 ?_
  refine c_isFrame hS hO (by unfold zR at *; omega) (fun b2 => ?_) (fun b2 => ?_)
  · refine J_ri ?_
    refine J_if_eq_n (tgt := 39) dX0_frame_5 (by decide) (by decide) ?_
    refine J_iload_n dX0_frame_8 rfl ?_
    refine J_iconst (zI 0) dX0_frame_9 rfl ?_
    refine J_iconst (zI 4) dX0_frame_10 rfl ?_
    refine PX0_isIn (by unfold zR at *; omega) (by unfold zR at *; omega) (by unfold zR at *; omega) (by decide) (by exact ⟨Nat.le_refl _, Nat.le_refl _⟩) (Nat.le_of_ble_eq_true rfl) dX0_frame_11 (fun b11 => ?_) (fun b11 => ?_)
    · exfalso; omega
    · skip
      refine J_if_eq_y (tgt := 39) dX0_frame_14 (by decide) (by decide) ?_
      refine J_iconst (zI (-1)) dX0_frame_39 rfl ?_
      exact J_iret rfl dX0_frame_40 (by exact hq)
  · refine J_ri ?_
    refine J_if_eq_y (tgt := 39) dX0_frame_5 (by decide) (by decide) ?_
    refine J_iconst (zI (-1)) dX0_frame_39 rfl ?_
    exact J_iret rfl dX0_frame_40 (by exact hq)
theorem c_place_bad {E : jEnv} {α : Nat → Nat} {σ : cS} {Q : Option Value → cS → Prop} {many : Nat} {wide high bl : Int} {G : Nat → Nat → Int} {ad : Nat → Nat} {c : Nat → Nat → Int} {v u : Int} (hS : cSh many wide high bl G ad c σ) (hO : shOK many wide high bl G) (rv : zR v) (ru : zR u) (hv : ¬ (0 ≤ v ∧ v < many) ∨ ¬ (0 ≤ u ∧ u ≤ 3)) (hq : Q (some (.int (zI (-1)))) σ) : jX0_place E α 0 [some (.ref (α 0)), some (.int (zI (v))), some (.int (zI (u)))] [] σ Q := by
  refine J_aload_n dX0_place_0 rfl ?_
  refine J_iload_n dX0_place_1 rfl ?_
  refine CC_X0_isFrame (by decide) (by decide) (Nat.le_of_ble_eq_true rfl) dX0_place_2 ?_
  refine c_isFrame hS hO (by unfold zR at *; omega) (fun b2 => ?_) (fun b2 => ?_)
  · refine J_ri ?_
    refine J_if_eq_n (tgt := 17) dX0_place_5 (by decide) (by decide) ?_
    refine J_iload_n dX0_place_8 rfl ?_
    refine J_iconst (zI 0) dX0_place_9 rfl ?_
    refine J_iconst (zI 3) dX0_place_10 rfl ?_
    refine PX0_isIn (by unfold zR at *; omega) (by unfold zR at *; omega) (by unfold zR at *; omega) (by decide) (by exact ⟨Nat.le_refl _, Nat.le_refl _⟩) (Nat.le_of_ble_eq_true rfl) dX0_place_11 (fun b11 => ?_) (fun b11 => ?_)
    · exfalso; omega
    · skip
      refine J_if_ne_n (tgt := 19) dX0_place_14 (by decide) (by decide) ?_
      refine J_iconst (zI (-1)) dX0_place_17 rfl ?_
      exact J_iret rfl dX0_place_18 (by exact hq)
  · refine J_ri ?_
    refine J_if_eq_y (tgt := 17) dX0_place_5 (by decide) (by decide) ?_
    refine J_iconst (zI (-1)) dX0_place_17 rfl ?_
    exact J_iret rfl dX0_place_18 (by exact hq)
theorem c_frame {E : jEnv} {α : Nat → Nat} {σ : cS} {Q : Option Value → cS → Prop} {many : Nat} {wide high bl : Int} {G : Nat → Nat → Int} {ad : Nat → Nat} {c : Nat → Nat → Int} {f k : Nat} (hS : cSh many wide high bl G ad c σ) (hO : shOK many wide high bl G) (hf : f < many) (hk : k < 5) (hq : Q (some (.int (zI 1))) (cI σ 2 (zI (mTell bl G f k)))) : jX0_frame E α 0 [some (.ref (α 0)), some (.int (zI (f : Nat))), some (.int (zI (k : Nat)))] [] σ Q := by
  have hO8 := hO.s
  refine J_aload_n dX0_frame_0 rfl ?_
  refine J_iload_n dX0_frame_1 rfl ?_
  refine CC_X0_isFrame (by decide) (by decide) (Nat.le_of_ble_eq_true rfl) dX0_frame_2 ?_
  refine c_isFrame hS hO (by unfold zR at *; omega) (fun b2 => ?_) (fun b2 => ?_)
  · refine J_ri ?_
    refine J_if_eq_n (tgt := 39) dX0_frame_5 (by decide) (by decide) ?_
    refine J_iload_n dX0_frame_8 rfl ?_
    refine J_iconst (zI 0) dX0_frame_9 rfl ?_
    refine J_iconst (zI 4) dX0_frame_10 rfl ?_
    refine PX0_isIn (by unfold zR; omega) (by unfold zR; omega) (by unfold zR; omega) (by decide) (by exact ⟨Nat.le_refl _, Nat.le_refl _⟩) (Nat.le_of_ble_eq_true rfl) dX0_frame_11 (fun b11 => ?_) (fun b11 => ?_)
    · skip
      refine J_if_eq_n (tgt := 39) dX0_frame_14 (by decide) (by decide) ?_
      refine J_aload_n dX0_frame_17 rfl ?_
      refine J_aload_n dX0_frame_18 rfl ?_
      refine CG_frames dX0_frame_19 ?_
      refine J_iload_n dX0_frame_22 rfl ?_
      refine CA_fr (hS.2.2.2.2 _ hf) (by omega) (by have := hO.1; omega) dX0_frame_23 ?_
      refine J_iload_n dX0_frame_24 rfl ?_
      refine J_aload_n dX0_frame_25 rfl ?_
      refine CG_bleed dX0_frame_26 ?_
      refine J_top (zI (bl)) hS.2.2.2.1 ?_
      refine VX3_toldBy G f (c := (c f)) (m := k) (hS.w hf hO.1) (hO.k hf) hk q1059 (by decide) (by decide) (Nat.le_of_ble_eq_true rfl) dX0_frame_29 ?_
      refine J_iconst (zI 1) dX0_frame_32 rfl ?_
      refine CC_X0_ask (by decide) (by decide) (Nat.le_of_ble_eq_true rfl) dX0_frame_33 ?_
      refine c_ask  ?_
      refine J_ri ?_
      refine J_goto (tgt := 40) dX0_frame_36 (by decide) ?_
      exact J_iret rfl dX0_frame_40 (by exact hq)
    · exfalso; omega
  · exfalso; omega
theorem c_place_no {E : jEnv} {α : Nat → Nat} {σ : cS} {Q : Option Value → cS → Prop} {many : Nat} {wide high bl : Int} {G : Nat → Nat → Int} {ad : Nat → Nat} {c : Nat → Nat → Int} {P : Nat → Nat → Int} {rule : Int} {f k : Nat} (hS : cSh many wide high bl G ad c σ) (hO : shOK many wide high bl G) (hP : cPl many P c) (hN : plOK many P rule) (hf : f < many) (hk : k < 4) (h0 : P f 0 = -1) (hq : Q (some (.int (zI (-9)))) σ) : jX0_place E α 0 [some (.ref (α 0)), some (.int (zI (f : Nat))), some (.int (zI (k : Nat)))] [] σ Q := by
  have hO8 := hO.s
  refine J_aload_n dX0_place_0 rfl ?_
  refine J_iload_n dX0_place_1 rfl ?_
  refine CC_X0_isFrame (by decide) (by decide) (Nat.le_of_ble_eq_true rfl) dX0_place_2 ?_
  refine c_isFrame hS hO (by unfold zR at *; omega) (fun b2 => ?_) (fun b2 => ?_)
  · refine J_ri ?_
    refine J_if_eq_n (tgt := 17) dX0_place_5 (by decide) (by decide) ?_
    refine J_iload_n dX0_place_8 rfl ?_
    refine J_iconst (zI 0) dX0_place_9 rfl ?_
    refine J_iconst (zI 3) dX0_place_10 rfl ?_
    refine PX0_isIn (by unfold zR; omega) (by unfold zR; omega) (by unfold zR; omega) (by decide) (by exact ⟨Nat.le_refl _, Nat.le_refl _⟩) (Nat.le_of_ble_eq_true rfl) dX0_place_11 (fun b11 => ?_) (fun b11 => ?_)
    · skip
      refine J_if_ne_y (tgt := 19) dX0_place_14 (by decide) (by decide) ?_
      refine J_aload_n dX0_place_19 rfl ?_
      refine J_iload_n dX0_place_20 rfl ?_
      refine CC_X0_isSet (by decide) (by decide) (Nat.le_of_ble_eq_true rfl) dX0_place_21 ?_
      refine c_isSet hS hO hP hN hf (fun b21 => ?_) (fun b21 => ?_)
      · exfalso; omega
      · refine J_ri ?_
        refine J_if_eq_y (tgt := 45) dX0_place_24 (by decide) (by decide) ?_
        refine J_bipush (zI (-9)) dX0_place_45 rfl ?_
        exact J_iret rfl dX0_place_47 (by exact hq)
    · exfalso; omega
  · exfalso; omega
theorem c_place {E : jEnv} {α : Nat → Nat} {σ : cS} {Q : Option Value → cS → Prop} {many : Nat} {wide high bl : Int} {G : Nat → Nat → Int} {ad : Nat → Nat} {c : Nat → Nat → Int} {P : Nat → Nat → Int} {rule : Int} {f k : Nat} (hS : cSh many wide high bl G ad c σ) (hO : shOK many wide high bl G) (hP : cPl many P c) (hN : plOK many P rule) (hf : f < many) (hk : k < 4) (h0 : 0 ≤ P f 0) (hq : Q (some (.int (zI 1))) (cI σ 2 (zI (P f k)))) : jX0_place E α 0 [some (.ref (α 0)), some (.int (zI (f : Nat))), some (.int (zI (k : Nat)))] [] σ Q := by
  have hO8 := hO.s
  have hck : c f k = P f k := by
    have := hP f hf
    match k, hk with
    | 0, _ => omega
    | 1, _ => omega
    | 2, _ => omega
    | 3, _ => omega
  rw [← hck] at hq
  refine J_aload_n dX0_place_0 rfl ?_
  refine J_iload_n dX0_place_1 rfl ?_
  refine CC_X0_isFrame (by decide) (by decide) (Nat.le_of_ble_eq_true rfl) dX0_place_2 ?_
  refine c_isFrame hS hO (by unfold zR at *; omega) (fun b2 => ?_) (fun b2 => ?_)
  · refine J_ri ?_
    refine J_if_eq_n (tgt := 17) dX0_place_5 (by decide) (by decide) ?_
    refine J_iload_n dX0_place_8 rfl ?_
    refine J_iconst (zI 0) dX0_place_9 rfl ?_
    refine J_iconst (zI 3) dX0_place_10 rfl ?_
    refine PX0_isIn (by unfold zR; omega) (by unfold zR; omega) (by unfold zR; omega) (by decide) (by exact ⟨Nat.le_refl _, Nat.le_refl _⟩) (Nat.le_of_ble_eq_true rfl) dX0_place_11 (fun b11 => ?_) (fun b11 => ?_)
    · skip
      refine J_if_ne_y (tgt := 19) dX0_place_14 (by decide) (by decide) ?_
      refine J_aload_n dX0_place_19 rfl ?_
      refine J_iload_n dX0_place_20 rfl ?_
      refine CC_X0_isSet (by decide) (by decide) (Nat.le_of_ble_eq_true rfl) dX0_place_21 ?_
      refine c_isSet hS hO hP hN hf (fun b21 => ?_) (fun b21 => ?_)
      · refine J_ri ?_
        refine J_if_eq_n (tgt := 45) dX0_place_24 (by decide) (by decide) ?_
        refine J_aload_n dX0_place_27 rfl ?_
        refine J_aload_n dX0_place_28 rfl ?_
        refine CG_frames dX0_place_29 ?_
        refine J_iload_n dX0_place_32 rfl ?_
        refine CA_fr (hS.2.2.2.2 _ hf) (by omega) (by have := hO.1; omega) dX0_place_33 ?_
        refine J_iload_n dX0_place_34 rfl ?_
        refine VX3_placed G f (c := (c f)) (m := k) (hS.w hf hO.1) (hO.k hf) (hP f hf).1 hk q1152 (by decide) (by decide) (Nat.le_of_ble_eq_true rfl) dX0_place_35 ?_
        refine J_iconst (zI 1) dX0_place_38 rfl ?_
        refine CC_X0_ask (by decide) (by decide) (Nat.le_of_ble_eq_true rfl) dX0_place_39 ?_
        refine c_ask  ?_
        refine J_ri ?_
        refine J_goto (tgt := 47) dX0_place_42 (by decide) ?_
        exact J_iret rfl dX0_place_47 (by exact hq)
      · exfalso; omega
    · exfalso; omega
  · exfalso; omega
