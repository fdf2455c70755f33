set_option maxRecDepth 100000
/-! the component: what changes, small methods -/
def cP (I A : List Nat) (σ σ' : cS) : Prop := (∀ k, k ∉ I → σ'.i k = σ.i k) ∧ (∀ j, j ∉ A → σ'.a j = σ.a j) ∧ σ'.h = σ.h ∧ σ'.ro = σ.ro ∧ σ'.tx = σ.tx ∧ σ'.rf = σ.rf ∧ σ'.kp = σ.kp ∧ σ'.rd = σ.rd ∧ σ'.d = σ.d
/-- frames and rule too stay -/
def cQ (I A : List Nat) (σ σ' : cS) : Prop := cP I A σ σ' ∧ σ'.fr = σ.fr ∧ σ'.ru = σ.ru
theorem cP.refl {I A : List Nat} {σ : cS} : cP I A σ σ := ⟨fun _ _ => rfl, fun _ _ => rfl, rfl, rfl, rfl, rfl, rfl, rfl, rfl⟩
theorem cQ.refl {I A : List Nat} {σ : cS} : cQ I A σ σ := ⟨cP.refl, rfl, rfl⟩
theorem cP.trans {I A : List Nat} {a b c : cS} (h : cP I A a b) (g : cP I A b c) : cP I A a c := ⟨fun k hk => (g.1 k hk).trans (h.1 k hk), fun k hk => (g.2.1 k hk).trans (h.2.1 k hk), g.2.2.1.trans h.2.2.1, g.2.2.2.1.trans h.2.2.2.1, g.2.2.2.2.1.trans h.2.2.2.2.1, g.2.2.2.2.2.1.trans h.2.2.2.2.2.1, g.2.2.2.2.2.2.1.trans h.2.2.2.2.2.2.1, g.2.2.2.2.2.2.2.1.trans h.2.2.2.2.2.2.2.1, g.2.2.2.2.2.2.2.2.trans h.2.2.2.2.2.2.2.2⟩
theorem cQ.trans {I A : List Nat} {a b c : cS} (h : cQ I A a b) (g : cQ I A b c) : cQ I A a c := ⟨h.1.trans g.1, g.2.1.trans h.2.1, g.2.2.trans h.2.2⟩
theorem cP.mono {I A I' A' : List Nat} {a b : cS} (h : cP I A a b) (hI : ∀ k ∈ I, k ∈ I') (hA : ∀ k ∈ A, k ∈ A') : cP I' A' a b := ⟨fun k hk => h.1 k (fun z => hk (hI k z)), fun k hk => h.2.1 k (fun z => hk (hA k z)), h.2.2⟩
theorem cQ.mono {I A I' A' : List Nat} {a b : cS} (h : cQ I A a b) (hI : ∀ k ∈ I, k ∈ I') (hA : ∀ k ∈ A, k ∈ A') : cQ I' A' a b := ⟨h.1.mono hI hA, h.2⟩
theorem cP.sI {I A : List Nat} {a b : cS} (h : cP I A a b) {k : Nat} {v : Int32} (hk : k ∈ I) : cP I A a (cI b k v) := ⟨fun j hj => (by
  have e : (cI b k v).i j = b.i j := if_neg (fun z : j = k => hj (z ▸ hk))
  rw [e]; exact h.1 j hj), h.2.1, h.2.2⟩
theorem cP.sA {I A : List Nat} {a b : cS} (h : cP I A a b) {k : Nat} {v : Nat → Int32} (hk : k ∈ A) : cP I A a (cAr b k v) := ⟨h.1, fun j hj => (by
  have e : (cAr b k v).a j = b.a j := if_neg (fun z : j = k => hj (z ▸ hk))
  rw [e]; exact h.2.1 j hj), h.2.2⟩
theorem cP.sF {I A : List Nat} {a b : cS} (h : cP I A a b) {f : Nat} {x : _} : cP I A a (cFr b f x) := h
theorem cQ.sI {I A : List Nat} {a b : cS} (h : cQ I A a b) {k : Nat} {v : Int32} (hk : k ∈ I) : cQ I A a (cI b k v) := ⟨h.1.sI hk, h.2⟩
theorem cQ.sA {I A : List Nat} {a b : cS} (h : cQ I A a b) {k : Nat} {v : Nat → Int32} (hk : k ∈ A) : cQ I A a (cAr b k v) := ⟨h.1.sA hk, h.2⟩
/-- the sheet: its numbers, its frames (addresses ad, places c) -/
def cSh (many : Nat) (wide high bl : Int) (G : Nat → Nat → Int) (ad : Nat → Nat) (c : Nat → Nat → Int) (σ : cS) : Prop := σ.i 5 = zI (many : Nat) ∧ σ.i 6 = zI wide ∧ σ.i 7 = zI high ∧ σ.i 8 = zI bl ∧ ∀ f, f < many → σ.fr f = some (ad f, G f, c f)
theorem cSh.w {E : jEnv} {α : Nat → Nat} {many : Nat} {wide high bl : Int} {G : Nat → Nat → Int} {ad : Nat → Nat} {c : Nat → Nat → Int} {σ : cS} (h : cSh many wide high bl G ad c σ) {f : Nat} (hf : f < many) (hm : many ≤ 8) : wC E α σ (120 + f) = some (ad f, fC (G f) (c f)) := by
  rw [wC_fr (by omega), h.2.2.2.2 f hf]
  rfl
theorem cSh.up {many : Nat} {wide high bl : Int} {G : Nat → Nat → Int} {ad : Nat → Nat} {c : Nat → Nat → Int} {I A : List Nat} {σ σ' : cS} (h : cSh many wide high bl G ad c σ) (e : cQ I A σ σ') (h5 : 5 ∉ I) (h6 : 6 ∉ I) (h7 : 7 ∉ I) (h8 : 8 ∉ I) : cSh many wide high bl G ad c σ' := ⟨(e.1.1 5 h5).trans h.1, (e.1.1 6 h6).trans h.2.1, (e.1.1 7 h7).trans h.2.2.1, (e.1.1 8 h8).trans h.2.2.2.1, by rw [e.2.1]; exact h.2.2.2.2⟩
theorem shOK.k {many : Nat} {wide high bl : Int} {G : Nat → Nat → Int} (h : shOK many wide high bl G) {f : Nat} (hf : f < many) : 0 ≤ G f 0 ∧ G f 0 ≤ 3 := ⟨(h.g hf).1, (h.g hf).2.1⟩
def updC (c : Nat → Nat → Int) (f : Nat) (x : Nat → Int) : Nat → Nat → Int := fun g => if g = f then x else c g
theorem updC_s {c : Nat → Nat → Int} {f : Nat} {x : Nat → Int} : updC c f x f = x := if_pos rfl
theorem updC_n {c : Nat → Nat → Int} {f g : Nat} {x : Nat → Int} (h : g ≠ f) : updC c f x g = c g := if_neg h
theorem cSh.put {many : Nat} {wide high bl : Int} {G : Nat → Nat → Int} {ad : Nat → Nat} {c : Nat → Nat → Int} {σ : cS} (h : cSh many wide high bl G ad c σ) (f : Nat) (x : Nat → Int) : cSh many wide high bl G ad (updC c f x) (cFr σ f (some (ad f, G f, x))) := ⟨h.1, h.2.1, h.2.2.1, h.2.2.2.1, fun g hg => by
  by_cases z : g = f
  · subst z
    rw [updC_s]
    exact if_pos rfl
  · rw [updC_n z]
    have e : (cFr σ f (some (ad f, G f, x))).fr g = σ.fr g := if_neg z
    rw [e]
    exact h.2.2.2.2 g hg⟩
/-- the places as they lie in the frames: page -9 where none, what is left of an earlier place -/
def cPl (many : Nat) (P c : Nat → Nat → Int) : Prop := ∀ f, f < many → (c f 3 = 0 ∨ c f 3 = 1) ∧ ((P f 0 = -1 ∧ c f 0 = -9) ∨ (0 ≤ P f 0 ∧ c f 0 = P f 0 ∧ c f 1 = P f 1 ∧ c f 2 = P f 2 ∧ c f 3 = P f 3))

theorem c_found {E : jEnv} {α : Nat → Nat} {σ : cS} {Q : Option Value → cS → Prop} {m : Nat} (hm : m < 6) (hq : Q (some (.int (zI (-3)))) (cAr (cI σ 0 (zI m)) 1 (upd (σ.a 1) m (σ.a 1 m + zI 1)))) : jX0_found E α 0 [some (.ref (α 0)), some (.int (zI (m : Nat)))] [] σ Q := by
  refine J_aload_n dX0_found_0 rfl ?_
  refine J_iload_n dX0_found_1 rfl ?_
  refine CP_finding dX0_found_2 ?_
  refine J_aload_n dX0_found_5 rfl ?_
  refine CG_findings dX0_found_6 ?_
  refine J_iload_n dX0_found_9 rfl ?_
  refine J_dup2 dX0_found_10 rfl rfl ?_
  refine CJ_iald 1 (m) ⟨rfl, by decide, by decide, by decide⟩ (by omega) (show m < 6 by omega) dX0_found_11 ?_
  refine J_iconst (zI 1) dX0_found_12 rfl ?_
  refine J_iadd dX0_found_13 ?_
  refine CJ_iast 1 (m) ⟨rfl, by decide, by decide, by decide⟩ (by omega) (show m < 6 by omega) dX0_found_14 ?_
  refine J_bipush (zI (-3)) dX0_found_15 rfl ?_
  exact J_iret rfl dX0_found_17 (by exact hq)
theorem c_ask {E : jEnv} {α : Nat → Nat} {σ : cS} {Q : Option Value → cS → Prop} {x y : Int32} (hq : Q (some (.int y)) (cI σ 2 x)) : jX0_ask E α 0 [some (.ref (α 0)), some (.int (x)), some (.int (y))] [] σ Q := by
  refine J_aload_n dX0_ask_0 rfl ?_
  refine J_iload_n dX0_ask_1 rfl ?_
  refine CP_asked dX0_ask_2 ?_
  refine J_iload_n dX0_ask_5 rfl ?_
  exact J_iret rfl dX0_ask_6 (by exact hq)
theorem c_asked {E : jEnv} {α : Nat → Nat} {σ : cS} {Q : Option Value → cS → Prop}  (hq : Q (some (.int (σ.i 2))) σ) : jX0_asked E α 0 [some (.ref (α 0))] [] σ Q := by
  refine J_aload_n dX0_asked_0 rfl ?_
  refine CG_asked dX0_asked_1 ?_
  exact J_iret rfl dX0_asked_4 (by exact hq)
theorem c_finding {E : jEnv} {α : Nat → Nat} {σ : cS} {Q : Option Value → cS → Prop}  (hq : Q (some (.int (σ.i 0))) σ) : jX0_finding E α 0 [some (.ref (α 0))] [] σ Q := by
  refine J_aload_n dX0_finding_0 rfl ?_
  refine CG_finding dX0_finding_1 ?_
  exact J_iret rfl dX0_finding_4 (by exact hq)
theorem c_findings {E : jEnv} {α : Nat → Nat} {σ : cS} {Q : Option Value → cS → Prop} {v : Int} (rv : zR v) (h1 : 1 ≤ v ∧ v ≤ 5 → Q (some (.int (σ.a 1 v.toNat))) σ) (h0 : ¬ (1 ≤ v ∧ v ≤ 5) → Q (some (.int (zI (-1)))) σ) : jX0_findings E α 0 [some (.ref (α 0)), some (.int (zI (v)))] [] σ Q := by
  refine J_iload_n dX0_findings_0 rfl ?_
  refine J_iconst (zI 1) dX0_findings_1 rfl ?_
  refine J_iconst (zI 5) dX0_findings_2 rfl ?_
  refine PX0_isIn (by unfold zR at *; omega) (by unfold zR at *; omega) (by unfold zR at *; omega) (by decide) (by exact ⟨Nat.le_refl _, Nat.le_refl _⟩) (Nat.le_of_ble_eq_true rfl) dX0_findings_3 (fun b3 => ?_) (fun b3 => ?_)
  · skip
    refine J_if_eq_n (tgt := 18) dX0_findings_6 (by decide) (by decide) ?_
    refine J_aload_n dX0_findings_9 rfl ?_
    refine CG_findings dX0_findings_10 ?_
    refine J_iload_n dX0_findings_13 rfl ?_
    refine CJ_iald 1 (v.toNat) ⟨rfl, by decide, by decide, by decide⟩ (by omega) (show v.toNat < 6 by omega) dX0_findings_14 ?_
    refine J_goto (tgt := 19) dX0_findings_15 (by decide) ?_
    exact J_iret rfl dX0_findings_19 (by first | exact h0 (by omega) | exact h1 (by omega))
  · skip
    refine J_if_eq_y (tgt := 18) dX0_findings_6 (by decide) (by decide) ?_
    refine J_iconst (zI (-1)) dX0_findings_18 rfl ?_
    exact J_iret rfl dX0_findings_19 (by first | exact h0 (by omega) | exact h1 (by omega))
theorem c_isRow {E : jEnv} {α : Nat → Nat} {σ : cS} {Q : Option Value → cS → Prop} {v : Int} (rv : zR v) (h1 : 0 ≤ v ∧ v ≤ 5 → Q (some (.int (zI 1))) σ) (h0 : ¬ (0 ≤ v ∧ v ≤ 5) → Q (some (.int (zI 0))) σ) : jX0_isRow E α 0 [some (.int (zI (v)))] [] σ Q := by
  refine J_iload_n dX0_isRow_0 rfl ?_
  refine J_iconst (zI 0) dX0_isRow_1 rfl ?_
  refine J_iconst (zI 5) dX0_isRow_2 rfl ?_
  refine PX0_isIn (by unfold zR at *; omega) (by unfold zR at *; omega) (by unfold zR at *; omega) (by decide) (by exact ⟨Nat.le_refl _, Nat.le_refl _⟩) (Nat.le_of_ble_eq_true rfl) dX0_isRow_3 (fun b3 => ?_) (fun b3 => ?_)
  · skip
    exact J_zret rfl dX0_isRow_6 rfl (by first | exact h1 (by omega) | exact h0 (by omega))
  · skip
    exact J_zret rfl dX0_isRow_6 rfl (by first | exact h1 (by omega) | exact h0 (by omega))
theorem c_isText {E : jEnv} {α : Nat → Nat} {σ : cS} {Q : Option Value → cS → Prop} {v : Int} (rv : zR v) (h1 : 0 ≤ v ∧ v ≤ 3 → Q (some (.int (zI 1))) σ) (h0 : ¬ (0 ≤ v ∧ v ≤ 3) → Q (some (.int (zI 0))) σ) : jX0_isText E α 0 [some (.int (zI (v)))] [] σ Q := by
  refine J_iload_n dX0_isText_0 rfl ?_
  refine J_iconst (zI 0) dX0_isText_1 rfl ?_
  refine J_iconst (zI 3) dX0_isText_2 rfl ?_
  refine PX0_isIn (by unfold zR at *; omega) (by unfold zR at *; omega) (by unfold zR at *; omega) (by decide) (by exact ⟨Nat.le_refl _, Nat.le_refl _⟩) (Nat.le_of_ble_eq_true rfl) dX0_isText_3 (fun b3 => ?_) (fun b3 => ?_)
  · skip
    exact J_zret rfl dX0_isText_6 rfl (by first | exact h1 (by omega) | exact h0 (by omega))
  · skip
    exact J_zret rfl dX0_isText_6 rfl (by first | exact h1 (by omega) | exact h0 (by omega))
theorem c_isKept {E : jEnv} {α : Nat → Nat} {σ : cS} {Q : Option Value → cS → Prop} {v : Int} (rv : zR v) (h1 : 0 ≤ v ∧ v ≤ 2 → Q (some (.int (zI 1))) σ) (h0 : ¬ (0 ≤ v ∧ v ≤ 2) → Q (some (.int (zI 0))) σ) : jX0_isKept E α 0 [some (.int (zI (v)))] [] σ Q := by
  refine J_iload_n dX0_isKept_0 rfl ?_
  refine J_iconst (zI 0) dX0_isKept_1 rfl ?_
  refine J_iconst (zI 2) dX0_isKept_2 rfl ?_
  refine PX0_isIn (by unfold zR at *; omega) (by unfold zR at *; omega) (by unfold zR at *; omega) (by decide) (by exact ⟨Nat.le_refl _, Nat.le_refl _⟩) (Nat.le_of_ble_eq_true rfl) dX0_isKept_3 (fun b3 => ?_) (fun b3 => ?_)
  · skip
    exact J_zret rfl dX0_isKept_6 rfl (by first | exact h1 (by omega) | exact h0 (by omega))
  · skip
    exact J_zret rfl dX0_isKept_6 rfl (by first | exact h1 (by omega) | exact h0 (by omega))
theorem c_isFrame {E : jEnv} {α : Nat → Nat} {σ : cS} {Q : Option Value → cS → Prop} {many : Nat} {wide high bl : Int} {G : Nat → Nat → Int} {ad : Nat → Nat} {c : Nat → Nat → Int} {v : Int} (hS : cSh many wide high bl G ad c σ) (hO : shOK many wide high bl G) (rv : zR v) (h1 : 0 ≤ v ∧ v < many → Q (some (.int (zI 1))) σ) (h0 : ¬ (0 ≤ v ∧ v < many) → Q (some (.int (zI 0))) σ) : jX0_isFrame E α 0 [some (.ref (α 0)), some (.int (zI (v)))] [] σ Q := by
  have := hO.s
  refine J_iload_n dX0_isFrame_0 rfl ?_
  refine J_iconst (zI 0) dX0_isFrame_1 rfl ?_
  refine J_aload_n dX0_isFrame_2 rfl ?_
  refine CG_many dX0_isFrame_3 ?_
  refine J_top (zI (many)) hS.1 ?_
  refine J_iconst (zI 1) dX0_isFrame_6 rfl ?_
  refine J_isub_z dX0_isFrame_7 ?_
  refine PX0_isIn (by unfold zR at *; omega) (by unfold zR at *; omega) (by unfold zR at *; omega) (by decide) (by exact ⟨Nat.le_refl _, Nat.le_refl _⟩) (Nat.le_of_ble_eq_true rfl) dX0_isFrame_8 (fun b8 => ?_) (fun b8 => ?_)
  · skip
    exact J_zret rfl dX0_isFrame_11 rfl (by first | exact h1 (by omega) | exact h0 (by omega))
  · skip
    exact J_zret rfl dX0_isFrame_11 rfl (by first | exact h1 (by omega) | exact h0 (by omega))
theorem c_isSet {E : jEnv} {α : Nat → Nat} {σ : cS} {Q : Option Value → cS → Prop} {many : Nat} {wide high bl : Int} {G : Nat → Nat → Int} {ad : Nat → Nat} {c : Nat → Nat → Int} {P : Nat → Nat → Int} {rule : Int} {f : Nat} (hS : cSh many wide high bl G ad c σ) (hO : shOK many wide high bl G) (hP : cPl many P c) (hN : plOK many P rule) (hf : f < many) (h1 : 0 ≤ P f 0 ∧ c f 0 = P f 0 ∧ c f 1 = P f 1 ∧ c f 2 = P f 2 ∧ c f 3 = P f 3 → Q (some (.int (zI 1))) σ) (h0 : P f 0 = -1 ∧ c f 0 = -9 → Q (some (.int (zI 0))) σ) : jX0_isSet E α 0 [some (.ref (α 0)), some (.int (zI (f : Nat)))] [] σ Q := by
  have hp := hP f hf
  have hn := hN.1 f hf
  have := hO.s
  refine J_aload_n dX0_isSet_0 rfl ?_
  refine CG_frames dX0_isSet_1 ?_
  refine J_iload_n dX0_isSet_4 rfl ?_
  refine CA_fr (hS.2.2.2.2 _ hf) (by omega) (by have := hO.1; omega) dX0_isSet_5 ?_
  refine FNX0_page G f (hS.w hf hO.1) (hO.k hf) dX0_isSet_6 ?_
  refine J_bipush (zI (-9)) dX0_isSet_9 rfl ?_
  refine J_icmp_eq_z (tgt := 18) dX0_isSet_11 (by decide) (by unfold zR; omega) (by unfold zR; omega) (fun c11 => ?_) (fun c11 => ?_)
  · skip
    refine J_iconst (zI 0) dX0_isSet_18 rfl ?_
    exact J_zret rfl dX0_isSet_19 rfl (by first | exact h1 (by omega) | exact h0 (by omega))
  · skip
    refine J_iconst (zI 1) dX0_isSet_14 rfl ?_
    refine J_goto (tgt := 19) dX0_isSet_15 (by decide) ?_
    exact J_zret rfl dX0_isSet_19 rfl (by first | exact h1 (by omega) | exact h0 (by omega))
