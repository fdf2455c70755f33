set_option maxRecDepth 100000
/-! the component and its strings -/
/-- the string world as the component has it: d b .. d (b + 4) -/
def strW (b : Nat) (σ : cS) : jW := fun r => if r < 5 then σ.d (b + r) else none
def cDs (b : Nat) (σ : cS) (s : jW) : cS := cD (cD (cD (cD (cD σ b (s 0)) (b + 1) (s 1)) (b + 2) (s 2)) (b + 3) (s 3)) (b + 4) (s 4)
def sIv (b r : Nat) : Option Nat := if 200 + b ≤ r ∧ r < 205 + b then some (r - (200 + b)) else none
theorem wC_Ds {E : jEnv} {α : Nat → Nat} {σ : cS} {b : Nat} {s : jW} : wC E α (cDs b σ s) = j_mix (sIv b) (wC E α σ) s := by
  funext r
  unfold cDs
  rw [wC_D, wC_D, wC_D, wC_D, wC_D]
  by_cases h : 200 + b ≤ r ∧ r < 205 + b
  · have e : sIv b r = some (r - (200 + b)) := if_pos h
    simp only [j_mix, e, j_up]
    obtain q | q | q | q | q : r = 200 + b ∨ r = 200 + b + 1 ∨ r = 200 + b + 2 ∨ r = 200 + b + 3 ∨ r = 200 + b + 4 := by omega
    · rw [if_neg (by omega), if_neg (by omega), if_neg (by omega), if_neg (by omega), if_pos (by omega), show r - (200 + b) = 0 by omega]
    · rw [if_neg (by omega), if_neg (by omega), if_neg (by omega), if_pos (by omega), show r - (200 + b) = 1 by omega]
    · rw [if_neg (by omega), if_neg (by omega), if_pos (by omega), show r - (200 + b) = 2 by omega]
    · rw [if_neg (by omega), if_pos (by omega), show r - (200 + b) = 3 by omega]
    · rw [if_pos (by omega), show r - (200 + b) = 4 by omega]
  · have e : sIv b r = none := if_neg h
    simp only [j_mix, e, j_up]
    rw [if_neg (by omega), if_neg (by omega), if_neg (by omega), if_neg (by omega), if_neg (by omega)]
theorem cDs_d {b j : Nat} {σ : cS} {s : jW} : (cDs b σ s).d j = if b ≤ j ∧ j < b + 5 then s (j - b) else σ.d j := by
  show (if j = b + 4 then s 4 else if j = b + 3 then s 3 else if j = b + 2 then s 2 else if j = b + 1 then s 1 else if j = b then s 0 else σ.d j) = _
  by_cases h : b ≤ j ∧ j < b + 5
  · rw [if_pos h]
    obtain q | q | q | q | q : j = b ∨ j = b + 1 ∨ j = b + 2 ∨ j = b + 3 ∨ j = b + 4 := by omega
    · rw [if_neg (by omega), if_neg (by omega), if_neg (by omega), if_neg (by omega), if_pos (by omega), show j - b = 0 by omega]
    · rw [if_neg (by omega), if_neg (by omega), if_neg (by omega), if_pos (by omega), show j - b = 1 by omega]
    · rw [if_neg (by omega), if_neg (by omega), if_pos (by omega), show j - b = 2 by omega]
    · rw [if_neg (by omega), if_pos (by omega), show j - b = 3 by omega]
    · rw [if_pos (by omega), show j - b = 4 by omega]
  · rw [if_neg h, if_neg (by omega), if_neg (by omega), if_neg (by omega), if_neg (by omega), if_neg (by omega)]
theorem cDs_self {b : Nat} {σ : cS} : cDs b σ (strW b σ) = σ := by
  have e : (cDs b σ (strW b σ)).d = σ.d := by
    funext j
    rw [cDs_d]
    by_cases h : b ≤ j ∧ j < b + 5
    · rw [if_pos h]
      show (if j - b < 5 then σ.d (b + (j - b)) else none) = σ.d j
      rw [if_pos (by omega), show b + (j - b) = j by omega]
    · rw [if_neg h]
  exact congrArg (fun d => ((σ.i, σ.a, σ.h, σ.ro, σ.tx, σ.fr, σ.rf, σ.kp, σ.ru, σ.rd, d) : cS)) e
theorem strW_Ds {b r : Nat} {σ : cS} {s : jW} (h : r < 5) : strW b (cDs b σ s) r = s r := by
  show (if r < 5 then (cDs b σ s).d (b + r) else none) = s r
  rw [if_pos h, cDs_d, if_pos (by omega), show b + r - b = r by omega]
theorem JE_str {E : jEnv} {α : Nat → Nat} {y : MethodName} {ws : List Cond} {R : Room} {vs : List Value} {σ : cS} {Q : Option Value → cS → Prop} (b : Nat) (h : JE E wI (cX E) y ws R vs (strW b σ) (fun v s => Q v (cDs b σ s))) : JE E (wC E α) (cX E) y ws R vs σ Q := by
  refine JE.frame (sIv b) (cDs b σ) cX_1 (by rw [← wC_Ds, cDs_self]) (fun s => wC_Ds) (fun r r' q h1 h2 => ?_) (fun r2 x hx => ?_) h
  · unfold sIv at h1 h2
    split at h1
    · split at h2
      · have := h1.trans h2.symm
        have := Option.some.inj this
        omega
      · cases h2
    · cases h1
  · by_cases hr : r2 < 5
    · refine ⟨200 + b + r2, ?_⟩
      unfold sIv
      rw [if_pos (by omega)]
      congr 1
      omega
    · have : strW b σ r2 = none := if_neg hr
      rw [this] at hx
      cases hx
theorem SB.c {E : jEnv} {b a N : Nat} {t : List Int} {σ : cS} {s : jW} (h : SB E s a t N) : SB E (strW b (cDs b σ s)) a t N := h.up (strW_Ds (by decide)) (strW_Ds (by decide))
theorem OS.c {E : jEnv} {b a : Nat} {t : List Int} {h hz : Int32} {σ : cS} {s : jW} (x : OS E s a t h hz) : OS E (strW b (cDs b σ s)) a t h hz := x.up (strW_Ds (by decide)) (strW_Ds (by decide))
theorem SB.hr {E : jEnv} {α : Nat → Nat} {b a N : Nat} {t : List Int} {σ : cS} (h : SB E (strW b σ) a t N) : ∃ V, wC E α σ (200 + b) = some (a, .inr (7, V)) := by
  obtain ⟨va, f, h0, -⟩ := h
  exact ⟨_, (wC_d b).trans h0⟩
theorem OS.hr {E : jEnv} {α : Nat → Nat} {b a : Nat} {t : List Int} {h hz : Int32} {σ : cS} (x : OS E (strW b σ) a t h hz) : ∃ V, wC E α σ (200 + (b + 2)) = some (a, .inr (8, V)) := by
  obtain ⟨sv, g, h0, -⟩ := x
  exact ⟨_, (wC_d (b + 2)).trans h0⟩
/-- what a word's reading changes -/
def cR (I : List Nat) (σ σ' : cS) : Prop := cW I σ σ' ∧ σ'.rf = σ.rf ∧ ∀ j, j < 3 ∨ 8 ≤ j → σ'.d j = σ.d j
theorem cR.refl {I : List Nat} {σ : cS} : cR I σ σ := ⟨⟨fun _ _ => rfl, rfl, rfl, rfl, rfl, rfl, rfl, rfl, rfl⟩, rfl, fun _ _ => rfl⟩
theorem cR.trans {I : List Nat} {a b c : cS} (h : cR I a b) (g : cR I b c) : cR I a c := ⟨h.1.trans g.1, g.2.1.trans h.2.1, fun j hj => (g.2.2 j hj).trans (h.2.2 j hj)⟩
theorem cR.ds {I : List Nat} {a c : cS} {s : jW} (h : cR I a c) : cR I a (cDs 3 c s) := ⟨⟨h.1.1, h.1.2⟩, h.2.1, fun j hj => by rw [cDs_d, if_neg (by omega)]; exact h.2.2 j hj⟩
theorem cR.q {I A : List Nat} {a b : cS} (h : cQ I [] a b) : cR I a b := ⟨h.w, h.1.2.2.2.2.2.1, fun j _ => congrFun h.1.2.2.2.2.2.2.2.2 j⟩
theorem cR.mono {I I' : List Nat} {a b : cS} (h : cR I a b) (hI : ∀ k ∈ I, k ∈ I') : cR I' a b := ⟨h.1.mono hI, h.2⟩
theorem cR.sI {I : List Nat} {a b : cS} (h : cR I a b) {k : Nat} {v : Int32} (hk : k ∈ I) : cR I a (cI b k v) := ⟨h.1.sI hk, h.2⟩
theorem cR.d3 {I : List Nat} {a b : cS} {k : Nat} {x : Option (Nat × jE)} (h : cR I a b) (hk : 3 ≤ k ∧ k < 8) : cR I a (cD b k x) := ⟨⟨h.1.1, h.1.2⟩, h.2.1, fun j hj => by
  show (if j = k then x else b.d j) = _
  rw [if_neg (by omega)]
  exact h.2.2 j hj⟩
/-- the letters from s on, k of them -/
def wdL (b : Nat → Int) (s k : Nat) : List Int := (List.range k).map (fun i => b (s + i))
theorem wdL_l {b : Nat → Int} {s k : Nat} : (wdL b s k).length = k := by simp [wdL]
theorem wdL_s {b : Nat → Int} {s k : Nat} : wdL b s (k + 1) = wdL b s k ++ [b (s + k)] := by simp [wdL, List.range_succ]
/-- room that a StringBuilder of size N has taken -/
def bud (N k n : Nat) : Prop := (N = 16 ∧ k = 2 ∧ n = 20) ∨ (N = 34 ∧ k = 3 ∧ n = 54) ∨ (N = 70 ∧ k = 4 ∧ n = 124) ∨ (N = 142 ∧ k = 5 ∧ n = 266)
theorem bud_s {N k n l : Nat} (h : bud N k n) (hl : l ≤ N) (h2 : l ≤ 120) : ∃ kc m, (N < l + 1 → 1 ≤ kc ∧ bcap N (l + 1) ≤ m) ∧ bud (bcap N (l + 1)) (k + kc) (n + m) := by
  by_cases z : l + 1 ≤ N
  · refine ⟨0, 0, fun h => absurd h (by omega), ?_⟩
    rw [show bcap N (l + 1) = N from if_pos z]
    exact h
  · have hN : l = N := by omega
    subst hN
    have e : bcap l (l + 1) = 2 * l + 2 := by unfold bcap; rw [if_neg (by omega)]; split <;> omega
    rw [e]
    refine ⟨1, 2 * l + 2, fun _ => ⟨Nat.le_refl _, Nat.le_refl _⟩, ?_⟩
    unfold bud at *
    omega
theorem cl_readsWord12 {E : jEnv} {α : Nat → Nat} {σ : cS} {Q : Option Value → cS → Prop} {t n0 s0 q : Nat} {b : Nat → Int}  (hX : cRe t n0 b σ) (ht : t < 4) (hn0 : n0 ≤ 120) (hby : ∀ i, i < n0 → -128 ≤ b i ∧ b i ≤ 127) (hs0 : s0 ≤ n0) (hx : ∀ σ1 N, cR [12] σ σ1 → σ1.i 12 = zI (sc isL b n0 s0 : Nat) → SB E (strW 3 σ1) q (wdL b s0 (sc isL b n0 s0 - s0)) N → N ≤ 142 → Q (some (.ref q)) σ1)  : ∀ (n : Nat) (a N ks ns : Nat) (σ1 : cS), cR [12] σ σ1 → σ1.i 12 = zI (a : Nat) → s0 ≤ a → a ≤ n0 → sc isL b n0 s0 = sc isL b n0 a → SB E (strW 3 σ1) q (wdL b s0 (a - s0)) N → bud N ks ns → n0 - a < n → J E (wC E α) (cX E, none) cX0_readsWord 2 (some (.object "java/lang/StringBuilder")) RX0 (jR 10 12 600) (ks) (ns) 12 [some (.ref (α 0)), some (.ref q)] [] σ1 Q := by
  intro n
  induction n with
  | zero => intro a N ks ns σ1 h1 h2 h3 h4 h5 h6 h7 hn; exact absurd hn (Nat.not_lt_zero _)
  | succ n ih =>
    intro a N ks ns σ1 h1 h2 h3 h4 h5 h6 h7 hn
    have hX := hX.w h1.1
    have hA := h2
    have hs := sgn_c b n0 a
    have hb := hby a
    have hkn : ks ≤ 12 ∧ ns ≤ 600 := by unfold bud at h7; omega
    refine J_aload_n dX0_readsWord_12 rfl ?_
    refine CC_X0_sign (by decide) hkn (Nat.le_of_ble_eq_true rfl) dX0_readsWord_13 ?_
    refine c_sign hX ht hn0 hA (by omega) ?_
    refine J_ri ?_
    refine J_bipush (zI 97) dX0_readsWord_16 rfl ?_
    refine J_bipush (zI 122) dX0_readsWord_18 rfl ?_
    refine PX0_isIn (by unfold zR; omega) (by unfold zR; omega) (by unfold zR; omega) (by decide) hkn (Nat.le_of_ble_eq_true rfl) dX0_readsWord_20 (fun b20 => ?_) (fun b20 => ?_)
    · skip
      have b9 : isL (b a) = true := isL_iff.mpr (by omega)
      have hlt : a < n0 := by omega
      refine J_if_eq_n (tgt := 49) dX0_readsWord_23 (by decide) (by decide) ?_
      refine J_aload_n dX0_readsWord_26 rfl ?_
      refine J_aload_n dX0_readsWord_27 rfl ?_
      refine CC_X0_sign (by decide) hkn (Nat.le_of_ble_eq_true rfl) dX0_readsWord_28 ?_
      refine c_sign hX ht hn0 hA (by omega) ?_
      refine J_ri ?_
      refine J_i2c dX0_readsWord_31 ?_
      refine J_top (zI (b a)) ((congrArg (fun z : Int => ((zI z).toUInt32 % 65536).toInt32) (show sgn b n0 a = b a by omega)).trans (chr_z (by omega)).1) ?_
      have hN1 : N ≤ 142 := by unfold bud at h7; omega
      obtain ⟨va, f, g0, g1, hT⟩ := id h6
      have hl1 := hT.1
      rw [wdL_l] at hl1
      obtain ⟨kc, m, hm, hb2⟩ := bud_s h7 hl1 (by omega)
      have hkn2 : ks + kc ≤ 12 ∧ ns + m ≤ 600 := by unfold bud at hb2; omega
      refine J_eV (y := yJ10_append) (R' := (jR 6 kc m)) [.int (zI (b a))] 1 203 ((wC_d 3).trans g0) rfl q536 q537 q538 q119 q539 (by decide +kernel) cX_1 ⟨Nat.le_of_ble_eq_true rfl, Nat.le_of_ble_eq_true rfl⟩ hkn2 rfl (Nat.le_of_ble_eq_true rfl) dX0_readsWord_32 (JE_str 3 (JE.of (X' := (cX E, none)) (by decide +kernel) (Nat.le_of_ble_eq_true rfl) (fun _ z => by cases z) (?_)))
      refine b_appC h6 (by omega) (by rw [wdL_l]; omega) (by omega) (by rw [wdL_l]; exact hm) (fun s1 o1 B1 => ?_)
      refine J_ra ?_
      refine J_pop dX0_readsWord_35 rfl ?_
      refine J_aload_n dX0_readsWord_36 rfl ?_
      refine J_dup dX0_readsWord_37 rfl ?_
      refine CG_readAt dX0_readsWord_38 ?_
      refine J_top (zI (a)) hA ?_
      refine J_iconst (zI 1) dX0_readsWord_41 rfl ?_
      refine J_iadd_z dX0_readsWord_42 ?_
      refine CP_readAt dX0_readsWord_43 ?_
      refine J_goto (tgt := 12) dX0_readsWord_46 (by decide) ?_
      have hw : wdL b s0 (a + 1 - s0) = wdL b s0 (a - s0) ++ [b a] := by
        rw [show a + 1 - s0 = (a - s0) + 1 by omega, wdL_s, show s0 + (a - s0) = a by omega]
      refine ih (a + 1) (bcap N (a - s0 + 1)) (ks + kc) (ns + m) _ (h1.ds.sI (by decide)) rfl (by omega) (by omega) (by rw [h5, sc_y hlt b9]) ?_ hb2 (by omega)
      rw [hw]
      have B2 := B1.c (b := 3) (σ := σ1)
      rw [wdL_l] at B2
      exact B2
    · skip
      have hk : sc isL b n0 a = a := sc_n (fun z => by have := isL_iff.mp z.2; omega)
      refine J_if_eq_y (tgt := 49) dX0_readsWord_23 (by decide) (by decide) ?_
      refine J_aload_n dX0_readsWord_49 rfl ?_
      exact J_aret rfl dX0_readsWord_50 (by exact hx σ1 N h1 (by rw [h5, hk]; exact h2) (by rw [h5, hk]; exact h6) (by unfold bud at h7; omega))
