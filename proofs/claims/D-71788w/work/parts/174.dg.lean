set_option maxRecDepth 100000
/-! the component: reading -/
/-- text t is read: its bytes b, n0 of them -/
def cRe (t n0 : Nat) (b : Nat → Int) (σ : cS) : Prop := ∃ a f, σ.rd = some a ∧ σ.tx t = some (a, n0, f) ∧ ∀ i, i < n0 → f i = zI (b i)
theorem cRe.up {t n0 : Nat} {b : Nat → Int} {σ σ' : cS} (h : cRe t n0 b σ) (h1 : σ'.rd = σ.rd) (h2 : σ'.tx = σ.tx) : cRe t n0 b σ' := by
  unfold cRe at *
  rw [h1, h2]
  exact h
theorem cRe.q {t n0 : Nat} {b : Nat → Int} {I A : List Nat} {σ σ' : cS} (h : cRe t n0 b σ) (e : cQ I A σ σ') : cRe t n0 b σ' := h.up e.1.2.2.2.2.2.2.2.1 e.1.2.2.2.2.1
def sgn (b : Nat → Int) (n0 a : Nat) : Int := if a < n0 then b a else -9
theorem sgn_c (b : Nat → Int) (n0 a : Nat) : (a < n0 ∧ sgn b n0 a = b a) ∨ (n0 ≤ a ∧ sgn b n0 a = -9) := by
  unfold sgn
  by_cases z : a < n0
  · rw [if_pos z]; exact Or.inl ⟨z, rfl⟩
  · rw [if_neg z]; exact Or.inr ⟨by omega, rfl⟩
theorem c_sign {E : jEnv} {α : Nat → Nat} {σ : cS} {Q : Option Value → cS → Prop} {t n0 a : Nat} {b : Nat → Int}  (hX : cRe t n0 b σ) (ht : t < 4) (hn0 : n0 ≤ 120) (hA : σ.i 12 = zI (a : Nat)) (ha : a ≤ n0) (hq : Q (some (.int (zI (sgn b n0 a)))) σ) : jX0_sign E α 0 [some (.ref (α 0))] [] σ Q := by
  obtain ⟨ad, f, r1, r2, r3⟩ := hX
  have hs := sgn_c b n0 a
  refine J_aload_n dX0_sign_0 rfl ?_
  refine CG_readAt dX0_sign_1 ?_
  refine J_top (zI (a)) hA ?_
  refine J_aload_n dX0_sign_4 rfl ?_
  refine CG_reading dX0_sign_5 ?_
  rw [r1]
  refine CX_alen ht r2 dX0_sign_8 ?_
  refine J_icmp_ge_z (tgt := 24) dX0_sign_9 (by decide) (by unfold zR; omega) (by unfold zR; omega) (fun c9 => ?_) (fun c9 => ?_)
  · skip
    refine J_bipush (zI (-9)) dX0_sign_24 rfl ?_
    refine J_top (zI (sgn b n0 a)) (congrArg zI (by omega)) ?_
    exact J_iret rfl dX0_sign_26 (by exact hq)
  · skip
    refine J_aload_n dX0_sign_12 rfl ?_
    refine CG_reading dX0_sign_13 ?_
    rw [r1]
    refine J_aload_n dX0_sign_16 rfl ?_
    refine CG_readAt dX0_sign_17 ?_
    refine J_top (zI (a)) hA ?_
    refine CX_bald a ht r2 (by omega) (by omega) (by omega) dX0_sign_20 ?_
    refine J_top (zI (sgn b n0 a)) ((r3 a (by omega)).trans (congrArg zI (by omega))) ?_
    refine J_goto (tgt := 26) dX0_sign_21 (by decide) ?_
    exact J_iret rfl dX0_sign_26 (by exact hq)
theorem c_skips {E : jEnv} {α : Nat → Nat} {Q : Option Value → cS → Prop} {t n0 : Nat} {b : Nat → Int}  (ht : t < 4) (hn0 : n0 ≤ 120) (hby : ∀ i, i < n0 → -128 ≤ b i ∧ b i ≤ 127)  : ∀ (n : Nat) (a : Nat) (σ : cS), cRe t n0 b σ → σ.i 12 = zI (a : Nat) → a ≤ n0 → (∀ σ1, cQ [12, 13] [] σ σ1 → σ1.i 12 = zI (sk b n0 a : Nat) → σ1.i 13 = zI (sk b n0 a : Nat) → Q none σ1) → n0 - a < n → jX0_skips E α 0 [some (.ref (α 0))] [] σ Q := by
  intro n
  induction n with
  | zero => intro a σ h1 h2 h3 h4 hn; exact absurd hn (Nat.not_lt_zero _)
  | succ n ih =>
    intro a σ h1 h2 h3 h4 hn
    have hX := h1
    have hA := h2
    have hs := sgn_c b n0 a
    have hb := hby a
    refine J_aload_n dX0_skips_0 rfl ?_
    refine CC_X0_sign (by decide) (by decide) (Nat.le_of_ble_eq_true rfl) dX0_skips_1 ?_
    refine c_sign hX ht hn0 hA (by omega) ?_
    refine J_ri ?_
    refine J_bipush (zI 32) dX0_skips_4 rfl ?_
    refine J_icmp_ne_z (tgt := 22) dX0_skips_6 (by decide) (by unfold zR; omega) (by unfold zR; omega) (fun c6 => ?_) (fun c6 => ?_)
    · skip
      have hk : sk b n0 a = a := sc_n (fun z => by have := isB_iff.mp z.2; omega)
      refine J_aload_n dX0_skips_22 rfl ?_
      refine J_aload_n dX0_skips_23 rfl ?_
      refine CG_readAt dX0_skips_24 ?_
      refine J_top (zI (a)) hA ?_
      refine CP_tokenAt dX0_skips_27 ?_
      exact J_vret rfl dX0_skips_30 (by exact h4 _ (cQ.refl.sI (by decide)) (by rw [hk]; exact h2) (by rw [hk]; rfl))
    · skip
      have ha : a < n0 ∧ b a = 32 := by omega
      refine J_aload_n dX0_skips_9 rfl ?_
      refine J_dup dX0_skips_10 rfl ?_
      refine CG_readAt dX0_skips_11 ?_
      refine J_top (zI (a)) hA ?_
      refine J_iconst (zI 1) dX0_skips_14 rfl ?_
      refine J_iadd_z dX0_skips_15 ?_
      refine CP_readAt dX0_skips_16 ?_
      refine J_goto (tgt := 0) dX0_skips_19 (by decide) ?_
      exact ih (a + 1) _ (hX.up rfl rfl) rfl (by omega) (fun σ1 e1 r1 r2 => h4 σ1 ((cQ.refl.sI (by decide)).trans e1) (by rw [r1, sk, sk, sc_y ha.1 (isB_iff.mpr ha.2)]) (by rw [r2, sk, sk, sc_y ha.1 (isB_iff.mpr ha.2)])) (by omega)
theorem c_readsEnd {E : jEnv} {α : Nat → Nat} {σ : cS} {Q : Option Value → cS → Prop} {t n0 a : Nat} {b : Nat → Int}  (hX : cRe t n0 b σ) (ht : t < 4) (hn0 : n0 ≤ 120) (hby : ∀ i, i < n0 → -128 ≤ b i ∧ b i ≤ 127) (hA : σ.i 12 = zI (a : Nat)) (ha : a ≤ n0) (h1 : ∀ e, mEnd b n0 a = .ok e → ∀ σ1, cQ [12, 13] [] σ σ1 → σ1.i 12 = zI (e : Nat) → Q (some (.int (zI 1))) σ1) (h0 : ∀ p, mEnd b n0 a = .error p → ∀ σ1, cQ [12, 13] [] σ σ1 → σ1.i 13 = zI (p : Nat) → Q (some (.int (zI 0))) σ1)  : jX0_readsEnd E α 0 [some (.ref (α 0))] [] σ Q := by
  have hsb : a ≤ sk b n0 a ∧ sk b n0 a ≤ n0 := sc_b ha
  have hs := sgn_c b n0 (sk b n0 a)
  have hb := hby (sk b n0 a)
  refine J_aload_n dX0_readsEnd_0 rfl ?_
  refine CC_X0_skips (by decide) (by decide) (Nat.le_of_ble_eq_true rfl) dX0_readsEnd_1 ?_
  refine c_skips ht hn0 hby _ _ _ hX hA (by omega) (fun σ1 e1 A1 T1 => ?_) (Nat.lt_succ_self _)
  have hX1 := hX.q e1
  refine J_rv ?_
  refine J_aload_n dX0_readsEnd_4 rfl ?_
  refine CC_X0_sign (by decide) (by decide) (Nat.le_of_ble_eq_true rfl) dX0_readsEnd_5 ?_
  refine c_sign hX1 ht hn0 A1 (by omega) ?_
  refine J_ri ?_
  refine J_bipush (zI 59) dX0_readsEnd_8 rfl ?_
  refine J_icmp_eq_z (tgt := 15) dX0_readsEnd_10 (by decide) (by unfold zR; omega) (by unfold zR; omega) (fun c10 => ?_) (fun c10 => ?_)
  · skip
    refine J_aload_n dX0_readsEnd_15 rfl ?_
    refine J_dup dX0_readsEnd_16 rfl ?_
    refine CG_readAt dX0_readsEnd_17 ?_
    refine J_top (zI ((sk b n0 a))) A1 ?_
    refine J_iconst (zI 1) dX0_readsEnd_20 rfl ?_
    refine J_iadd_z dX0_readsEnd_21 ?_
    refine CP_readAt dX0_readsEnd_22 ?_
    refine J_iconst (zI 1) dX0_readsEnd_25 rfl ?_
    exact J_zret rfl dX0_readsEnd_26 rfl (by first | exact h1 _ (if_pos (by omega)) _ (e1.sI (by decide)) rfl | exact h0 _ (if_neg (by omega)) _ e1 T1)
  · skip
    refine J_iconst (zI 0) dX0_readsEnd_13 rfl ?_
    exact J_zret rfl dX0_readsEnd_14 rfl (by first | exact h1 _ (if_pos (by omega)) _ (e1.sI (by decide)) rfl | exact h0 _ (if_neg (by omega)) _ e1 T1)
theorem cl_readsNumber9 {E : jEnv} {α : Nat → Nat} {σ : cS} {Q : Option Value → cS → Prop} {t n0 s : Nat} {b : Nat → Int} {lo hi : Int}  (hX : cRe t n0 b σ) (ht : t < 4) (hn0 : n0 ≤ 120) (hby : ∀ i, i < n0 → -128 ≤ b i ∧ b i ≤ 127) (hs0 : s ≤ n0) (hx : ∀ σ1, cQ [12] [] σ σ1 → σ1.i 12 = zI ((sc isF b n0 s) : Nat) → jX0_readsNumber E α 59 [some (.ref (α 0)), some (.int (zI (lo))), some (.int (zI (hi))), some (.int (zI ((sc isF b n0 s - s : Nat)))), some (.int (zI (nvC b s (sc isF b n0 s - s))))] [] σ1 Q)  : ∀ (n : Nat) (a : Nat) (σ1 : cS), cQ [12] [] σ σ1 → σ1.i 12 = zI (a : Nat) → s ≤ a → a ≤ n0 → (sc isF b n0 s) = (sc isF b n0 a) → (∀ i, i < a - s → isF (b (s + i)) = true) → n0 - a < n → jX0_readsNumber E α 9 [some (.ref (α 0)), some (.int (zI (lo))), some (.int (zI (hi))), some (.int (zI (a - s : Nat))), some (.int (zI (nvC b s (a - s))))] [] σ1 Q := by
  intro n
  induction n with
  | zero => intro a σ1 h1 h2 h3 h4 h5 h6 hn; exact absurd hn (Nat.not_lt_zero _)
  | succ n ih =>
    intro a σ1 h1 h2 h3 h4 h5 h6 hn
    have hX := hX.q h1
    have hA := h2
    have hs := sgn_c b n0 a
    have hb := hby a
    have hv := nvC_b (b := b) (s := s) (k := a - s) h6
    refine J_aload_n dX0_readsNumber_9 rfl ?_
    refine CC_X0_sign (by decide) (by decide) (Nat.le_of_ble_eq_true rfl) dX0_readsNumber_10 ?_
    refine c_sign hX ht hn0 hA (by omega) ?_
    refine J_ri ?_
    refine J_bipush (zI 48) dX0_readsNumber_13 rfl ?_
    refine J_bipush (zI 57) dX0_readsNumber_15 rfl ?_
    refine PX0_isIn (by unfold zR; omega) (by unfold zR; omega) (by unfold zR; omega) (by decide) (by exact ⟨Nat.le_refl _, Nat.le_refl _⟩) (Nat.le_of_ble_eq_true rfl) dX0_readsNumber_17 (fun b17 => ?_) (fun b17 => ?_)
    · skip
      have b9 : isF (b a) = true := isF_iff.mpr (by omega)
      have hlt : a < n0 := by omega
      refine J_if_eq_n (tgt := 59) dX0_readsNumber_20 (by decide) (by decide) ?_
      refine J_ldc (zI 1048576) q758 dX0_readsNumber_23 ?_
      refine J_bipush (zI 10) dX0_readsNumber_25 rfl ?_
      refine J_iload dX0_readsNumber_27 rfl ?_
      refine J_imul_z dX0_readsNumber_29 ?_
      refine J_aload_n dX0_readsNumber_30 rfl ?_
      refine CC_X0_sign (by decide) (by decide) (Nat.le_of_ble_eq_true rfl) dX0_readsNumber_31 ?_
      refine c_sign hX ht hn0 hA (by omega) ?_
      refine J_ri ?_
      refine J_iadd_z dX0_readsNumber_34 ?_
      refine J_bipush (zI 48) dX0_readsNumber_35 rfl ?_
      refine J_isub_z dX0_readsNumber_37 ?_
      refine PX0_min (by unfold zR; omega) (by unfold zR; omega) (by decide) (by exact ⟨Nat.le_refl _, Nat.le_refl _⟩) (Nat.le_of_ble_eq_true rfl) dX0_readsNumber_38 ?_
      refine J_top (zI (nvC b s (a + 1 - s))) (congrArg zI (by rw [show a + 1 - s = (a - s) + 1 by omega, nvC, show s + (a - s) = a by omega, show sgn b n0 a = b a by omega, Int.mul_comm]; first | rfl | (split <;> split <;> omega))) ?_
      refine J_istore dX0_readsNumber_41 rfl (by decide) _ rfl ?_
      refine J_iinc_z (((a + 1 - s) : Nat) : Int) (by omega) dX0_readsNumber_43 rfl rfl (by decide) _ rfl ?_
      refine J_aload_n dX0_readsNumber_46 rfl ?_
      refine J_dup dX0_readsNumber_47 rfl ?_
      refine CG_readAt dX0_readsNumber_48 ?_
      refine J_top (zI (a)) hA ?_
      refine J_iconst (zI 1) dX0_readsNumber_51 rfl ?_
      refine J_iadd_z dX0_readsNumber_52 ?_
      refine CP_readAt dX0_readsNumber_53 ?_
      refine J_goto (tgt := 9) dX0_readsNumber_56 (by decide) ?_
      exact ih (a + 1) _ (h1.sI (by decide)) rfl (by omega) (by omega) (by rw [h5, sc_y hlt b9]) (fun i hi => Decidable.byCases (fun z : i = a - s => by rw [z, show s + (a - s) = a by omega]; exact b9) (fun z => h6 i (by omega))) (by omega)
    · skip
      have hk : sc isF b n0 a = a := sc_n (fun z => by have := isF_iff.mp z.2; omega)
      refine J_fg (L' := [some (.ref (α 0)), some (.int (zI (lo))), some (.int (zI (hi))), some (.int (zI ((a - s : Nat)))), some (.int (zI (nvC b s (a - s))))]) (by repeat' constructor) ?_
      refine J_if_eq_y (tgt := 59) dX0_readsNumber_20 (by decide) (by decide) ?_
      have hx1 := hx σ1 h1 (by rw [h5, hk]; exact h2)
      rw [h5, hk] at hx1
      exact hx1
theorem c_readsNumber {E : jEnv} {α : Nat → Nat} {σ : cS} {Q : Option Value → cS → Prop} {t n0 a : Nat} {b : Nat → Int} {lo hi : Int}  (hX : cRe t n0 b σ) (ht : t < 4) (hn0 : n0 ≤ 120) (hby : ∀ i, i < n0 → -128 ≤ b i ∧ b i ≤ 127) (hA : σ.i 12 = zI (a : Nat)) (ha : a ≤ n0) (rl : 0 ≤ lo ∧ lo ≤ 999 ∧ 0 ≤ hi ∧ hi ≤ 999) (h1 : ∀ v e, mNum b n0 lo hi a = .ok (v, e) → ∀ σ1, cQ [12, 13, 14] [] σ σ1 → σ1.i 12 = zI (e : Nat) → σ1.i 14 = zI v → σ1.i 13 = zI (sk b n0 a : Nat) → Q (some (.int (zI 1))) σ1) (h0 : ∀ p, mNum b n0 lo hi a = .error p → ∀ σ1, cQ [12, 13, 14] [] σ σ1 → σ1.i 13 = zI (p : Nat) → Q (some (.int (zI 0))) σ1)  : jX0_readsNumber E α 0 [some (.ref (α 0)), some (.int (zI (lo))), some (.int (zI (hi))), none, none] [] σ Q := by
  have hsb : a ≤ sk b n0 a ∧ sk b n0 a ≤ n0 := sc_b ha
  have hsc : sk b n0 a ≤ sc isF b n0 (sk b n0 a) ∧ sc isF b n0 (sk b n0 a) ≤ n0 := sc_b hsb.2
  have hv := nvC_b (b := b) (s := sk b n0 a) (k := sc isF b n0 (sk b n0 a) - sk b n0 a) (fun i hi => sc_in (p := isF) (n := n0) (a := sk b n0 a) (by omega) (by omega))
  refine J_aload_n dX0_readsNumber_0 rfl ?_
  refine CC_X0_skips (by decide) (by decide) (Nat.le_of_ble_eq_true rfl) dX0_readsNumber_1 ?_
  refine c_skips ht hn0 hby _ _ _ hX hA (by omega) (fun σ1 e1 A1 T1 => ?_) (Nat.lt_succ_self _)
  have hX1 := hX.q e1
  refine J_rv ?_
  refine J_iconst (zI 0) dX0_readsNumber_4 rfl ?_
  refine J_istore_n dX0_readsNumber_5 rfl (by decide) _ rfl ?_
  refine J_iconst (zI 0) dX0_readsNumber_6 rfl ?_
  refine J_istore dX0_readsNumber_7 rfl (by decide) _ rfl ?_
  refine J_fg (L' := [some (.ref (α 0)), some (.int (zI (lo))), some (.int (zI (hi))), some (.int (zI ((sk b n0 a - sk b n0 a : Nat)))), some (.int (zI (nvC b (sk b n0 a) (sk b n0 a - sk b n0 a))))]) (by rw [Nat.sub_self]; repeat' constructor) ?_
  refine cl_readsNumber9 hX1 ht hn0 hby hsb.2 (fun σ2 e2 A2 => ?_) _ (sk b n0 a) _ cQ.refl A1 (Nat.le_refl _) hsb.2 rfl (fun i hi => absurd hi (by omega)) (Nat.lt_succ_self _)
  have e3 : cQ [12, 13, 14] [] σ σ2 := (e1.mono (by decide) (by decide)).trans (e2.mono (by decide) (by decide))
  have T2 : σ2.i 13 = zI (sk b n0 a : Nat) := (e2.1.1 13 (by decide)).trans T1
  refine J_aload_n dX0_readsNumber_59 rfl ?_
  refine J_iload dX0_readsNumber_60 rfl ?_
  refine CP_readNumber dX0_readsNumber_62 ?_
  refine J_iload_n dX0_readsNumber_65 rfl ?_
  refine J_if_le_z (tgt := 83) dX0_readsNumber_66 (by decide) (by unfold zR; omega) (fun c66 => ?_) (fun c66 => ?_)
  · skip
    refine J_iconst (zI 0) dX0_readsNumber_83 rfl ?_
    exact J_zret rfl dX0_readsNumber_84 rfl (by first | exact h1 _ _ (mNum_c (by omega) (by omega) (by omega) (by omega)) _ (e3.sI (by decide)) A2 rfl T2 | exact h0 _ (mNum_d (by omega) (by omega)) _ (e3.sI (by decide)) T2)
  · skip
    refine J_iload dX0_readsNumber_69 rfl ?_
    refine J_iload_n dX0_readsNumber_71 rfl ?_
    refine J_iload_n dX0_readsNumber_72 rfl ?_
    refine PX0_isIn (by unfold zR; omega) (by unfold zR; omega) (by unfold zR; omega) (by decide) (by exact ⟨Nat.le_refl _, Nat.le_refl _⟩) (Nat.le_of_ble_eq_true rfl) dX0_readsNumber_73 (fun b73 => ?_) (fun b73 => ?_)
    · skip
      refine J_if_eq_n (tgt := 83) dX0_readsNumber_76 (by decide) (by decide) ?_
      refine J_iconst (zI 1) dX0_readsNumber_79 rfl ?_
      refine J_goto (tgt := 84) dX0_readsNumber_80 (by decide) ?_
      exact J_zret rfl dX0_readsNumber_84 rfl (by first | exact h1 _ _ (mNum_c (by omega) (by omega) (by omega) (by omega)) _ (e3.sI (by decide)) A2 rfl T2 | exact h0 _ (mNum_d (by omega) (by omega)) _ (e3.sI (by decide)) T2)
    · skip
      refine J_if_eq_y (tgt := 83) dX0_readsNumber_76 (by decide) (by decide) ?_
      refine J_iconst (zI 0) dX0_readsNumber_83 rfl ?_
      exact J_zret rfl dX0_readsNumber_84 rfl (by first | exact h1 _ _ (mNum_c (by omega) (by omega) (by omega) (by omega)) _ (e3.sI (by decide)) A2 rfl T2 | exact h0 _ (mNum_d (by omega) (by omega)) _ (e3.sI (by decide)) T2)
