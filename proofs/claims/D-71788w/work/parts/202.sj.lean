set_option maxRecDepth 100000
/-! reading: reads, fault -/
/-- how many statements are read at most -/
def pcn (s : pS) : Nat := (if s.2.1 = 0 then 0 else 1) + (if s.2.2.2.1 = -1 then 0 else 1) + s.2.2.2.2.1
theorem pcn_b {n : Nat} {s : pS} (h : pOK n s) : pcn s ≤ 10 := by
  have := h.2.1
  unfold pcn
  split <;> split <;> omega
theorem mNum_r {b : Nat → Int} {n a e : Nat} {lo hi v : Int} (h : mNum b n lo hi a = .ok (v, e)) : lo ≤ v ∧ v ≤ hi := by
  unfold mNum at h
  split at h
  · rename_i z
    cases h
    exact ⟨z.2.1, z.2.2⟩
  · cases h
theorem mPgS_c {b : Nat → Int} {n a : Nat} {s s' : pS} (hz : s.2.1 = 0) (h : mPgS b n a s = .ok s') (hs : pOK n s') : pcn s + 1 ≤ pcn s' := by
  unfold mPgS at h
  split at h
  · cases h
  · rename_i w e hm
    split at h
    · cases h
    · rename_i h2 e2 hm2
      split at h
      · cases h
      · cases h
        have b1 := mNum_r hm
        unfold pcn
        simp only at *
        rw [if_pos hz, if_neg (show ¬ w = 0 by omega)]
        omega
theorem mBlS_c {b : Nat → Int} {n t a : Nat} {s s' : pS} (h : mBlS b n t a s = .ok s') (hs : pOK n s) : pcn s + 1 ≤ pcn s' := by
  have h4 := hs.2.2.2.1
  unfold mBlS at h
  split at h
  · cases h
  · rename_i h9
    split at h
    · cases h
    · rename_i v e hm
      split at h
      · cases h
      · cases h
        have b1 := mNum_r hm
        unfold pcn
        simp only at *
        rw [if_pos (show s.2.2.2.1 = -1 by omega), if_neg (show ¬ v = -1 by omega)]
        omega
theorem mFrm_c {b : Nat → Int} {n t a : Nat} {kd : Int} {s s' : pS} (h : mFrm b n kd t a s = .ok s') : pcn s + 1 ≤ pcn s' := by
  unfold mFrm at h
  split at h
  · cases h
  · split at h
    · cases h
    · split at h
      · cases h
      · cases h
        unfold pcn
        simp only
        omega
theorem mOne_c {b : Nat → Int} {n : Nat} {s s' : pS} (hs : pOK n s) (h : mOne b n s = .ok s') : pcn s + 1 ≤ pcn s' := by
  have hs2 := (mOne_ok hs h).1
  unfold mOne at h
  simp only at h
  split at h
  · split at h
    · rename_i z
      exact mPgS_c z h hs2
    · cases h
  · split at h
    · cases h
    · split at h
      · exact mBlS_c h hs
      · split at h
        · exact mFrm_c h
        · split at h
          · exact mFrm_c h
          · split at h
            · exact mFrm_c h
            · split at h
              · exact mFrm_c h
              · cases h
/-- no temporaries -/
def cD0 (σ : cS) : cS := (σ.i, σ.a, σ.h, σ.ro, σ.tx, σ.fr, σ.rf, σ.kp, σ.ru, σ.rd, fun _ => none)
theorem J_dropA {E : jEnv} {α : Nat → Nat} {X : jX} {cc : ByteArray} {mL : Nat} {ret : Option FieldType} {own : String} {R : Room} {k n pc : Nat} {L : List (Option Value)} {st : List Value} {σ : cS} {Q : Option Value → cS → Prop} (kk : J E (wC E α) X cc mL ret own R k n pc L st (cD0 σ) Q) : J E (wC E α) X cc mL ret own R k n pc L st σ Q := by
  have key : ∀ r x, wC E α (cD0 σ) r = some x → wC E α σ r = some x := by
    intro r x h
    by_cases hr : r < 200
    · have e : wC E α (cD0 σ) r = wC E α σ r := by
        unfold wC
        rw [show (if r < 200 then (none : Option (Nat × jE)) else (cD0 σ).d (r - 200)) = if r < 200 then none else σ.d (r - 200) by rw [if_pos hr, if_pos hr]]
        rfl
      rw [e] at h
      exact h
    · obtain ⟨k, rfl⟩ : ∃ k, r = 200 + k := ⟨r - 200, by omega⟩
      rw [wC_d] at h
      cases h
  exact J_apart fun ap => J_view (fun r x h => ⟨r, key r x h⟩) (fun r1 r2 a e1 e2 h1 h2 => ap _ _ _ _ _ (key _ _ h1) (key _ _ h2)) kk
theorem cl_reads35 {E : jEnv} {α : Nat → Nat} {σ : cS} {Q : Option Value → cS → Prop} {t n0 ad0 : Nat} {b : Nat → Int} {f : Nat → Int32}  (hX : cRe t n0 b σ) (ht : t < 4) (hn0 : n0 ≤ 120) (hby : ∀ i, i < n0 → -128 ≤ b i ∧ b i ≤ 127) (r2 : σ.tx t = some (ad0, n0, f)) (q0 : ∀ p, mRead b n0 = .error p → ∀ σ1, cW [12, 13, 14, 15, 16, 17, 18] σ σ1 → Q (some (.int (zI (p : Nat)))) σ1) (q1 : ∀ s', mRead b n0 = .ok s' → ∀ σ1 ad', cW [12, 13, 14, 15, 16, 17, 18] σ σ1 → cPr s' ad' σ1 → pOK n0 s' → Q (some (.int (zI (-9)))) σ1)  : ∀ (n : Nat) (s : pS) (ad : Nat → Nat) (c ks ns : Nat) (σ1 : cS), cW [12, 13, 14, 15, 16, 17, 18] σ σ1 → σ1.i 12 = zI (s.1 : Nat) → cPr s ad σ1 → pOK n0 s → (c ≤ pcn s ∧ ks = 30 * c ∧ ns = 2000 * c) → mPs b n0 (n0 + 1) (sk b n0 0, 0, 0, -1, 0, fun _ _ => 0) = mPs b n0 n s → n0 - s.1 < n → J E (wC E α) (cX E, none) cX0_reads 2 (some .int) RX0 (jR 12 400 30000) (ks) (ns) 35 [some (.ref (α 0)), some (.ref ad0)] [] σ1 Q := by
  intro n
  induction n with
  | zero => intro s ad c ks ns σ1 h1 h2 h3 h4 h5 h6 hn; exact absurd hn (Nat.not_lt_zero _)
  | succ n ih =>
    intro s ad c ks ns σ1 h1 h2 h3 h4 h5 h6 hn
    have hX1 := hX.w h1
    have r3 : σ1.tx t = some (ad0, n0, f) := by rw [h1.2.2.2.2.1]; exact r2
    have hc10 := pcn_b h4
    have hkn : ks ≤ 400 ∧ ns ≤ 30000 := by omega
    have hp1 := h4.1
    have hp2 := h4.2.1
    refine J_aload_n dX0_reads_35 rfl ?_
    refine CG_readAt dX0_reads_36 ?_
    refine J_top (zI (s.1)) h2 ?_
    refine J_aload_n dX0_reads_39 rfl ?_
    refine CX_alen ht r3 dX0_reads_40 ?_
    refine J_icmp_ge_z (tgt := 63) dX0_reads_41 (by decide) (by unfold zR; omega) (by unfold zR; omega) (fun c41 => ?_) (fun c41 => ?_)
    · skip
      have hE := h6.trans (mPs_x (by omega))
      refine J_aload_n dX0_reads_63 rfl ?_
      refine CG_readMany dX0_reads_64 ?_
      refine J_top (zI (s.2.2.2.2.1)) h3.2.2.2.1 ?_
      refine J_if_ne_z (tgt := 75) dX0_reads_67 (by decide) (by unfold zR; omega) (fun c67 => ?_) (fun c67 => ?_)
      · skip
        refine J_bipush (zI (-9)) dX0_reads_75 rfl ?_
        exact J_iret rfl dX0_reads_77 (by exact q1 s (mRead_1 hE (by omega)) σ1 ad h1 h3 h4)
      · skip
        refine J_aload_n dX0_reads_70 rfl ?_
        refine CX_alen ht r3 dX0_reads_71 ?_
        refine J_goto (tgt := 77) dX0_reads_72 (by decide) ?_
        exact J_iret rfl dX0_reads_77 (by exact q0 n0 (mRead_0 hE (by omega)) σ1 h1)
    · skip
      refine J_aload_n dX0_reads_44 rfl ?_
      refine CC_X0_readsStatement (by decide) (by show ks + 30 ≤ 400 ∧ ns + 2000 ≤ 30000; omega) (Nat.le_of_ble_eq_true rfl) dX0_reads_45 ?_
      refine c_readsStatement hX1 ht hn0 hby h2 h4 h3  (fun s' m1 σ2 ad2 w2 A2 P2 => ?_) (fun p m1 σ2 w2 T2 => ?_)
      · refine J_ri ?_
        have hok := mOne_ok h4 m1
        have hcc := mOne_c h4 m1
        have hX2 := hX1.w w2
        refine J_if_ne_y (tgt := 56) dX0_reads_48 (by decide) (by decide) ?_
        refine J_aload_n dX0_reads_56 rfl ?_
        refine CC_X0_skips (by decide) (by show ks + 30 + 0 ≤ 400 ∧ ns + 2000 + 0 ≤ 30000; omega) (Nat.le_of_ble_eq_true rfl) dX0_reads_57 ?_
        refine c_skips ht hn0 hby _ s'.1 _ hX2 A2 hok.1.1 (fun σ3 e3 A3 T3 => ?_) (Nat.lt_succ_self _)
        refine J_rv ?_
        refine J_goto (tgt := 35) dX0_reads_60 (by decide) ?_
        have hsk : s'.1 ≤ sk b n0 s'.1 ∧ sk b n0 s'.1 ≤ n0 := sc_b hok.1.1
        exact ih (sk b n0 s'.1, s'.2) ad2 (c + 1) (ks + 30) (ns + 2000) σ3 ((h1.trans w2).trans (e3.w.mono (by decide))) A3 (cPr.q (s := s') P2 e3 (by decide) (by decide) (by decide) (by decide)) ⟨hsk.2, hok.1.2⟩ ⟨Nat.le_trans (by omega) hcc, by omega, by omega⟩ (h6.trans (mPs_s (by omega) m1)) (by show n0 - sk b n0 s'.1 < n; omega)
      · refine J_ri ?_
        refine J_if_ne_n (tgt := 56) dX0_reads_48 (by decide) (by decide) ?_
        refine J_aload_n dX0_reads_51 rfl ?_
        refine CG_tokenAt dX0_reads_52 ?_
        refine J_top (zI (p)) T2 ?_
        exact J_iret rfl dX0_reads_55 (by exact q0 p (mRead_e (h6.trans (mPs_e (by omega) m1))) σ2 (h1.trans w2))
theorem c_reads {E : jEnv} {α : Nat → Nat} {σ : cS} {Q : Option Value → cS → Prop} {t n0 ad0 : Nat} {b : Nat → Int} {f : Nat → Int32}  (ht : t < 4) (hn0 : n0 ≤ 120) (hby : ∀ i, i < n0 → -128 ≤ b i ∧ b i ≤ 127) (r2 : σ.tx t = some (ad0, n0, f)) (hf : ∀ i, i < n0 → f i = zI (b i)) (hd : ∀ j, σ.d j = none) (q0 : ∀ p, mRead b n0 = .error p → ∀ σ1, cW [12, 13, 14, 15, 16, 17, 18] (cRd σ (some ad0)) σ1 → Q (some (.int (zI (p : Nat)))) σ1) (q1 : ∀ s', mRead b n0 = .ok s' → ∀ σ1 ad', cW [12, 13, 14, 15, 16, 17, 18] (cRd σ (some ad0)) σ1 → cPr s' ad' σ1 → pOK n0 s' → Q (some (.int (zI (-9)))) σ1)  : jX0_reads E α 0 [some (.ref (α 0)), some (.ref ad0)] [] σ Q := by
  refine J_aload_n dX0_reads_0 rfl ?_
  refine J_aload_n dX0_reads_1 rfl ?_
  refine CP_reading dX0_reads_2 ?_
  refine J_aload_n dX0_reads_5 rfl ?_
  refine J_iconst (zI 0) dX0_reads_6 rfl ?_
  refine CP_readAt dX0_reads_7 ?_
  refine J_aload_n dX0_reads_10 rfl ?_
  refine J_iconst (zI 0) dX0_reads_11 rfl ?_
  refine CP_readMany dX0_reads_12 ?_
  refine J_aload_n dX0_reads_15 rfl ?_
  refine J_iconst (zI 0) dX0_reads_16 rfl ?_
  refine CP_readWide dX0_reads_17 ?_
  refine J_aload_n dX0_reads_20 rfl ?_
  refine J_iconst (zI 0) dX0_reads_21 rfl ?_
  refine CP_readHigh dX0_reads_22 ?_
  refine J_aload_n dX0_reads_25 rfl ?_
  refine J_bipush (zI (-9)) dX0_reads_26 rfl ?_
  refine CP_readBleed dX0_reads_28 ?_
  refine J_aload_n dX0_reads_31 rfl ?_
  refine CC_X0_skips (by decide) (by decide) (Nat.le_of_ble_eq_true rfl) dX0_reads_32 ?_
  refine c_skips ht hn0 hby _ 0 _ ⟨ad0, f, rfl, r2, hf⟩ rfl (Nat.zero_le _) (fun σ1 e1 A1 T1 => ?_) (Nat.lt_succ_self _)
  refine J_rv ?_
  have hsk : 0 ≤ sk b n0 0 ∧ sk b n0 0 ≤ n0 := sc_b (Nat.zero_le _)
  refine cl_reads35 (σ := (cRd σ (some ad0))) ⟨ad0, f, rfl, r2, hf⟩ ht hn0 hby r2 q0 q1 (n0 + 1) (sk b n0 0, 0, 0, -1, 0, fun _ _ => 0) (fun _ => 0) 0 _ _ σ1 ?_ A1 ?_ ⟨hsk.2, Nat.zero_le _, Or.inl ⟨rfl, rfl, rfl⟩, by show (-1 : Int) ≤ -1; omega, by show (-1 : Int) ≤ 2; omega, fun g hg => absurd hg (Nat.not_lt_zero _)⟩ ⟨Nat.zero_le _, rfl, rfl⟩ rfl (by show n0 - sk b n0 0 < n0 + 1; omega)
  · exact (cW.sI (cW.sI (cW.sI (cW.sI (cW.sI (I := [12, 13, 14, 15, 16, 17, 18]) (a := (cRd σ (some ad0))) (b := (cRd σ (some ad0))) ⟨fun _ _ => rfl, rfl, rfl, rfl, rfl, rfl, rfl, rfl, rfl⟩ (by decide)) (by decide)) (by decide)) (by decide)) (by decide)).trans (e1.w.mono (by decide))
  · refine cPr.q (σ := cI (cI (cI (cI (cI (cRd σ (some ad0)) 12 (zI 0)) 15 (zI 0)) 16 (zI 0)) 17 (zI 0)) 18 (zI (-9))) ⟨rfl, rfl, rfl, rfl, fun g hg => absurd hg (Nat.not_lt_zero _), fun j _ => hd j⟩ e1 (by decide) (by decide) (by decide) (by decide)
theorem c_fault_bad {E : jEnv} {α : Nat → Nat} {σ : cS} {Q : Option Value → cS → Prop} {v : Int} (rv : zR v) (hv : ¬ (0 ≤ v ∧ v ≤ 3)) (hq : Q (some (.int (zI (-1)))) σ) : jX0_fault E α 0 [some (.ref (α 0)), some (.int (zI (v)))] [] σ Q := by
  refine J_iload_n dX0_fault_0 rfl ?_
  refine CC_X0_isText (by decide) (by decide) (Nat.le_of_ble_eq_true rfl) dX0_fault_1 ?_
  refine c_isText (by unfold zR at *; omega) (fun b1 => ?_) (fun b1 => ?_)
  · exfalso; omega
  · refine J_ri ?_
    refine J_if_ne_n (tgt := 9) dX0_fault_4 (by decide) (by decide) ?_
    refine J_iconst (zI (-1)) dX0_fault_7 rfl ?_
    exact J_iret rfl dX0_fault_8 (by exact hq)
theorem c_fault_no {E : jEnv} {α : Nat → Nat} {σ : cS} {Q : Option Value → cS → Prop} {rs : Nat → Int} {rd : Nat → Nat → Int32} {ts : Nat → Int} {tb : Nat → Nat → Int} {r : Nat} (hDt : cDt rs rd ts tb σ) (hr : r < 4) (h0 : ts r = -1) (hq : Q (some (.int (zI (-3)))) (cAr (cI σ 0 (zI 1)) 1 (upd (σ.a 1) 1 (σ.a 1 1 + zI 1)))) : jX0_fault E α 0 [some (.ref (α 0)), some (.int (zI (r : Nat)))] [] σ Q := by
  have hn : σ.tx r = none := by
    rcases hDt.2 r hr with z | ⟨a, N, g, z2, z3, z4⟩
    · exact z.2
    · omega
  refine J_iload_n dX0_fault_0 rfl ?_
  refine CC_X0_isText (by decide) (by decide) (Nat.le_of_ble_eq_true rfl) dX0_fault_1 ?_
  refine c_isText (by unfold zR at *; omega) (fun b1 => ?_) (fun b1 => ?_)
  · refine J_ri ?_
    refine J_if_ne_y (tgt := 9) dX0_fault_4 (by decide) (by decide) ?_
    refine J_aload_n dX0_fault_9 rfl ?_
    refine CG_texts dX0_fault_10 ?_
    refine J_iload_n dX0_fault_13 rfl ?_
    refine CA_txN hn (by omega) (by omega) dX0_fault_14 ?_
    refine J_ifnonnullN dX0_fault_15 ?_
    refine J_aload_n dX0_fault_18 rfl ?_
    refine J_iconst (zI 1) dX0_fault_19 rfl ?_
    refine CC_X0_found (by decide) (by decide) (Nat.le_of_ble_eq_true rfl) dX0_fault_20 ?_
    refine c_found (m := _) (by decide) ?_
    refine J_ri ?_
    refine J_goto (tgt := 36) dX0_fault_23 (by decide) ?_
    exact J_iret rfl dX0_fault_36 (by exact hq)
  · exfalso; omega
/-- what a reading changes in the end -/
def cF (σ σ' : cS) : Prop := (∀ k, k ∉ [12, 13, 14, 15, 16, 17, 18] → σ'.i k = σ.i k) ∧ σ'.a = σ.a ∧ σ'.h = σ.h ∧ σ'.ro = σ.ro ∧ σ'.tx = σ.tx ∧ σ'.fr = σ.fr ∧ σ'.kp = σ.kp ∧ σ'.ru = σ.ru ∧ ∀ j, σ'.d j = none
theorem cW.f {σ σ' : cS} {x : Option Nat} (h : cW [12, 13, 14, 15, 16, 17, 18] (cRd σ x) σ') : cF σ (cD0 σ') := ⟨h.1, h.2.1, h.2.2.1, h.2.2.2.1, h.2.2.2.2.1, h.2.2.2.2.2.1, h.2.2.2.2.2.2.1, h.2.2.2.2.2.2.2.1, fun _ => rfl⟩
theorem c_fault {E : jEnv} {α : Nat → Nat} {σ : cS} {Q : Option Value → cS → Prop} {rs : Nat → Int} {rd : Nat → Nat → Int32} {ts : Nat → Int} {tb : Nat → Nat → Int} {r n0 : Nat} (hDt : cDt rs rd ts tb σ) (hDo : dtOK rs ts tb) (hr : r < 4) (h0 : ts r = n0) (hd : ∀ j, σ.d j = none) (q0 : ∀ p, mRead (tb r) n0 = .error p → ∀ σ1, cF σ σ1 → Q (some (.int (zI (p : Nat)))) σ1) (q1 : ∀ s', mRead (tb r) n0 = .ok s' → ∀ σ1, cF σ σ1 → Q (some (.int (zI (-9)))) σ1)  : jX0_fault E α 0 [some (.ref (α 0)), some (.int (zI (r : Nat)))] [] σ Q := by
  obtain ⟨a, N, g, hx, hN, hN4, hg⟩ : ∃ a N f, σ.tx r = some (a, N, f) ∧ ts r = (N : Nat) ∧ N ≤ 120 ∧ ∀ i, i < N → f i = zI (tb r i) := by
    rcases hDt.2 r hr with z | z
    · omega
    · exact z
  obtain rfl : N = n0 := by omega
  refine J_iload_n dX0_fault_0 rfl ?_
  refine CC_X0_isText (by decide) (by decide) (Nat.le_of_ble_eq_true rfl) dX0_fault_1 ?_
  refine c_isText (by unfold zR at *; omega) (fun b1 => ?_) (fun b1 => ?_)
  · refine J_ri ?_
    refine J_if_ne_y (tgt := 9) dX0_fault_4 (by decide) (by decide) ?_
    refine J_aload_n dX0_fault_9 rfl ?_
    refine CG_texts dX0_fault_10 ?_
    refine J_iload_n dX0_fault_13 rfl ?_
    refine CA_tx hx (by omega) (by omega) dX0_fault_14 ?_
    refine J_ifnonnull (tgt := 26) dX0_fault_15 (by decide) ?_
    refine J_aload_n dX0_fault_26 rfl ?_
    refine J_aload_n dX0_fault_27 rfl ?_
    refine CG_texts dX0_fault_28 ?_
    refine J_iload_n dX0_fault_31 rfl ?_
    refine CA_tx hx (by omega) (by omega) dX0_fault_32 ?_
    refine CC_X0_reads (by decide) (by decide) (Nat.le_of_ble_eq_true rfl) dX0_fault_33 ?_
    refine c_reads hr hN4 (fun i _ => hDo.2.2 r i) hx hg hd  (fun p hm σ1 w1 => ?_) (fun s' hm σ1 ad1 w1 P1 hp => ?_)
    · refine J_ri ?_
      refine J_dropA ?_
      exact J_iret rfl dX0_fault_36 (by exact q0 p hm _ w1.f)
    · refine J_ri ?_
      refine J_dropA ?_
      exact J_iret rfl dX0_fault_36 (by exact q1 s' hm _ w1.f)
  · exfalso; omega
