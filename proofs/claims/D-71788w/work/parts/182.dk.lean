set_option maxRecDepth 100000
/-! the component: readsFrame -/
/-- what a reading changes: ints I, the frames read, d -/
def cW (I : List Nat) (σ σ' : cS) : Prop := (∀ k, k ∉ I → σ'.i k = σ.i k) ∧ σ'.a = σ.a ∧ σ'.h = σ.h ∧ σ'.ro = σ.ro ∧ σ'.tx = σ.tx ∧ σ'.fr = σ.fr ∧ σ'.kp = σ.kp ∧ σ'.ru = σ.ru ∧ σ'.rd = σ.rd
theorem cQ.w {I : List Nat} {σ σ' : cS} (h : cQ I [] σ σ') : cW I σ σ' := ⟨h.1.1, funext fun j => h.1.2.1 j (by simp), h.1.2.2.1, h.1.2.2.2.1, h.1.2.2.2.2.1, h.2.1, h.1.2.2.2.2.2.2.1, h.2.2, h.1.2.2.2.2.2.2.2.1⟩
theorem cQ2.w {I : List Nat} {σ σ' : cS} (h : cQ2 I [] σ σ') : cW I σ σ' := cQ.w (σ' := cD σ' 2 (σ.d 2)) h
theorem cW.trans {I : List Nat} {a b c : cS} (h : cW I a b) (g : cW I b c) : cW I a c := ⟨fun k hk => (g.1 k hk).trans (h.1 k hk), g.2.1.trans h.2.1, g.2.2.1.trans h.2.2.1, g.2.2.2.1.trans h.2.2.2.1, g.2.2.2.2.1.trans h.2.2.2.2.1, g.2.2.2.2.2.1.trans h.2.2.2.2.2.1, g.2.2.2.2.2.2.1.trans h.2.2.2.2.2.2.1, g.2.2.2.2.2.2.2.1.trans h.2.2.2.2.2.2.2.1, g.2.2.2.2.2.2.2.2.trans h.2.2.2.2.2.2.2.2⟩
theorem cW.mono {I I' : List Nat} {a b : cS} (h : cW I a b) (hI : ∀ k ∈ I, k ∈ I') : cW I' a b := ⟨fun k hk => h.1 k (fun z => hk (hI k z)), h.2⟩
theorem cW.sI {I : List Nat} {a b : cS} (h : cW I a b) {k : Nat} {v : Int32} (hk : k ∈ I) : cW I a (cI b k v) := ⟨fun j hj => (by
  have e : (cI b k v).i j = b.i j := if_neg (fun z : j = k => hj (z ▸ hk))
  rw [e]; exact h.1 j hj), h.2⟩
theorem cRe.w {t n0 : Nat} {b : Nat → Int} {I : List Nat} {σ σ' : cS} (h : cRe t n0 b σ) (e : cW I σ σ') : cRe t n0 b σ' := h.up e.2.2.2.2.2.2.2.2 e.2.2.2.2.1
theorem c_readsFrame {E : jEnv} {α : Nat → Nat} {σ : cS} {Q : Option Value → cS → Prop} {t n0 a : Nat} {b : Nat → Int} {s : pS} {ad : Nat → Nat} {p0 : Nat} {kd : Int}  (hX : cRe t n0 b σ) (ht : t < 4) (hn0 : n0 ≤ 120) (hby : ∀ i, i < n0 → -128 ≤ b i ∧ b i ≤ 127) (hA : σ.i 12 = zI (a : Nat)) (ha : a ≤ n0) (hR : cPr s ad σ) (hm8 : s.2.2.2.2.1 < 8) (hkd : 0 ≤ kd ∧ kd ≤ 3) (h1 : ∀ s', mFrm b n0 kd p0 a s = .ok s' → ∀ σ1 ad', cW [12, 13, 14, 15, 16, 17, 18] σ σ1 → σ1.i 12 = zI (s'.1 : Nat) → cPr s' ad' σ1 → Q (some (.int (zI 1))) σ1) (h0 : ∀ p, mFrm b n0 kd p0 a s = .error p → ∀ σ1, cW [12, 13, 14, 15, 16, 17, 18] σ σ1 → σ1.i 13 = zI (p : Nat) → Q (some (.int (zI 0))) σ1)  : jX0_readsFrame E α 0 [some (.ref (α 0)), some (.int (zI (kd))), none, none] [] σ Q := by
  refine J_bipush (zI 6) dX0_readsFrame_0 rfl ?_
  refine J_newa_int (σ' := fun m6 => cD σ 2 (some (m6, .inl (E.2.2 0, 6, .inl (fun _ => zI 0))))) 202 6 q159 rfl (by decide) (by decide) (by decide) (fun m6 => wC_D 2 _) dX0_readsFrame_2 (fun m6 => ?_)
  refine J_astore_n dX0_readsFrame_4 rfl (by decide) _ rfl ?_
  refine J_iconst (zI 0) dX0_readsFrame_5 rfl ?_
  refine J_istore_n dX0_readsFrame_6 rfl (by decide) _ rfl ?_
  refine J_fg (L' := [some (.ref (α 0)), some (.int (zI (kd))), some (.ref m6), some (.int (zI ((0 : Nat))))]) (by repeat' constructor) ?_
  refine cl_readsFrame7 (a0 := a) hX ht hn0 hby (fun p hm σ1 c1 T1 => h0 p (mFrm_0 (by omega) hm) σ1 (c1.w.mono (by decide)) T1) (fun R e f hmk σ1 c1 D1 hf A1 hle => ?_) _ 0 a (fun _ => kd) (fun _ => zI 0) _ (by omega) cQ2.refl rfl (fun j hj => absurd hj (by omega)) hA ha rfl (fun j h1 h2 => absurd h1 (by omega)) (Nat.lt_succ_self _)
  have hX1 : cRe t n0 b σ1 := hX.w c1.w
  obtain ⟨-, -, hRk, hRr, -⟩ := mFrS_ok 6 1 a _ R e (by omega) ha hmk
  have hR0 : R 0 = kd := hRk 0 (by omega)
  refine J_aload_n dX0_readsFrame_81 rfl ?_
  refine CC_X0_readsEnd (by decide) (by decide) (Nat.le_of_ble_eq_true rfl) dX0_readsFrame_82 ?_
  refine c_readsEnd hX1 ht hn0 hby A1 hle  (fun e3 m3 σ2 q3 A3 => ?_) (fun p3 m3 σ2 q3 T3 => ?_)
  · refine J_ri ?_
    have M2 : σ2.i 15 = zI (s.2.2.2.2.1 : Nat) := (q3.1.1 15 (by decide)).trans ((c1.1.1 15 (by decide)).trans hR.2.2.2.1)
    have d2 : ∀ j, j ≠ 2 → σ2.d j = σ.d j := fun j hj => (congrFun q3.1.2.2.2.2.2.2.2.2 j).trans (c1.dd hj)
    have D2 : σ2.d 2 = some (m6, .inl (E.2.2 0, 6, .inl f)) := (congrFun q3.1.2.2.2.2.2.2.2.2 2).trans D1
    refine J_if_ne_y (tgt := 90) dX0_readsFrame_85 (by decide) (by decide) ?_
    refine J_aload_n dX0_readsFrame_90 rfl ?_
    refine CG_readFrames dX0_readsFrame_91 ?_
    refine J_aload_n dX0_readsFrame_94 rfl ?_
    refine CG_readMany dX0_readsFrame_95 ?_
    refine J_top (zI (s.2.2.2.2.1)) M2 ?_
    refine J_iload_n dX0_readsFrame_98 rfl ?_
    refine J_aload_n dX0_readsFrame_99 rfl ?_
    refine CC_X0_newFrame (by decide) (by decide) (Nat.le_of_ble_eq_true rfl) dX0_readsFrame_100 ?_
    rw [show zI kd = zI (R 0) from congrArg zI hR0.symm]
    refine c_newFrame (g := R) (by omega) ((d2 1 (by decide)).trans (hR.2.2.2.2.2 1 (by omega))) D2 hf (fun a9 => ?_)
    refine J_ra ?_
    refine CA_rfS (m := s.2.2.2.2.1) (g := R) hm8 rfl (by omega) rfl dX0_readsFrame_103 ?_
    refine J_aload_n dX0_readsFrame_104 rfl ?_
    refine J_dup dX0_readsFrame_105 rfl ?_
    refine CG_readMany dX0_readsFrame_106 ?_
    refine J_top (zI (s.2.2.2.2.1)) M2 ?_
    refine J_iconst (zI 1) dX0_readsFrame_109 rfl ?_
    refine J_iadd_z dX0_readsFrame_110 ?_
    refine CP_readMany dX0_readsFrame_111 ?_
    refine J_iconst (zI 1) dX0_readsFrame_114 rfl ?_
    refine J_zret rfl dX0_readsFrame_115 rfl ?_
    refine h1 _ (mFrm_2 (by omega) hmk m3) _ (fun x => if x = s.2.2.2.2.1 then a9 else ad x) ?_ A3 ?_
    · have w1 : cW [12, 13, 14, 15, 16, 17, 18] σ σ2 := (c1.w.trans (q3.mono (by decide) (by decide)).w).mono (by decide)
      exact cW.sI ⟨w1.1, w1.2⟩ (by decide)
    · have k1 : ∀ k, k ∉ [12, 13, 14] → σ2.i k = σ.i k := fun k hk => (q3.1.1 k (fun z => hk (by revert z; simp only [List.mem_cons, List.not_mem_nil, or_false]; omega))).trans (c1.1.1 k hk)
      refine ⟨(k1 16 (by decide)).trans hR.1, (k1 17 (by decide)).trans hR.2.1, (k1 18 (by decide)).trans hR.2.2.1, rfl, fun x hx => ?_, fun j hj => ?_⟩
      · have hx : x < s.2.2.2.2.1 + 1 := hx
        show (if x = s.2.2.2.2.1 then some a9 else σ2.rf x) = some (if x = s.2.2.2.2.1 then a9 else ad x) ∧ (if 10 + x = 10 + s.2.2.2.2.1 then some (a9, fC R frC0) else if 10 + x = 2 then none else if 10 + x = 0 then none else if 10 + x = 0 then some (a9, fC R frC0) else σ2.d (10 + x)) = some (if x = s.2.2.2.2.1 then a9 else ad x, fC (if x = s.2.2.2.2.1 then R else s.2.2.2.2.2 x) frC0)
        by_cases z : x = s.2.2.2.2.1
        · rw [if_pos z, if_pos z, if_pos (by omega), if_pos z]; exact ⟨rfl, rfl⟩
        · have r1 : σ2.rf = σ.rf := q3.1.2.2.2.2.2.1.trans c1.1.2.2.2.2.2.1
          have y := hR.2.2.2.2.1 x (by omega)
          rw [if_neg z, if_neg z, if_neg (by omega), if_neg (by omega), if_neg (by omega), if_neg (by omega), if_neg z, r1, d2 _ (by omega)]
          exact y
      · have hj : j < 10 ∨ 10 + (s.2.2.2.2.1 + 1) ≤ j := hj
        show (if j = 10 + s.2.2.2.2.1 then some (a9, fC R frC0) else if j = 2 then none else if j = 0 then none else if j = 0 then some (a9, fC R frC0) else σ2.d j) = none
        rw [if_neg (by omega)]
        by_cases z2 : j = 2
        · rw [if_pos z2]
        · rw [if_neg z2]
          by_cases z0 : j = 0
          · rw [if_pos z0]
          · rw [if_neg z0, if_neg z0, d2 _ z2]
            exact hR.2.2.2.2.2 j (by omega)
  · refine J_ri ?_
    refine J_if_ne_n (tgt := 90) dX0_readsFrame_85 (by decide) (by decide) ?_
    refine J_iconst (zI 0) dX0_readsFrame_88 rfl ?_
    exact J_zret rfl dX0_readsFrame_89 rfl (by exact h0 _ (mFrm_1 (by omega) hmk m3) σ2 ((c1.w.trans (q3.mono (by decide) (by decide)).w).mono (by decide)) T3)
