set_option maxRecDepth 100000
/-! the law: its loop, its entry -/
theorem L_tail {E : jEnv} {α β : Nat → Nat} {b n0 t ks ns : Nat} {xs : Nat → Int32} {s : cS × tS} (ht : t ≤ 100) (kk : LJ E α β b n0 xs ks ns 18 (6 * (t + 1)) s) : LJ E α β b n0 xs ks ns 1147 (6 * t) s := by
  refine J_iinc_z (((6 * (t + 1)) : Nat) : Int) (by omega) dL_law_1147 rfl rfl (by decide) _ rfl ?_
  refine J_goto (tgt := 18) dL_law_1150 (by decide) ?_
  exact kk
theorem L_loop {E : jEnv} {α β : Nat → Nat} {b n0 : Nat} {xs : Nat → Int32} (hn : n0 ≤ 384) : ∀ (f t ks ns : Nat) (σ : cS) (τ : tS), Inv σ τ → 6 * t ≤ n0 + 6 → ks ≤ 100 + 600 * t → ns ≤ 30000 + 32000 * t → n0 + 6 - 6 * t < f → LJ E α β b n0 xs ks ns 18 (6 * t) (σ, τ) := by
  intro f
  induction f with
  | zero => intro t ks ns σ τ _ _ _ _ h; exact absurd h (Nat.not_lt_zero _)
  | succ f ih =>
    intro t ks ns σ τ h ht hks hns hf
    refine J_iload_n dL_law_18 rfl ?_
    refine J_aload_n dL_law_19 rfl ?_
    refine J_slen dL_law_20 (by omega) ?_
    refine J_bipush (zI 6) dL_law_21 rfl ?_
    refine J_isub_z dL_law_23 ?_
    refine J_icmp_gt_z (tgt := 1153) dL_law_24 (by decide) (by unfold zR; omega) (by unfold zR; omega) (fun c24 => ?_) (fun c24 => ?_)
    · refine J_iconst (zI 1) dL_law_1153 rfl ?_
      exact J_zret rfl dL_law_1154 rfl rfl
    · have hi : 6 * t + 6 ≤ n0 := by omega
      have hkn : ks ≤ 50000 ∧ ns ≤ 3000000 := by omega
      refine J_aload_n dL_law_27 rfl ?_
      refine J_iload_n dL_law_28 rfl ?_
      refine J_sld (6 * t) rfl (by omega) (by omega) dL_law_29 ?_
      refine J_bipush (zI 63) dL_law_30 rfl ?_
      refine J_iand dL_law_32 ?_
      generalize xs (6 * t) &&& zI 63 = v
      by_cases hv : 0 ≤ v.toInt ∧ v.toInt ≤ 33
      · have e0 : v = zI v.toInt := (Int32.ofInt_toInt v).symm
        obtain hc | hc | hc | hc | hc | hc | hc | hc | hc | hc | hc | hc | hc | hc | hc | hc | hc | hc | hc | hc | hc | hc | hc | hc | hc | hc | hc | hc | hc | hc | hc | hc | hc | hc : v.toInt = 0 ∨ v.toInt = 1 ∨ v.toInt = 2 ∨ v.toInt = 3 ∨ v.toInt = 4 ∨ v.toInt = 5 ∨ v.toInt = 6 ∨ v.toInt = 7 ∨ v.toInt = 8 ∨ v.toInt = 9 ∨ v.toInt = 10 ∨ v.toInt = 11 ∨ v.toInt = 12 ∨ v.toInt = 13 ∨ v.toInt = 14 ∨ v.toInt = 15 ∨ v.toInt = 16 ∨ v.toInt = 17 ∨ v.toInt = 18 ∨ v.toInt = 19 ∨ v.toInt = 20 ∨ v.toInt = 21 ∨ v.toInt = 22 ∨ v.toInt = 23 ∨ v.toInt = 24 ∨ v.toInt = 25 ∨ v.toInt = 26 ∨ v.toInt = 27 ∨ v.toInt = 28 ∨ v.toInt = 29 ∨ v.toInt = 30 ∨ v.toInt = 31 ∨ v.toInt = 32 ∨ v.toInt = 33 := by omega
        · rw [e0, hc]
          refine J_tableIn (tgt := 184) (151) dL_law_33 (by decide) (by decide) rfl (by decide) ?_
          exact L_row h hi hn hkn (fun σ' τ' h' => L_tail (by omega) (ih (t + 1) (ks + 12) (ns + 400) σ' τ' h' (by omega) (by omega) (by omega) (by omega)))
        · rw [e0, hc]
          refine J_tableIn (tgt := 217) (184) dL_law_33 (by decide) (by decide) rfl (by decide) ?_
          exact L_lay h hi hn hkn (fun σ' τ' h' => L_tail (by omega) (ih (t + 1) (ks + 12) (ns + 400) σ' τ' h' (by omega) (by omega) (by omega) (by omega)))
        · rw [e0, hc]
          refine J_tableIn (tgt := 260) (227) dL_law_33 (by decide) (by decide) rfl (by decide) ?_
          exact L_at h hi hn hkn (fun σ' τ' h' => L_tail (by omega) (ih (t + 1) (ks + 12) (ns + 400) σ' τ' h' (by omega) (by omega) (by omega) (by omega)))
        · rw [e0, hc]
          refine J_tableIn (tgt := 293) (260) dL_law_33 (by decide) (by decide) rfl (by decide) ?_
          exact L_tear h hi hn hkn (fun σ' τ' h' => L_tail (by omega) (ih (t + 1) (ks + 0) (ns + 0) σ' τ' h' (by omega) (by omega) (by omega) (by omega)))
        · rw [e0, hc]
          refine J_tableIn (tgt := 316) (283) dL_law_33 (by decide) (by decide) rfl (by decide) ?_
          exact L_copy h hi hn hkn (fun σ' τ' h' => L_tail (by omega) (ih (t + 1) (ks + 12) (ns + 400) σ' τ' h' (by omega) (by omega) (by omega) (by omega)))
        · rw [e0, hc]
          refine J_tableIn (tgt := 379) (346) dL_law_33 (by decide) (by decide) rfl (by decide) ?_
          exact L_mean h hi hn hkn (fun σ' τ' h' => L_tail (by omega) (ih (t + 1) (ks + 12) (ns + 400) σ' τ' h' (by omega) (by omega) (by omega) (by omega)))
        · rw [e0, hc]
          refine J_tableIn (tgt := 402) (369) dL_law_33 (by decide) (by decide) rfl (by decide) ?_
          exact L_text h hi hn hkn (fun σ' τ' h' => L_tail (by omega) (ih (t + 1) (ks + 12) (ns + 400) σ' τ' h' (by omega) (by omega) (by omega) (by omega)))
        · rw [e0, hc]
          refine J_tableIn (tgt := 435) (402) dL_law_33 (by decide) (by decide) rfl (by decide) ?_
          exact L_put h hi hn hkn (fun σ' τ' h' => L_tail (by omega) (ih (t + 1) (ks + 12) (ns + 400) σ' τ' h' (by omega) (by omega) (by omega) (by omega)))
        · rw [e0, hc]
          refine J_tableIn (tgt := 478) (445) dL_law_33 (by decide) (by decide) rfl (by decide) ?_
          exact L_fault h hi hn hkn (fun σ' τ' h' => L_tail (by omega) (ih (t + 1) (ks + 500) (ns + 31000) σ' τ' h' (by omega) (by omega) (by omega) (by omega)))
        · rw [e0, hc]
          refine J_tableIn (tgt := 501) (468) dL_law_33 (by decide) (by decide) rfl (by decide) ?_
          exact L_sheet h hi hn hkn (fun σ' τ' h' => L_tail (by omega) (ih (t + 1) (ks + 501) (ns + 31000) σ' τ' h' (by omega) (by omega) (by omega) (by omega)))
        · rw [e0, hc]
          refine J_tableIn (tgt := 524) (491) dL_law_33 (by decide) (by decide) rfl (by decide) ?_
          exact L_write h hi hn hkn (fun σ' τ' h' => L_tail (by omega) (ih (t + 1) (ks + 400) (ns + 20000) σ' τ' h' (by omega) (by omega) (by omega) (by omega)))
        · rw [e0, hc]
          refine J_tableIn (tgt := 547) (514) dL_law_33 (by decide) (by decide) rfl (by decide) ?_
          exact L_frame h hi hn hkn (fun σ' τ' h' => L_tail (by omega) (ih (t + 1) (ks + 0) (ns + 0) σ' τ' h' (by omega) (by omega) (by omega) (by omega)))
        · rw [e0, hc]
          refine J_tableIn (tgt := 580) (547) dL_law_33 (by decide) (by decide) rfl (by decide) ?_
          exact L_place h hi hn hkn (fun σ' τ' h' => L_tail (by omega) (ih (t + 1) (ks + 0) (ns + 0) σ' τ' h' (by omega) (by omega) (by omega) (by omega)))
        · rw [e0, hc]
          refine J_tableIn (tgt := 613) (580) dL_law_33 (by decide) (by decide) rfl (by decide) ?_
          exact L_mark h hi hn hkn (fun σ' τ' h' => L_tail (by omega) (ih (t + 1) (ks + 12) (ns + 1100) σ' τ' h' (by omega) (by omega) (by omega) (by omega)))
        · rw [e0, hc]
          refine J_tableIn (tgt := 646) (613) dL_law_33 (by decide) (by decide) rfl (by decide) ?_
          exact L_set h hi hn hkn (fun σ' τ' h' => L_tail (by omega) (ih (t + 1) (ks + 0) (ns + 0) σ' τ' h' (by omega) (by omega) (by omega) (by omega)))
        · rw [e0, hc]
          refine J_tableIn (tgt := 669) (636) dL_law_33 (by decide) (by decide) rfl (by decide) ?_
          exact L_lift h hi hn hkn (fun σ' τ' h' => L_tail (by omega) (ih (t + 1) (ks + 0) (ns + 0) σ' τ' h' (by omega) (by omega) (by omega) (by omega)))
        · rw [e0, hc]
          refine J_tableIn (tgt := 692) (659) dL_law_33 (by decide) (by decide) rfl (by decide) ?_
          exact L_all h hi hn hkn (fun σ' τ' h' => L_tail (by omega) (ih (t + 1) (ks + 0) (ns + 0) σ' τ' h' (by omega) (by omega) (by omega) (by omega)))
        · rw [e0, hc]
          refine J_tableIn (tgt := 715) (682) dL_law_33 (by decide) (by decide) rfl (by decide) ?_
          exact L_rule h hi hn hkn (fun σ' τ' h' => L_tail (by omega) (ih (t + 1) (ks + 1) (ns + 0) σ' τ' h' (by omega) (by omega) (by omega) (by omega)))
        · rw [e0, hc]
          refine J_tableIn (tgt := 738) (705) dL_law_33 (by decide) (by decide) rfl (by decide) ?_
          exact L_undo h hi hn hkn (fun σ' τ' h' => L_tail (by omega) (ih (t + 1) (ks + 1) (ns + 0) σ' τ' h' (by omega) (by omega) (by omega) (by omega)))
        · rw [e0, hc]
          refine J_tableIn (tgt := 761) (728) dL_law_33 (by decide) (by decide) rfl (by decide) ?_
          exact L_keep h hi hn hkn (fun σ' τ' h' => L_tail (by omega) (ih (t + 1) (ks + 3) (ns + 1356) σ' τ' h' (by omega) (by omega) (by omega) (by omega)))
        · rw [e0, hc]
          refine J_tableIn (tgt := 784) (751) dL_law_33 (by decide) (by decide) rfl (by decide) ?_
          exact L_on h hi hn hkn (fun σ' τ' h' => L_tail (by omega) (ih (t + 1) (ks + 1) (ns + 0) σ' τ' h' (by omega) (by omega) (by omega) (by omega)))
        · rw [e0, hc]
          refine J_tableIn (tgt := 807) (774) dL_law_33 (by decide) (by decide) rfl (by decide) ?_
          exact L_free h hi hn hkn (fun σ' τ' h' => L_tail (by omega) (ih (t + 1) (ks + 0) (ns + 0) σ' τ' h' (by omega) (by omega) (by omega) (by omega)))
        · rw [e0, hc]
          refine J_tableIn (tgt := 850) (817) dL_law_33 (by decide) (by decide) rfl (by decide) ?_
          exact L_seen h hi hn hkn (fun σ' τ' h' => L_tail (by omega) (ih (t + 1) (ks + 0) (ns + 0) σ' τ' h' (by omega) (by omega) (by omega) (by omega)))
        · rw [e0, hc]
          refine J_tableIn (tgt := 893) (860) dL_law_33 (by decide) (by decide) rfl (by decide) ?_
          exact L_point h hi hn hkn (fun σ' τ' h' => L_tail (by omega) (ih (t + 1) (ks + 0) (ns + 0) σ' τ' h' (by omega) (by omega) (by omega) (by omega)))
        · rw [e0, hc]
          refine J_tableIn (tgt := 936) (903) dL_law_33 (by decide) (by decide) rfl (by decide) ?_
          exact L_used h hi hn hkn (fun σ' τ' h' => L_tail (by omega) (ih (t + 1) (ks + 0) (ns + 0) σ' τ' h' (by omega) (by omega) (by omega) (by omega)))
        · rw [e0, hc]
          refine J_tableIn (tgt := 959) (926) dL_law_33 (by decide) (by decide) rfl (by decide) ?_
          exact L_takes h hi hn hkn (fun σ' τ' h' => L_tail (by omega) (ih (t + 1) (ks + 0) (ns + 0) σ' τ' h' (by omega) (by omega) (by omega) (by omega)))
        · rw [e0, hc]
          refine J_tableIn (tgt := 982) (949) dL_law_33 (by decide) (by decide) rfl (by decide) ?_
          exact L_would h hi hn hkn (fun σ' τ' h' => L_tail (by omega) (ih (t + 1) (ks + 2) (ns + 0) σ' τ' h' (by omega) (by omega) (by omega) (by omega)))
        · rw [e0, hc]
          refine J_tableIn (tgt := 1015) (982) dL_law_33 (by decide) (by decide) rfl (by decide) ?_
          exact L_best h hi hn hkn (fun σ' τ' h' => L_tail (by omega) (ih (t + 1) (ks + 24) (ns + 0) σ' τ' h' (by omega) (by omega) (by omega) (by omega)))
        · rw [e0, hc]
          refine J_tableIn (tgt := 1028) (995) dL_law_33 (by decide) (by decide) rfl (by decide) ?_
          exact L_lots h hi hn hkn (fun σ' τ' h' => L_tail (by omega) (ih (t + 1) (ks + 20) (ns + 0) σ' τ' h' (by omega) (by omega) (by omega) (by omega)))
        · rw [e0, hc]
          refine J_tableIn (tgt := 1061) (1028) dL_law_33 (by decide) (by decide) rfl (by decide) ?_
          exact L_asked h hi hn hkn (fun σ' τ' h' => L_tail (by omega) (ih (t + 1) (ks + 0) (ns + 0) σ' τ' h' (by omega) (by omega) (by omega) (by omega)))
        · rw [e0, hc]
          refine J_tableIn (tgt := 1074) (1041) dL_law_33 (by decide) (by decide) rfl (by decide) ?_
          exact L_count h hi hn hkn (fun σ' τ' h' => L_tail (by omega) (ih (t + 1) (ks + 0) (ns + 0) σ' τ' h' (by omega) (by omega) (by omega) (by omega)))
        · rw [e0, hc]
          refine J_tableIn (tgt := 1097) (1064) dL_law_33 (by decide) (by decide) rfl (by decide) ?_
          exact L_finding h hi hn hkn (fun σ' τ' h' => L_tail (by omega) (ih (t + 1) (ks + 0) (ns + 0) σ' τ' h' (by omega) (by omega) (by omega) (by omega)))
        · rw [e0, hc]
          refine J_tableIn (tgt := 1110) (1077) dL_law_33 (by decide) (by decide) rfl (by decide) ?_
          exact L_findings h hi hn hkn (fun σ' τ' h' => L_tail (by omega) (ih (t + 1) (ks + 0) (ns + 0) σ' τ' h' (by omega) (by omega) (by omega) (by omega)))
        · rw [e0, hc]
          refine J_tableIn (tgt := 1133) (1100) dL_law_33 (by decide) (by decide) rfl (by decide) ?_
          exact L_digest h hi hn hkn (fun σ' τ' h' => L_tail (by omega) (ih (t + 1) (ks + 0) (ns + 0) σ' τ' h' (by omega) (by omega) (by omega) (by omega)))
      · refine J_tableOut (tgt := 1147) dL_law_33 (by omega) (by decide) ?_
        exact L_tail (by omega) (ih (t + 1) ks ns σ τ h (by omega) (by omega) (by omega) (by omega))
theorem wCP_0 {E : jEnv} {a0 : Nat} : j_up (fun _ => none) 0 (some (a0, .inr (1, cPV 0 (fun _ => 0) 0))) = wCP E a0 0 (fun _ => 0) 0 := by
  funext r
  by_cases z : r = 0
  · subst z; rfl
  · simp only [j_up, if_neg z]
    unfold wCP
    rw [if_neg z]
    by_cases y : r < 39
    · rw [if_pos y, if_neg (by omega)]
    · rw [if_neg y]
      by_cases x : r = 150
      · rw [if_pos x, if_neg (by omega)]
      · rw [if_neg x]
/-- the component alone, in the even roles -/
def wE (W : jW) : jW := fun r => if r % 2 = 0 then W (r / 2) else none
theorem wE_t {E : jEnv} {α β : Nat → Nat} {σ : cS} {τ : tS} {b0 : Nat} {V : Nat → Value} : j_mix (lIv 1) (j_up (wE (wC E α σ)) 1 (some (b0, .inr (0, V)))) (wT E β τ) = wL E α β (σ, τ) := by
  funext r
  unfold j_mix lIv wL
  by_cases z : r % 2 = 0
  · have z1 : ¬ r % 2 = 1 := by omega
    rw [if_neg z1, if_pos z]
    show (if r = 1 then _ else wE (wC E α σ) r) = _
    rw [if_neg (by omega)]
    unfold wE
    rw [if_pos z]
  · have z1 : r % 2 = 1 := by omega
    rw [if_pos z1, if_neg z]
theorem wE_p {E : jEnv} {W : jW} {b0 : Nat} : j_up (wE W) 1 (some (b0, .inr (0, tP b0 (fun _ => 0) 0))) = j_mix (lIv 1) (j_up (wE W) 1 (some (b0, .inr (0, tP b0 (fun _ => 0) 0)))) (wTP E b0 (fun _ => 0) 0) := by
  funext r
  unfold j_mix lIv
  by_cases z1 : r % 2 = 1
  · rw [if_pos z1]
    show (if r = 1 then _ else wE W r) = wTP E b0 (fun _ => 0) 0 (r / 2)
    by_cases z : r = 1
    · subst z; rfl
    · rw [if_neg z]
      unfold wE
      rw [if_neg (by omega)]
      obtain ⟨k, hk⟩ : ∃ k, r / 2 = k + 1 := ⟨r / 2 - 1, by omega⟩
      rw [hk]
      show none = if tK k = 1 ∧ k < 0 then _ else none
      rw [if_neg (by omega)]
  · rw [if_neg z1]
theorem J_wE {E : jEnv} {X : jX} {cc : ByteArray} {mL : Nat} {ret : Option FieldType} {own : String} {R : Room} {k n pc : Nat} {L : List (Option Value)} {st : List Value} {W : jW} {Q : Option Value → jW → Prop} (kk : J E wI X cc mL ret own R k n pc L st (wE W) Q) : J E wI X cc mL ret own R k n pc L st W Q := by
  have key : ∀ r x, wE W r = some x → W (r / 2) = some x ∧ r % 2 = 0 := by
    intro r x h
    unfold wE at h
    by_cases z : r % 2 = 0
    · rw [if_pos z] at h; exact ⟨h, z⟩
    · rw [if_neg z] at h; cases h
  refine J_apart fun ap => J_view (fun r x h => ⟨r / 2, (key r x h).1⟩) (fun r1 r2 a e1 e2 h1 h2 => ?_) kk
  obtain ⟨g1, m1⟩ := key r1 _ h1
  obtain ⟨g2, m2⟩ := key r2 _ h2
  have := ap _ _ _ _ _ g1 g2
  omega
theorem Inv_0 {ru : Nat} {τ : tS} (h : tIn τ) : Inv (cS0 ru) τ := by
  obtain ⟨h1, h2, h3, h4, h5, h6⟩ := h
  refine ⟨0, 0, 0, 0, fun _ _ => 0, fun _ _ => 0, 0, 0, fun _ => (P0, 0), fun _ => -1, fun _ _ => (P0, 0), fun _ => (P0, 0), fun _ => -1, fun _ _ => zI 0, fun _ => -1, fun _ _ => 0, fun _ => 0, fun _ _ => 0, ?_, ?_, ?_, ?_⟩
  · refine ⟨⟨by decide, by decide, by decide, by decide, by decide, fun z => absurd z (by decide), by decide, by decide, fun f hf => absurd hf (Nat.not_lt_zero _)⟩, ⟨⟨⟨fun f hf => absurd hf (Nat.not_lt_zero _), by decide, by decide⟩, fun f hf => absurd hf (Nat.not_lt_zero _)⟩, fun f hf => absurd hf (Nat.not_lt_zero _), fun f g hf => absurd hf (Nat.not_lt_zero _)⟩, by decide, fun d hd => absurd hd (Nat.not_lt_zero _), fun k hk => ⟨⟨(by decide : (-1 : Int) ≤ -1), (by decide : (-1 : Int) ≤ 40)⟩, fun z => absurd z (by decide : ¬ (0 : Int) ≤ -1)⟩, ⟨fun r hr => ⟨(by decide : (-1 : Int) ≤ -1), (by decide : (-1 : Int) ≤ 40)⟩, fun r hr => ⟨(by decide : (-1 : Int) ≤ -1), (by decide : (-1 : Int) ≤ 120)⟩, fun t i => ⟨(by decide : (-128 : Int) ≤ 0), (by decide : (0 : Int) ≤ 127)⟩⟩⟩
  · exact ⟨⟨rfl, rfl, rfl, rfl, fun f hf => absurd hf (Nat.not_lt_zero _)⟩, fun f hf => absurd hf (Nat.not_lt_zero _), ⟨(by decide : 0 < 4), rfl⟩, ⟨rfl, fun d hd => absurd hd (Nat.not_lt_zero _)⟩, fun k hk => Or.inl ⟨rfl, rfl⟩, ⟨fun r hr => Or.inl ⟨rfl, rfl⟩, fun r hr => Or.inl ⟨rfl, rfl⟩⟩, fun j => rfl⟩
  · exact ⟨⟨h1 11, h1 8, h1 9, h1 10, fun f k hf => absurd hf (Nat.not_lt_zero _)⟩, ⟨fun f k hf hk => h2 23 (by decide) (by decide) (by decide) _, h2 23 (by decide) (by decide) (by decide) _⟩, ⟨h1 36, fun d hd => absurd hd (Nat.not_lt_zero _)⟩, fun k hk => ⟨h5 k hk, fun z => absurd z (by decide : ¬ (0 : Int) ≤ -1)⟩, ⟨h3, fun r i _ z => absurd z (by show ¬ ((i : Int) < -1); omega), h4, fun t i _ z => absurd z (by show ¬ ((i : Int) < -1); omega)⟩⟩
  · exact ⟨(h1 1).symm, (h1 0).symm, fun k k1 k2 => (h2 2 (by decide) (by decide) (by decide) k).symm⟩
theorem L_start {E : jEnv} {b n0 : Nat} {xs : Nat → Int32} (hn : n0 ≤ 384) : J E wI (xL E b n0 xs, none) cL_law 4 (some .boolean) "FrameSheetsLaw" room_1 0 0 0 [some (.ref b), none, none, none] [] (fun _ => none) (fun v _ => v = some (.int (zI 1))) := by
  refine J_new (σ' := fun a0 => j_up (fun _ => none) 0 (some (a0, .inr (1, cPV 0 (fun _ => 0) 0)))) (ci := 1) (N := 38) 0 tyX0 rfl in_X0 tyX0_ok q138 q139 q105 (by decide) (Nat.le_of_ble_eq_true rfl) (Nat.le_of_ble_eq_true rfl) (fun a0 => rfl) dL_law_0 (fun a0 => ?_)
  refine J_w (wCP_0 (E := E)) ?_
  refine J_dup dL_law_3 rfl ?_
  refine J_eI (y := yX0_init) (R' := (jR 3 14 3948)) [] 0 q140 q141 q105 q142 rfl (by decide +kernel) xL_1 ⟨Nat.le_of_ble_eq_true rfl, Nat.le_of_ble_eq_true rfl⟩ ⟨(Nat.le_of_ble_eq_true rfl), (Nat.le_of_ble_eq_true rfl)⟩ rfl (Nat.le_of_ble_eq_true rfl) dL_law_4 (JE.weak (fun A s h => h.1) (JE.of (X' := (cX E, some yX0_init)) (by decide +kernel) (Nat.le_of_ble_eq_true rfl) (fun z h => (Option.some.inj h).symm) (c_init (fun α ru hα => ?_))))
  subst hα
  refine J_rv ?_
  refine J_astore_n dL_law_7 rfl (by decide) _ rfl ?_
  refine J_wE ?_
  refine J_new (σ' := fun b0 => j_up (wE (wC E α (cS0 ru))) 1 (some (b0, .inr (0, tP b0 (fun _ => 0) 0)))) (ci := 0) (N := 45) 1 tyX2 rfl in_X2 tyX2_ok q1571 q1572 q107 (fs := tP 0 (fun _ => 0) 0) (by decide) (Nat.le_of_ble_eq_true rfl) (Nat.le_of_ble_eq_true rfl) (fun b0 => rfl) dL_law_8 (fun b0 => ?_)
  refine J_dup dL_law_11 rfl ?_
  refine J_eI (y := yX2_init) (R' := (jR 2 19 23096)) [] 0 q1573 q1574 q107 q1575 rfl (by decide +kernel) xL_1 ⟨Nat.le_of_ble_eq_true rfl, Nat.le_of_ble_eq_true rfl⟩ ⟨(Nat.le_of_ble_eq_true rfl), (Nat.le_of_ble_eq_true rfl)⟩ rfl (Nat.le_of_ble_eq_true rfl) dL_law_12 (JE.frame (lIv 1) (fun s => j_mix (lIv 1) (j_up (wE (wC E α (cS0 ru))) 1 (some (b0, .inr (0, tP b0 (fun _ => 0) 0)))) s) xL_1 wE_p (fun s => rfl) lIv_i (fun r2 x _ => ⟨2 * r2 + 1, by unfold lIv; rw [if_pos (by omega)]; congr 1; omega⟩) (JE.of (X' := (xL E b n0 xs, some yX2_init)) (by decide +kernel) (Nat.le_of_ble_eq_true rfl) (fun z h => (Option.some.inj h).symm) (t_init (α := fun _ => 0) (fun β τ hβ hτ => ?_))))
  subst hβ
  refine J_rv ?_
  refine J_w wE_t ?_
  refine J_fromW ?_
  refine J_astore_n dL_law_15 rfl (by decide) _ rfl ?_
  refine J_iconst (zI 0) dL_law_16 rfl ?_
  refine J_istore_n dL_law_17 rfl (by decide) _ rfl ?_
  exact L_loop hn _ 0 _ _ (cS0 ru) τ (Inv_0 hτ) (by omega) (Nat.le_of_ble_eq_true rfl) (Nat.le_of_ble_eq_true rfl) (Nat.lt_succ_self _)
