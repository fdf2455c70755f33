set_option maxRecDepth 100000
/-! the twin: write -/
def tOut (o : List Int) (σ : tS) : Prop := σ.1 24 = zI (o.length : Nat) ∧ ∀ i, i < o.length → i < 120 → σ.2.1 25 i = zI (o.getD i 0) ∧ -128 ≤ o.getD i 0 ∧ o.getD i 0 ≤ 127
theorem by8_s {z : Int} (h : -128 ≤ z ∧ z ≤ 127) : (zI z).toInt8.toInt32 = zI z := by
  have : ∀ k : Fin 256, (zI ((k.val : Int) - 128)).toInt8.toInt32 = zI ((k.val : Int) - 128) := by decide +kernel
  have h2 := this ⟨(z + 128).toNat, by omega⟩
  have e : (((z + 128).toNat : Nat) : Int) - 128 = z := by omega
  simp only [e] at h2
  exact h2
theorem tOut_1 {o : List Int} {σ : tS} {z : Int} {x : Int32} (h : tOut o σ) (hx : x = zI z) (hz : -128 ≤ z ∧ z ≤ 127) : tOut (o ++ [z]) (setI (setA σ 25 (upd (σ.2.1 25) o.length x)) 24 (zI ((o.length : Int) + 1))) := by
  refine ⟨by simp [setI], fun i hi h2 => ?_⟩
  have hi2 : i < o.length + 1 := by simpa using hi
  show upd (σ.2.1 25) o.length x i = _ ∧ _
  by_cases y : i = o.length
  · subst y
    rw [upd_s, hx]
    have e : (o ++ [z]).getD o.length 0 = z := by simp
    rw [e]
    exact ⟨rfl, hz⟩
  · have e : (o ++ [z]).getD i 0 = o.getD i 0 := by
      rw [List.getD_eq_getElem?_getD, List.getD_eq_getElem?_getD, List.getElem?_append_left (by omega)]
    rw [upd_n y, e]
    exact h.2 i (by omega) h2
theorem tOut_2 {o : List Int} {σ : tS} {z : Int} (h : tOut o σ) (hl : 120 ≤ o.length) : tOut (o ++ [z]) (setI σ 24 (zI ((o.length : Int) + 1))) := by
  refine ⟨by simp [setI], fun i hi h2 => ?_⟩
  have e : (o ++ [z]).getD i 0 = o.getD i 0 := by
    rw [List.getD_eq_getElem?_getD, List.getD_eq_getElem?_getD, List.getElem?_append_left (by omega)]
  show σ.2.1 25 i = _ ∧ _
  rw [e]
  exact h.2 i (by omega) h2
theorem t_writes {E : jEnv} {α : Nat → Nat} {σ : tS} {Q : Option Value → tS → Prop} {o : List Int} {z : Int} (hO : tOut o σ) (hz : -128 ≤ z ∧ z ≤ 127) (hl : o.length < 100000) (hq : ∀ σ1, tEq [24] [25] σ σ1 → tOut (o ++ [z]) σ1 → Q none σ1) : jX2_writes E α 0 [some (.ref (α 0)), some (.int (zI (z)))] [] σ Q := by
  refine J_aload_n dX2_writes_0 rfl ?_
  refine TG_outMany dX2_writes_1 ?_
  refine J_top (zI (o.length)) hO.1 ?_
  refine J_bipush (zI 120) dX2_writes_4 rfl ?_
  refine J_icmp_ge_z (tgt := 20) dX2_writes_6 (by decide) (by unfold zR; omega) (by unfold zR; omega) (fun c6 => ?_) (fun c6 => ?_)
  · skip
    refine J_aload_n dX2_writes_20 rfl ?_
    refine J_dup dX2_writes_21 rfl ?_
    refine TG_outMany dX2_writes_22 ?_
    refine J_top (zI (o.length)) hO.1 ?_
    refine J_iconst (zI 1) dX2_writes_25 rfl ?_
    refine J_iadd_z dX2_writes_26 ?_
    refine TP_outMany dX2_writes_27 ?_
    exact J_vret rfl dX2_writes_30 (by first | exact hq _ ((tEq.refl.sA (by decide)).sI (by decide)) (tOut_1 hO (by8_s hz) hz) | exact hq _ (tEq.refl.sI (by decide)) (tOut_2 hO (by omega)))
  · skip
    refine J_aload_n dX2_writes_9 rfl ?_
    refine TG_out dX2_writes_10 ?_
    refine J_aload_n dX2_writes_13 rfl ?_
    refine TG_outMany dX2_writes_14 ?_
    refine J_top (zI (o.length)) hO.1 ?_
    refine J_iload_n dX2_writes_17 rfl ?_
    refine J_i2b dX2_writes_18 ?_
    refine J_top (zI z) (by8_s hz) ?_
    refine TJ_bast 25 (o.length) ⟨rfl, rfl, by decide⟩ (by omega) (show o.length < 120 by omega) dX2_writes_19 ?_
    refine J_aload_n dX2_writes_20 rfl ?_
    refine J_dup dX2_writes_21 rfl ?_
    refine TG_outMany dX2_writes_22 ?_
    refine J_top (zI (o.length)) hO.1 ?_
    refine J_iconst (zI 1) dX2_writes_25 rfl ?_
    refine J_iadd_z dX2_writes_26 ?_
    refine TP_outMany dX2_writes_27 ?_
    exact J_vret rfl dX2_writes_30 (by first | exact hq _ ((tEq.refl.sA (by decide)).sI (by decide)) (tOut_1 hO (by8_s hz) hz) | exact hq _ (tEq.refl.sI (by decide)) (tOut_2 hO (by omega)))
theorem t_writesNumber {E : jEnv} {α : Nat → Nat} {σ : tS} {Q : Option Value → tS → Prop} {o : List Int} {v : Int} (hO : tOut o σ) (hv : 0 ≤ v ∧ v ≤ 99) (hl : o.length < 9999) (hq : ∀ σ1, tEq [24] [25] σ σ1 → tOut (o ++ mNo v) σ1 → Q none σ1) : jX2_writesNumber E α 0 [some (.ref (α 0)), some (.int (zI (v)))] [] σ Q := by
  have EE : tEq [24] [25] σ σ := tEq.refl
  refine J_aload_n dX2_writesNumber_0 rfl ?_
  refine J_bipush (zI 32) dX2_writesNumber_1 rfl ?_
  refine TC_X2_writes (by decide) (Nat.le_of_ble_eq_true rfl) dX2_writesNumber_3 ?_
  refine t_writes hO (by omega) (by first | omega | (simp only [List.length_append, List.length_cons, List.length_nil]; omega)) (fun σ1 e1 hO => ?_)
  have EE := EE.trans e1
  refine J_rv ?_
  refine J_iload_n dX2_writesNumber_6 rfl ?_
  refine J_bipush (zI 9) dX2_writesNumber_7 rfl ?_
  refine J_icmp_le_z (tgt := 23) dX2_writesNumber_9 (by decide) (by unfold zR; omega) (by unfold zR; omega) (fun c9 => ?_) (fun c9 => ?_)
  · skip
    refine J_aload_n dX2_writesNumber_23 rfl ?_
    refine J_bipush (zI 48) dX2_writesNumber_24 rfl ?_
    refine J_iload_n dX2_writesNumber_26 rfl ?_
    refine J_bipush (zI 10) dX2_writesNumber_27 rfl ?_
    refine J_irem_z dX2_writesNumber_29 (by unfold zR; omega) (by unfold zR; omega) (by omega) (by omega) ?_
    refine J_iadd_z dX2_writesNumber_30 ?_
    refine TC_X2_writes (by decide) (Nat.le_of_ble_eq_true rfl) dX2_writesNumber_31 ?_
    refine t_writes hO (by omega) (by first | omega | (simp only [List.length_append, List.length_cons, List.length_nil]; omega)) (fun σ1 e1 hO => ?_)
    have EE := EE.trans e1
    refine J_rv ?_
    exact J_vret rfl dX2_writesNumber_34 (by exact hq _ EE (by first | (rw [mNo, if_pos (by omega)]; simpa using hO) | (rw [mNo, if_neg (by omega)]; simpa using hO)))
  · skip
    refine J_aload_n dX2_writesNumber_12 rfl ?_
    refine J_bipush (zI 48) dX2_writesNumber_13 rfl ?_
    refine J_iload_n dX2_writesNumber_15 rfl ?_
    refine J_bipush (zI 10) dX2_writesNumber_16 rfl ?_
    refine J_idiv_z dX2_writesNumber_18 (by unfold zR; omega) (by unfold zR; omega) (by omega) (by omega) ?_
    refine J_iadd_z dX2_writesNumber_19 ?_
    refine TC_X2_writes (by decide) (Nat.le_of_ble_eq_true rfl) dX2_writesNumber_20 ?_
    refine t_writes hO (by omega) (by first | omega | (simp only [List.length_append, List.length_cons, List.length_nil]; omega)) (fun σ1 e1 hO => ?_)
    have EE := EE.trans e1
    refine J_rv ?_
    refine J_aload_n dX2_writesNumber_23 rfl ?_
    refine J_bipush (zI 48) dX2_writesNumber_24 rfl ?_
    refine J_iload_n dX2_writesNumber_26 rfl ?_
    refine J_bipush (zI 10) dX2_writesNumber_27 rfl ?_
    refine J_irem_z dX2_writesNumber_29 (by unfold zR; omega) (by unfold zR; omega) (by omega) (by omega) ?_
    refine J_iadd_z dX2_writesNumber_30 ?_
    refine TC_X2_writes (by decide) (Nat.le_of_ble_eq_true rfl) dX2_writesNumber_31 ?_
    refine t_writes hO (by omega) (by first | omega | (simp only [List.length_append, List.length_cons, List.length_nil]; omega)) (fun σ1 e1 hO => ?_)
    have EE := EE.trans e1
    refine J_rv ?_
    exact J_vret rfl dX2_writesNumber_34 (by exact hq _ EE (by first | (rw [mNo, if_pos (by omega)]; simpa using hO) | (rw [mNo, if_neg (by omega)]; simpa using hO)))
theorem t_writesWord_page {E : jEnv} {α : Nat → Nat} {σ : tS} {Q : Option Value → tS → Prop} {o : List Int} (hO : tOut o σ) (hl : o.length < 9999) (hq : ∀ σ1, tEq [24] [25] σ σ1 → tOut (o ++ [112, 97, 103, 101]) σ1 → Q none σ1) : jX2_writesWord E α 0 [some (.ref (α 0)), some (.int (zI 315851)), none] [] σ Q := by
  have EE : tEq [24] [25] σ σ := tEq.refl
  refine J_iconst (zI 1) dX2_writesWord_0 rfl ?_
  refine J_istore_n dX2_writesWord_1 rfl (by decide) _ rfl ?_
  refine J_iload_n dX2_writesWord_2 rfl ?_
  refine J_iload_n dX2_writesWord_3 rfl ?_
  refine J_idiv_z dX2_writesWord_4 (by unfold zR; omega) (by unfold zR; omega) (by omega) (by omega) ?_
  refine J_top (zI (315851)) rfl ?_
  refine J_bipush (zI 27) dX2_writesWord_5 rfl ?_
  refine J_icmp_lt_n (tgt := 18) dX2_writesWord_7 (by decide) (by decide) ?_
  refine J_iload_n dX2_writesWord_10 rfl ?_
  refine J_bipush (zI 27) dX2_writesWord_11 rfl ?_
  refine J_imul_z dX2_writesWord_13 ?_
  refine J_top (zI (27)) rfl ?_
  refine J_istore_n dX2_writesWord_14 rfl (by decide) _ rfl ?_
  refine J_goto (tgt := 2) dX2_writesWord_15 (by decide) ?_
  refine J_iload_n dX2_writesWord_2 rfl ?_
  refine J_iload_n dX2_writesWord_3 rfl ?_
  refine J_idiv_z dX2_writesWord_4 (by unfold zR; omega) (by unfold zR; omega) (by omega) (by omega) ?_
  refine J_top (zI (11698)) rfl ?_
  refine J_bipush (zI 27) dX2_writesWord_5 rfl ?_
  refine J_icmp_lt_n (tgt := 18) dX2_writesWord_7 (by decide) (by decide) ?_
  refine J_iload_n dX2_writesWord_10 rfl ?_
  refine J_bipush (zI 27) dX2_writesWord_11 rfl ?_
  refine J_imul_z dX2_writesWord_13 ?_
  refine J_top (zI (729)) rfl ?_
  refine J_istore_n dX2_writesWord_14 rfl (by decide) _ rfl ?_
  refine J_goto (tgt := 2) dX2_writesWord_15 (by decide) ?_
  refine J_iload_n dX2_writesWord_2 rfl ?_
  refine J_iload_n dX2_writesWord_3 rfl ?_
  refine J_idiv_z dX2_writesWord_4 (by unfold zR; omega) (by unfold zR; omega) (by omega) (by omega) ?_
  refine J_top (zI (433)) rfl ?_
  refine J_bipush (zI 27) dX2_writesWord_5 rfl ?_
  refine J_icmp_lt_n (tgt := 18) dX2_writesWord_7 (by decide) (by decide) ?_
  refine J_iload_n dX2_writesWord_10 rfl ?_
  refine J_bipush (zI 27) dX2_writesWord_11 rfl ?_
  refine J_imul_z dX2_writesWord_13 ?_
  refine J_top (zI (19683)) rfl ?_
  refine J_istore_n dX2_writesWord_14 rfl (by decide) _ rfl ?_
  refine J_goto (tgt := 2) dX2_writesWord_15 (by decide) ?_
  refine J_iload_n dX2_writesWord_2 rfl ?_
  refine J_iload_n dX2_writesWord_3 rfl ?_
  refine J_idiv_z dX2_writesWord_4 (by unfold zR; omega) (by unfold zR; omega) (by omega) (by omega) ?_
  refine J_top (zI (16)) rfl ?_
  refine J_bipush (zI 27) dX2_writesWord_5 rfl ?_
  refine J_icmp_lt_y (tgt := 18) dX2_writesWord_7 (by decide) (by decide) ?_
  refine J_iload_n dX2_writesWord_18 rfl ?_
  refine J_if_le_n (tgt := 43) dX2_writesWord_19 (by decide) (by decide) ?_
  refine J_aload_n dX2_writesWord_22 rfl ?_
  refine J_bipush (zI 96) dX2_writesWord_23 rfl ?_
  refine J_iload_n dX2_writesWord_25 rfl ?_
  refine J_iload_n dX2_writesWord_26 rfl ?_
  refine J_idiv_z dX2_writesWord_27 (by unfold zR; omega) (by unfold zR; omega) (by omega) (by omega) ?_
  refine J_top (zI (16)) rfl ?_
  refine J_bipush (zI 27) dX2_writesWord_28 rfl ?_
  refine J_irem_z dX2_writesWord_30 (by unfold zR; omega) (by unfold zR; omega) (by omega) (by omega) ?_
  refine J_top (zI (16)) rfl ?_
  refine J_iadd_z dX2_writesWord_31 ?_
  refine J_top (zI (112)) rfl ?_
  refine TC_X2_writes (by decide) (Nat.le_of_ble_eq_true rfl) dX2_writesWord_32 ?_
  refine t_writes hO (by omega) (by first | omega | (simp only [List.length_append, List.length_cons, List.length_nil]; omega)) (fun σ1 e1 hO => ?_)
  have EE := EE.trans e1
  refine J_rv ?_
  refine J_iload_n dX2_writesWord_35 rfl ?_
  refine J_bipush (zI 27) dX2_writesWord_36 rfl ?_
  refine J_idiv_z dX2_writesWord_38 (by unfold zR; omega) (by unfold zR; omega) (by omega) (by omega) ?_
  refine J_top (zI (729)) rfl ?_
  refine J_istore_n dX2_writesWord_39 rfl (by decide) _ rfl ?_
  refine J_goto (tgt := 18) dX2_writesWord_40 (by decide) ?_
  refine J_iload_n dX2_writesWord_18 rfl ?_
  refine J_if_le_n (tgt := 43) dX2_writesWord_19 (by decide) (by decide) ?_
  refine J_aload_n dX2_writesWord_22 rfl ?_
  refine J_bipush (zI 96) dX2_writesWord_23 rfl ?_
  refine J_iload_n dX2_writesWord_25 rfl ?_
  refine J_iload_n dX2_writesWord_26 rfl ?_
  refine J_idiv_z dX2_writesWord_27 (by unfold zR; omega) (by unfold zR; omega) (by omega) (by omega) ?_
  refine J_top (zI (433)) rfl ?_
  refine J_bipush (zI 27) dX2_writesWord_28 rfl ?_
  refine J_irem_z dX2_writesWord_30 (by unfold zR; omega) (by unfold zR; omega) (by omega) (by omega) ?_
  refine J_top (zI (1)) rfl ?_
  refine J_iadd_z dX2_writesWord_31 ?_
  refine J_top (zI (97)) rfl ?_
  refine TC_X2_writes (by decide) (Nat.le_of_ble_eq_true rfl) dX2_writesWord_32 ?_
  refine t_writes hO (by omega) (by first | omega | (simp only [List.length_append, List.length_cons, List.length_nil]; omega)) (fun σ1 e1 hO => ?_)
  have EE := EE.trans e1
  refine J_rv ?_
  refine J_iload_n dX2_writesWord_35 rfl ?_
  refine J_bipush (zI 27) dX2_writesWord_36 rfl ?_
  refine J_idiv_z dX2_writesWord_38 (by unfold zR; omega) (by unfold zR; omega) (by omega) (by omega) ?_
  refine J_top (zI (27)) rfl ?_
  refine J_istore_n dX2_writesWord_39 rfl (by decide) _ rfl ?_
  refine J_goto (tgt := 18) dX2_writesWord_40 (by decide) ?_
  refine J_iload_n dX2_writesWord_18 rfl ?_
  refine J_if_le_n (tgt := 43) dX2_writesWord_19 (by decide) (by decide) ?_
  refine J_aload_n dX2_writesWord_22 rfl ?_
  refine J_bipush (zI 96) dX2_writesWord_23 rfl ?_
  refine J_iload_n dX2_writesWord_25 rfl ?_
  refine J_iload_n dX2_writesWord_26 rfl ?_
  refine J_idiv_z dX2_writesWord_27 (by unfold zR; omega) (by unfold zR; omega) (by omega) (by omega) ?_
  refine J_top (zI (11698)) rfl ?_
  refine J_bipush (zI 27) dX2_writesWord_28 rfl ?_
  refine J_irem_z dX2_writesWord_30 (by unfold zR; omega) (by unfold zR; omega) (by omega) (by omega) ?_
  refine J_top (zI (7)) rfl ?_
  refine J_iadd_z dX2_writesWord_31 ?_
  refine J_top (zI (103)) rfl ?_
  refine TC_X2_writes (by decide) (Nat.le_of_ble_eq_true rfl) dX2_writesWord_32 ?_
  refine t_writes hO (by omega) (by first | omega | (simp only [List.length_append, List.length_cons, List.length_nil]; omega)) (fun σ1 e1 hO => ?_)
  have EE := EE.trans e1
  refine J_rv ?_
  refine J_iload_n dX2_writesWord_35 rfl ?_
  refine J_bipush (zI 27) dX2_writesWord_36 rfl ?_
  refine J_idiv_z dX2_writesWord_38 (by unfold zR; omega) (by unfold zR; omega) (by omega) (by omega) ?_
  refine J_top (zI (1)) rfl ?_
  refine J_istore_n dX2_writesWord_39 rfl (by decide) _ rfl ?_
  refine J_goto (tgt := 18) dX2_writesWord_40 (by decide) ?_
  refine J_iload_n dX2_writesWord_18 rfl ?_
  refine J_if_le_n (tgt := 43) dX2_writesWord_19 (by decide) (by decide) ?_
  refine J_aload_n dX2_writesWord_22 rfl ?_
  refine J_bipush (zI 96) dX2_writesWord_23 rfl ?_
  refine J_iload_n dX2_writesWord_25 rfl ?_
  refine J_iload_n dX2_writesWord_26 rfl ?_
  refine J_idiv_z dX2_writesWord_27 (by unfold zR; omega) (by unfold zR; omega) (by omega) (by omega) ?_
  refine J_top (zI (315851)) rfl ?_
  refine J_bipush (zI 27) dX2_writesWord_28 rfl ?_
  refine J_irem_z dX2_writesWord_30 (by unfold zR; omega) (by unfold zR; omega) (by omega) (by omega) ?_
  refine J_top (zI (5)) rfl ?_
  refine J_iadd_z dX2_writesWord_31 ?_
  refine J_top (zI (101)) rfl ?_
  refine TC_X2_writes (by decide) (Nat.le_of_ble_eq_true rfl) dX2_writesWord_32 ?_
  refine t_writes hO (by omega) (by first | omega | (simp only [List.length_append, List.length_cons, List.length_nil]; omega)) (fun σ1 e1 hO => ?_)
  have EE := EE.trans e1
  refine J_rv ?_
  refine J_iload_n dX2_writesWord_35 rfl ?_
  refine J_bipush (zI 27) dX2_writesWord_36 rfl ?_
  refine J_idiv_z dX2_writesWord_38 (by unfold zR; omega) (by unfold zR; omega) (by omega) (by omega) ?_
  refine J_top (zI (0)) rfl ?_
  refine J_istore_n dX2_writesWord_39 rfl (by decide) _ rfl ?_
  refine J_goto (tgt := 18) dX2_writesWord_40 (by decide) ?_
  refine J_iload_n dX2_writesWord_18 rfl ?_
  refine J_if_le_y (tgt := 43) dX2_writesWord_19 (by decide) (by decide) ?_
  exact J_vret rfl dX2_writesWord_43 (by exact hq _ EE (by simpa using hO))
theorem t_writesWord_bleed {E : jEnv} {α : Nat → Nat} {σ : tS} {Q : Option Value → tS → Prop} {o : List Int} (hO : tOut o σ) (hl : o.length < 9999) (hq : ∀ σ1, tEq [24] [25] σ σ1 → tOut (o ++ [98, 108, 101, 101, 100]) σ1 → Q none σ1) : jX2_writesWord E α 0 [some (.ref (α 0)), some (.int (zI 1302862)), none] [] σ Q := by
  have EE : tEq [24] [25] σ σ := tEq.refl
  refine J_iconst (zI 1) dX2_writesWord_0 rfl ?_
  refine J_istore_n dX2_writesWord_1 rfl (by decide) _ rfl ?_
  refine J_iload_n dX2_writesWord_2 rfl ?_
  refine J_iload_n dX2_writesWord_3 rfl ?_
  refine J_idiv_z dX2_writesWord_4 (by unfold zR; omega) (by unfold zR; omega) (by omega) (by omega) ?_
  refine J_top (zI (1302862)) rfl ?_
  refine J_bipush (zI 27) dX2_writesWord_5 rfl ?_
  refine J_icmp_lt_n (tgt := 18) dX2_writesWord_7 (by decide) (by decide) ?_
  refine J_iload_n dX2_writesWord_10 rfl ?_
  refine J_bipush (zI 27) dX2_writesWord_11 rfl ?_
  refine J_imul_z dX2_writesWord_13 ?_
  refine J_top (zI (27)) rfl ?_
  refine J_istore_n dX2_writesWord_14 rfl (by decide) _ rfl ?_
  refine J_goto (tgt := 2) dX2_writesWord_15 (by decide) ?_
  refine J_iload_n dX2_writesWord_2 rfl ?_
  refine J_iload_n dX2_writesWord_3 rfl ?_
  refine J_idiv_z dX2_writesWord_4 (by unfold zR; omega) (by unfold zR; omega) (by omega) (by omega) ?_
  refine J_top (zI (48254)) rfl ?_
  refine J_bipush (zI 27) dX2_writesWord_5 rfl ?_
  refine J_icmp_lt_n (tgt := 18) dX2_writesWord_7 (by decide) (by decide) ?_
  refine J_iload_n dX2_writesWord_10 rfl ?_
  refine J_bipush (zI 27) dX2_writesWord_11 rfl ?_
  refine J_imul_z dX2_writesWord_13 ?_
  refine J_top (zI (729)) rfl ?_
  refine J_istore_n dX2_writesWord_14 rfl (by decide) _ rfl ?_
  refine J_goto (tgt := 2) dX2_writesWord_15 (by decide) ?_
  refine J_iload_n dX2_writesWord_2 rfl ?_
  refine J_iload_n dX2_writesWord_3 rfl ?_
  refine J_idiv_z dX2_writesWord_4 (by unfold zR; omega) (by unfold zR; omega) (by omega) (by omega) ?_
  refine J_top (zI (1787)) rfl ?_
  refine J_bipush (zI 27) dX2_writesWord_5 rfl ?_
  refine J_icmp_lt_n (tgt := 18) dX2_writesWord_7 (by decide) (by decide) ?_
  refine J_iload_n dX2_writesWord_10 rfl ?_
  refine J_bipush (zI 27) dX2_writesWord_11 rfl ?_
  refine J_imul_z dX2_writesWord_13 ?_
  refine J_top (zI (19683)) rfl ?_
  refine J_istore_n dX2_writesWord_14 rfl (by decide) _ rfl ?_
  refine J_goto (tgt := 2) dX2_writesWord_15 (by decide) ?_
  refine J_iload_n dX2_writesWord_2 rfl ?_
  refine J_iload_n dX2_writesWord_3 rfl ?_
  refine J_idiv_z dX2_writesWord_4 (by unfold zR; omega) (by unfold zR; omega) (by omega) (by omega) ?_
  refine J_top (zI (66)) rfl ?_
  refine J_bipush (zI 27) dX2_writesWord_5 rfl ?_
  refine J_icmp_lt_n (tgt := 18) dX2_writesWord_7 (by decide) (by decide) ?_
  refine J_iload_n dX2_writesWord_10 rfl ?_
  refine J_bipush (zI 27) dX2_writesWord_11 rfl ?_
  refine J_imul_z dX2_writesWord_13 ?_
  refine J_top (zI (531441)) rfl ?_
  refine J_istore_n dX2_writesWord_14 rfl (by decide) _ rfl ?_
  refine J_goto (tgt := 2) dX2_writesWord_15 (by decide) ?_
  refine J_iload_n dX2_writesWord_2 rfl ?_
  refine J_iload_n dX2_writesWord_3 rfl ?_
  refine J_idiv_z dX2_writesWord_4 (by unfold zR; omega) (by unfold zR; omega) (by omega) (by omega) ?_
  refine J_top (zI (2)) rfl ?_
  refine J_bipush (zI 27) dX2_writesWord_5 rfl ?_
  refine J_icmp_lt_y (tgt := 18) dX2_writesWord_7 (by decide) (by decide) ?_
  refine J_iload_n dX2_writesWord_18 rfl ?_
  refine J_if_le_n (tgt := 43) dX2_writesWord_19 (by decide) (by decide) ?_
  refine J_aload_n dX2_writesWord_22 rfl ?_
  refine J_bipush (zI 96) dX2_writesWord_23 rfl ?_
  refine J_iload_n dX2_writesWord_25 rfl ?_
  refine J_iload_n dX2_writesWord_26 rfl ?_
  refine J_idiv_z dX2_writesWord_27 (by unfold zR; omega) (by unfold zR; omega) (by omega) (by omega) ?_
  refine J_top (zI (2)) rfl ?_
  refine J_bipush (zI 27) dX2_writesWord_28 rfl ?_
  refine J_irem_z dX2_writesWord_30 (by unfold zR; omega) (by unfold zR; omega) (by omega) (by omega) ?_
  refine J_top (zI (2)) rfl ?_
  refine J_iadd_z dX2_writesWord_31 ?_
  refine J_top (zI (98)) rfl ?_
  refine TC_X2_writes (by decide) (Nat.le_of_ble_eq_true rfl) dX2_writesWord_32 ?_
  refine t_writes hO (by omega) (by first | omega | (simp only [List.length_append, List.length_cons, List.length_nil]; omega)) (fun σ1 e1 hO => ?_)
  have EE := EE.trans e1
  refine J_rv ?_
  refine J_iload_n dX2_writesWord_35 rfl ?_
  refine J_bipush (zI 27) dX2_writesWord_36 rfl ?_
  refine J_idiv_z dX2_writesWord_38 (by unfold zR; omega) (by unfold zR; omega) (by omega) (by omega) ?_
  refine J_top (zI (19683)) rfl ?_
  refine J_istore_n dX2_writesWord_39 rfl (by decide) _ rfl ?_
  refine J_goto (tgt := 18) dX2_writesWord_40 (by decide) ?_
  refine J_iload_n dX2_writesWord_18 rfl ?_
  refine J_if_le_n (tgt := 43) dX2_writesWord_19 (by decide) (by decide) ?_
  refine J_aload_n dX2_writesWord_22 rfl ?_
  refine J_bipush (zI 96) dX2_writesWord_23 rfl ?_
  refine J_iload_n dX2_writesWord_25 rfl ?_
  refine J_iload_n dX2_writesWord_26 rfl ?_
  refine J_idiv_z dX2_writesWord_27 (by unfold zR; omega) (by unfold zR; omega) (by omega) (by omega) ?_
  refine J_top (zI (66)) rfl ?_
  refine J_bipush (zI 27) dX2_writesWord_28 rfl ?_
  refine J_irem_z dX2_writesWord_30 (by unfold zR; omega) (by unfold zR; omega) (by omega) (by omega) ?_
  refine J_top (zI (12)) rfl ?_
  refine J_iadd_z dX2_writesWord_31 ?_
  refine J_top (zI (108)) rfl ?_
  refine TC_X2_writes (by decide) (Nat.le_of_ble_eq_true rfl) dX2_writesWord_32 ?_
  refine t_writes hO (by omega) (by first | omega | (simp only [List.length_append, List.length_cons, List.length_nil]; omega)) (fun σ1 e1 hO => ?_)
  have EE := EE.trans e1
  refine J_rv ?_
  refine J_iload_n dX2_writesWord_35 rfl ?_
  refine J_bipush (zI 27) dX2_writesWord_36 rfl ?_
  refine J_idiv_z dX2_writesWord_38 (by unfold zR; omega) (by unfold zR; omega) (by omega) (by omega) ?_
  refine J_top (zI (729)) rfl ?_
  refine J_istore_n dX2_writesWord_39 rfl (by decide) _ rfl ?_
  refine J_goto (tgt := 18) dX2_writesWord_40 (by decide) ?_
  refine J_iload_n dX2_writesWord_18 rfl ?_
  refine J_if_le_n (tgt := 43) dX2_writesWord_19 (by decide) (by decide) ?_
  refine J_aload_n dX2_writesWord_22 rfl ?_
  refine J_bipush (zI 96) dX2_writesWord_23 rfl ?_
  refine J_iload_n dX2_writesWord_25 rfl ?_
  refine J_iload_n dX2_writesWord_26 rfl ?_
  refine J_idiv_z dX2_writesWord_27 (by unfold zR; omega) (by unfold zR; omega) (by omega) (by omega) ?_
  refine J_top (zI (1787)) rfl ?_
  refine J_bipush (zI 27) dX2_writesWord_28 rfl ?_
  refine J_irem_z dX2_writesWord_30 (by unfold zR; omega) (by unfold zR; omega) (by omega) (by omega) ?_
  refine J_top (zI (5)) rfl ?_
  refine J_iadd_z dX2_writesWord_31 ?_
  refine J_top (zI (101)) rfl ?_
  refine TC_X2_writes (by decide) (Nat.le_of_ble_eq_true rfl) dX2_writesWord_32 ?_
  refine t_writes hO (by omega) (by first | omega | (simp only [List.length_append, List.length_cons, List.length_nil]; omega)) (fun σ1 e1 hO => ?_)
  have EE := EE.trans e1
  refine J_rv ?_
  refine J_iload_n dX2_writesWord_35 rfl ?_
  refine J_bipush (zI 27) dX2_writesWord_36 rfl ?_
  refine J_idiv_z dX2_writesWord_38 (by unfold zR; omega) (by unfold zR; omega) (by omega) (by omega) ?_
  refine J_top (zI (27)) rfl ?_
  refine J_istore_n dX2_writesWord_39 rfl (by decide) _ rfl ?_
  refine J_goto (tgt := 18) dX2_writesWord_40 (by decide) ?_
  refine J_iload_n dX2_writesWord_18 rfl ?_
  refine J_if_le_n (tgt := 43) dX2_writesWord_19 (by decide) (by decide) ?_
  refine J_aload_n dX2_writesWord_22 rfl ?_
  refine J_bipush (zI 96) dX2_writesWord_23 rfl ?_
  refine J_iload_n dX2_writesWord_25 rfl ?_
  refine J_iload_n dX2_writesWord_26 rfl ?_
  refine J_idiv_z dX2_writesWord_27 (by unfold zR; omega) (by unfold zR; omega) (by omega) (by omega) ?_
  refine J_top (zI (48254)) rfl ?_
  refine J_bipush (zI 27) dX2_writesWord_28 rfl ?_
  refine J_irem_z dX2_writesWord_30 (by unfold zR; omega) (by unfold zR; omega) (by omega) (by omega) ?_
  refine J_top (zI (5)) rfl ?_
  refine J_iadd_z dX2_writesWord_31 ?_
  refine J_top (zI (101)) rfl ?_
  refine TC_X2_writes (by decide) (Nat.le_of_ble_eq_true rfl) dX2_writesWord_32 ?_
  refine t_writes hO (by omega) (by first | omega | (simp only [List.length_append, List.length_cons, List.length_nil]; omega)) (fun σ1 e1 hO => ?_)
  have EE := EE.trans e1
  refine J_rv ?_
  refine J_iload_n dX2_writesWord_35 rfl ?_
  refine J_bipush (zI 27) dX2_writesWord_36 rfl ?_
  refine J_idiv_z dX2_writesWord_38 (by unfold zR; omega) (by unfold zR; omega) (by omega) (by omega) ?_
  refine J_top (zI (1)) rfl ?_
  refine J_istore_n dX2_writesWord_39 rfl (by decide) _ rfl ?_
  refine J_goto (tgt := 18) dX2_writesWord_40 (by decide) ?_
  refine J_iload_n dX2_writesWord_18 rfl ?_
  refine J_if_le_n (tgt := 43) dX2_writesWord_19 (by decide) (by decide) ?_
  refine J_aload_n dX2_writesWord_22 rfl ?_
  refine J_bipush (zI 96) dX2_writesWord_23 rfl ?_
  refine J_iload_n dX2_writesWord_25 rfl ?_
  refine J_iload_n dX2_writesWord_26 rfl ?_
  refine J_idiv_z dX2_writesWord_27 (by unfold zR; omega) (by unfold zR; omega) (by omega) (by omega) ?_
  refine J_top (zI (1302862)) rfl ?_
  refine J_bipush (zI 27) dX2_writesWord_28 rfl ?_
  refine J_irem_z dX2_writesWord_30 (by unfold zR; omega) (by unfold zR; omega) (by omega) (by omega) ?_
  refine J_top (zI (4)) rfl ?_
  refine J_iadd_z dX2_writesWord_31 ?_
  refine J_top (zI (100)) rfl ?_
  refine TC_X2_writes (by decide) (Nat.le_of_ble_eq_true rfl) dX2_writesWord_32 ?_
  refine t_writes hO (by omega) (by first | omega | (simp only [List.length_append, List.length_cons, List.length_nil]; omega)) (fun σ1 e1 hO => ?_)
  have EE := EE.trans e1
  refine J_rv ?_
  refine J_iload_n dX2_writesWord_35 rfl ?_
  refine J_bipush (zI 27) dX2_writesWord_36 rfl ?_
  refine J_idiv_z dX2_writesWord_38 (by unfold zR; omega) (by unfold zR; omega) (by omega) (by omega) ?_
  refine J_top (zI (0)) rfl ?_
  refine J_istore_n dX2_writesWord_39 rfl (by decide) _ rfl ?_
  refine J_goto (tgt := 18) dX2_writesWord_40 (by decide) ?_
  refine J_iload_n dX2_writesWord_18 rfl ?_
  refine J_if_le_y (tgt := 43) dX2_writesWord_19 (by decide) (by decide) ?_
  exact J_vret rfl dX2_writesWord_43 (by exact hq _ EE (by simpa using hO))
theorem t_writesWord_frame {E : jEnv} {α : Nat → Nat} {σ : tS} {Q : Option Value → tS → Prop} {o : List Int} (hO : tOut o σ) (hl : o.length < 9999) (hq : ∀ σ1, tEq [24] [25] σ σ1 → tOut (o ++ [102, 114, 97, 109, 101]) σ1 → Q none σ1) : jX2_writesWord E α 0 [some (.ref (α 0)), some (.int (zI 3544025)), none] [] σ Q := by
  have EE : tEq [24] [25] σ σ := tEq.refl
  refine J_iconst (zI 1) dX2_writesWord_0 rfl ?_
  refine J_istore_n dX2_writesWord_1 rfl (by decide) _ rfl ?_
  refine J_iload_n dX2_writesWord_2 rfl ?_
  refine J_iload_n dX2_writesWord_3 rfl ?_
  refine J_idiv_z dX2_writesWord_4 (by unfold zR; omega) (by unfold zR; omega) (by omega) (by omega) ?_
  refine J_top (zI (3544025)) rfl ?_
  refine J_bipush (zI 27) dX2_writesWord_5 rfl ?_
  refine J_icmp_lt_n (tgt := 18) dX2_writesWord_7 (by decide) (by decide) ?_
  refine J_iload_n dX2_writesWord_10 rfl ?_
  refine J_bipush (zI 27) dX2_writesWord_11 rfl ?_
  refine J_imul_z dX2_writesWord_13 ?_
  refine J_top (zI (27)) rfl ?_
  refine J_istore_n dX2_writesWord_14 rfl (by decide) _ rfl ?_
  refine J_goto (tgt := 2) dX2_writesWord_15 (by decide) ?_
  refine J_iload_n dX2_writesWord_2 rfl ?_
  refine J_iload_n dX2_writesWord_3 rfl ?_
  refine J_idiv_z dX2_writesWord_4 (by unfold zR; omega) (by unfold zR; omega) (by omega) (by omega) ?_
  refine J_top (zI (131260)) rfl ?_
  refine J_bipush (zI 27) dX2_writesWord_5 rfl ?_
  refine J_icmp_lt_n (tgt := 18) dX2_writesWord_7 (by decide) (by decide) ?_
  refine J_iload_n dX2_writesWord_10 rfl ?_
  refine J_bipush (zI 27) dX2_writesWord_11 rfl ?_
  refine J_imul_z dX2_writesWord_13 ?_
  refine J_top (zI (729)) rfl ?_
  refine J_istore_n dX2_writesWord_14 rfl (by decide) _ rfl ?_
  refine J_goto (tgt := 2) dX2_writesWord_15 (by decide) ?_
  refine J_iload_n dX2_writesWord_2 rfl ?_
  refine J_iload_n dX2_writesWord_3 rfl ?_
  refine J_idiv_z dX2_writesWord_4 (by unfold zR; omega) (by unfold zR; omega) (by omega) (by omega) ?_
  refine J_top (zI (4861)) rfl ?_
  refine J_bipush (zI 27) dX2_writesWord_5 rfl ?_
  refine J_icmp_lt_n (tgt := 18) dX2_writesWord_7 (by decide) (by decide) ?_
  refine J_iload_n dX2_writesWord_10 rfl ?_
  refine J_bipush (zI 27) dX2_writesWord_11 rfl ?_
  refine J_imul_z dX2_writesWord_13 ?_
  refine J_top (zI (19683)) rfl ?_
  refine J_istore_n dX2_writesWord_14 rfl (by decide) _ rfl ?_
  refine J_goto (tgt := 2) dX2_writesWord_15 (by decide) ?_
  refine J_iload_n dX2_writesWord_2 rfl ?_
  refine J_iload_n dX2_writesWord_3 rfl ?_
  refine J_idiv_z dX2_writesWord_4 (by unfold zR; omega) (by unfold zR; omega) (by omega) (by omega) ?_
  refine J_top (zI (180)) rfl ?_
  refine J_bipush (zI 27) dX2_writesWord_5 rfl ?_
  refine J_icmp_lt_n (tgt := 18) dX2_writesWord_7 (by decide) (by decide) ?_
  refine J_iload_n dX2_writesWord_10 rfl ?_
  refine J_bipush (zI 27) dX2_writesWord_11 rfl ?_
  refine J_imul_z dX2_writesWord_13 ?_
  refine J_top (zI (531441)) rfl ?_
  refine J_istore_n dX2_writesWord_14 rfl (by decide) _ rfl ?_
  refine J_goto (tgt := 2) dX2_writesWord_15 (by decide) ?_
  refine J_iload_n dX2_writesWord_2 rfl ?_
  refine J_iload_n dX2_writesWord_3 rfl ?_
  refine J_idiv_z dX2_writesWord_4 (by unfold zR; omega) (by unfold zR; omega) (by omega) (by omega) ?_
  refine J_top (zI (6)) rfl ?_
  refine J_bipush (zI 27) dX2_writesWord_5 rfl ?_
  refine J_icmp_lt_y (tgt := 18) dX2_writesWord_7 (by decide) (by decide) ?_
  refine J_iload_n dX2_writesWord_18 rfl ?_
  refine J_if_le_n (tgt := 43) dX2_writesWord_19 (by decide) (by decide) ?_
  refine J_aload_n dX2_writesWord_22 rfl ?_
  refine J_bipush (zI 96) dX2_writesWord_23 rfl ?_
  refine J_iload_n dX2_writesWord_25 rfl ?_
  refine J_iload_n dX2_writesWord_26 rfl ?_
  refine J_idiv_z dX2_writesWord_27 (by unfold zR; omega) (by unfold zR; omega) (by omega) (by omega) ?_
  refine J_top (zI (6)) rfl ?_
  refine J_bipush (zI 27) dX2_writesWord_28 rfl ?_
  refine J_irem_z dX2_writesWord_30 (by unfold zR; omega) (by unfold zR; omega) (by omega) (by omega) ?_
  refine J_top (zI (6)) rfl ?_
  refine J_iadd_z dX2_writesWord_31 ?_
  refine J_top (zI (102)) rfl ?_
  refine TC_X2_writes (by decide) (Nat.le_of_ble_eq_true rfl) dX2_writesWord_32 ?_
  refine t_writes hO (by omega) (by first | omega | (simp only [List.length_append, List.length_cons, List.length_nil]; omega)) (fun σ1 e1 hO => ?_)
  have EE := EE.trans e1
  refine J_rv ?_
  refine J_iload_n dX2_writesWord_35 rfl ?_
  refine J_bipush (zI 27) dX2_writesWord_36 rfl ?_
  refine J_idiv_z dX2_writesWord_38 (by unfold zR; omega) (by unfold zR; omega) (by omega) (by omega) ?_
  refine J_top (zI (19683)) rfl ?_
  refine J_istore_n dX2_writesWord_39 rfl (by decide) _ rfl ?_
  refine J_goto (tgt := 18) dX2_writesWord_40 (by decide) ?_
  refine J_iload_n dX2_writesWord_18 rfl ?_
  refine J_if_le_n (tgt := 43) dX2_writesWord_19 (by decide) (by decide) ?_
  refine J_aload_n dX2_writesWord_22 rfl ?_
  refine J_bipush (zI 96) dX2_writesWord_23 rfl ?_
  refine J_iload_n dX2_writesWord_25 rfl ?_
  refine J_iload_n dX2_writesWord_26 rfl ?_
  refine J_idiv_z dX2_writesWord_27 (by unfold zR; omega) (by unfold zR; omega) (by omega) (by omega) ?_
  refine J_top (zI (180)) rfl ?_
  refine J_bipush (zI 27) dX2_writesWord_28 rfl ?_
  refine J_irem_z dX2_writesWord_30 (by unfold zR; omega) (by unfold zR; omega) (by omega) (by omega) ?_
  refine J_top (zI (18)) rfl ?_
  refine J_iadd_z dX2_writesWord_31 ?_
  refine J_top (zI (114)) rfl ?_
  refine TC_X2_writes (by decide) (Nat.le_of_ble_eq_true rfl) dX2_writesWord_32 ?_
  refine t_writes hO (by omega) (by first | omega | (simp only [List.length_append, List.length_cons, List.length_nil]; omega)) (fun σ1 e1 hO => ?_)
  have EE := EE.trans e1
  refine J_rv ?_
  refine J_iload_n dX2_writesWord_35 rfl ?_
  refine J_bipush (zI 27) dX2_writesWord_36 rfl ?_
  refine J_idiv_z dX2_writesWord_38 (by unfold zR; omega) (by unfold zR; omega) (by omega) (by omega) ?_
  refine J_top (zI (729)) rfl ?_
  refine J_istore_n dX2_writesWord_39 rfl (by decide) _ rfl ?_
  refine J_goto (tgt := 18) dX2_writesWord_40 (by decide) ?_
  refine J_iload_n dX2_writesWord_18 rfl ?_
  refine J_if_le_n (tgt := 43) dX2_writesWord_19 (by decide) (by decide) ?_
  refine J_aload_n dX2_writesWord_22 rfl ?_
  refine J_bipush (zI 96) dX2_writesWord_23 rfl ?_
  refine J_iload_n dX2_writesWord_25 rfl ?_
  refine J_iload_n dX2_writesWord_26 rfl ?_
  refine J_idiv_z dX2_writesWord_27 (by unfold zR; omega) (by unfold zR; omega) (by omega) (by omega) ?_
  refine J_top (zI (4861)) rfl ?_
  refine J_bipush (zI 27) dX2_writesWord_28 rfl ?_
  refine J_irem_z dX2_writesWord_30 (by unfold zR; omega) (by unfold zR; omega) (by omega) (by omega) ?_
  refine J_top (zI (1)) rfl ?_
  refine J_iadd_z dX2_writesWord_31 ?_
  refine J_top (zI (97)) rfl ?_
  refine TC_X2_writes (by decide) (Nat.le_of_ble_eq_true rfl) dX2_writesWord_32 ?_
  refine t_writes hO (by omega) (by first | omega | (simp only [List.length_append, List.length_cons, List.length_nil]; omega)) (fun σ1 e1 hO => ?_)
  have EE := EE.trans e1
  refine J_rv ?_
  refine J_iload_n dX2_writesWord_35 rfl ?_
  refine J_bipush (zI 27) dX2_writesWord_36 rfl ?_
  refine J_idiv_z dX2_writesWord_38 (by unfold zR; omega) (by unfold zR; omega) (by omega) (by omega) ?_
  refine J_top (zI (27)) rfl ?_
  refine J_istore_n dX2_writesWord_39 rfl (by decide) _ rfl ?_
  refine J_goto (tgt := 18) dX2_writesWord_40 (by decide) ?_
  refine J_iload_n dX2_writesWord_18 rfl ?_
  refine J_if_le_n (tgt := 43) dX2_writesWord_19 (by decide) (by decide) ?_
  refine J_aload_n dX2_writesWord_22 rfl ?_
  refine J_bipush (zI 96) dX2_writesWord_23 rfl ?_
  refine J_iload_n dX2_writesWord_25 rfl ?_
  refine J_iload_n dX2_writesWord_26 rfl ?_
  refine J_idiv_z dX2_writesWord_27 (by unfold zR; omega) (by unfold zR; omega) (by omega) (by omega) ?_
  refine J_top (zI (131260)) rfl ?_
  refine J_bipush (zI 27) dX2_writesWord_28 rfl ?_
  refine J_irem_z dX2_writesWord_30 (by unfold zR; omega) (by unfold zR; omega) (by omega) (by omega) ?_
  refine J_top (zI (13)) rfl ?_
  refine J_iadd_z dX2_writesWord_31 ?_
  refine J_top (zI (109)) rfl ?_
  refine TC_X2_writes (by decide) (Nat.le_of_ble_eq_true rfl) dX2_writesWord_32 ?_
  refine t_writes hO (by omega) (by first | omega | (simp only [List.length_append, List.length_cons, List.length_nil]; omega)) (fun σ1 e1 hO => ?_)
  have EE := EE.trans e1
  refine J_rv ?_
  refine J_iload_n dX2_writesWord_35 rfl ?_
  refine J_bipush (zI 27) dX2_writesWord_36 rfl ?_
  refine J_idiv_z dX2_writesWord_38 (by unfold zR; omega) (by unfold zR; omega) (by omega) (by omega) ?_
  refine J_top (zI (1)) rfl ?_
  refine J_istore_n dX2_writesWord_39 rfl (by decide) _ rfl ?_
  refine J_goto (tgt := 18) dX2_writesWord_40 (by decide) ?_
  refine J_iload_n dX2_writesWord_18 rfl ?_
  refine J_if_le_n (tgt := 43) dX2_writesWord_19 (by decide) (by decide) ?_
  refine J_aload_n dX2_writesWord_22 rfl ?_
  refine J_bipush (zI 96) dX2_writesWord_23 rfl ?_
  refine J_iload_n dX2_writesWord_25 rfl ?_
  refine J_iload_n dX2_writesWord_26 rfl ?_
  refine J_idiv_z dX2_writesWord_27 (by unfold zR; omega) (by unfold zR; omega) (by omega) (by omega) ?_
  refine J_top (zI (3544025)) rfl ?_
  refine J_bipush (zI 27) dX2_writesWord_28 rfl ?_
  refine J_irem_z dX2_writesWord_30 (by unfold zR; omega) (by unfold zR; omega) (by omega) (by omega) ?_
  refine J_top (zI (5)) rfl ?_
  refine J_iadd_z dX2_writesWord_31 ?_
  refine J_top (zI (101)) rfl ?_
  refine TC_X2_writes (by decide) (Nat.le_of_ble_eq_true rfl) dX2_writesWord_32 ?_
  refine t_writes hO (by omega) (by first | omega | (simp only [List.length_append, List.length_cons, List.length_nil]; omega)) (fun σ1 e1 hO => ?_)
  have EE := EE.trans e1
  refine J_rv ?_
  refine J_iload_n dX2_writesWord_35 rfl ?_
  refine J_bipush (zI 27) dX2_writesWord_36 rfl ?_
  refine J_idiv_z dX2_writesWord_38 (by unfold zR; omega) (by unfold zR; omega) (by omega) (by omega) ?_
  refine J_top (zI (0)) rfl ?_
  refine J_istore_n dX2_writesWord_39 rfl (by decide) _ rfl ?_
  refine J_goto (tgt := 18) dX2_writesWord_40 (by decide) ?_
  refine J_iload_n dX2_writesWord_18 rfl ?_
  refine J_if_le_y (tgt := 43) dX2_writesWord_19 (by decide) (by decide) ?_
  exact J_vret rfl dX2_writesWord_43 (by exact hq _ EE (by simpa using hO))
theorem t_writesWord_icon {E : jEnv} {α : Nat → Nat} {σ : tS} {Q : Option Value → tS → Prop} {o : List Int} (hO : tOut o σ) (hl : o.length < 9999) (hq : ∀ σ1, tEq [24] [25] σ σ1 → tOut (o ++ [105, 99, 111, 110]) σ1 → Q none σ1) : jX2_writesWord E α 0 [some (.ref (α 0)), some (.int (zI 179753)), none] [] σ Q := by
  have EE : tEq [24] [25] σ σ := tEq.refl
  refine J_iconst (zI 1) dX2_writesWord_0 rfl ?_
  refine J_istore_n dX2_writesWord_1 rfl (by decide) _ rfl ?_
  refine J_iload_n dX2_writesWord_2 rfl ?_
  refine J_iload_n dX2_writesWord_3 rfl ?_
  refine J_idiv_z dX2_writesWord_4 (by unfold zR; omega) (by unfold zR; omega) (by omega) (by omega) ?_
  refine J_top (zI (179753)) rfl ?_
  refine J_bipush (zI 27) dX2_writesWord_5 rfl ?_
  refine J_icmp_lt_n (tgt := 18) dX2_writesWord_7 (by decide) (by decide) ?_
  refine J_iload_n dX2_writesWord_10 rfl ?_
  refine J_bipush (zI 27) dX2_writesWord_11 rfl ?_
  refine J_imul_z dX2_writesWord_13 ?_
  refine J_top (zI (27)) rfl ?_
  refine J_istore_n dX2_writesWord_14 rfl (by decide) _ rfl ?_
  refine J_goto (tgt := 2) dX2_writesWord_15 (by decide) ?_
  refine J_iload_n dX2_writesWord_2 rfl ?_
  refine J_iload_n dX2_writesWord_3 rfl ?_
  refine J_idiv_z dX2_writesWord_4 (by unfold zR; omega) (by unfold zR; omega) (by omega) (by omega) ?_
  refine J_top (zI (6657)) rfl ?_
  refine J_bipush (zI 27) dX2_writesWord_5 rfl ?_
  refine J_icmp_lt_n (tgt := 18) dX2_writesWord_7 (by decide) (by decide) ?_
  refine J_iload_n dX2_writesWord_10 rfl ?_
  refine J_bipush (zI 27) dX2_writesWord_11 rfl ?_
  refine J_imul_z dX2_writesWord_13 ?_
  refine J_top (zI (729)) rfl ?_
  refine J_istore_n dX2_writesWord_14 rfl (by decide) _ rfl ?_
  refine J_goto (tgt := 2) dX2_writesWord_15 (by decide) ?_
  refine J_iload_n dX2_writesWord_2 rfl ?_
  refine J_iload_n dX2_writesWord_3 rfl ?_
  refine J_idiv_z dX2_writesWord_4 (by unfold zR; omega) (by unfold zR; omega) (by omega) (by omega) ?_
  refine J_top (zI (246)) rfl ?_
  refine J_bipush (zI 27) dX2_writesWord_5 rfl ?_
  refine J_icmp_lt_n (tgt := 18) dX2_writesWord_7 (by decide) (by decide) ?_
  refine J_iload_n dX2_writesWord_10 rfl ?_
  refine J_bipush (zI 27) dX2_writesWord_11 rfl ?_
  refine J_imul_z dX2_writesWord_13 ?_
  refine J_top (zI (19683)) rfl ?_
  refine J_istore_n dX2_writesWord_14 rfl (by decide) _ rfl ?_
  refine J_goto (tgt := 2) dX2_writesWord_15 (by decide) ?_
  refine J_iload_n dX2_writesWord_2 rfl ?_
  refine J_iload_n dX2_writesWord_3 rfl ?_
  refine J_idiv_z dX2_writesWord_4 (by unfold zR; omega) (by unfold zR; omega) (by omega) (by omega) ?_
  refine J_top (zI (9)) rfl ?_
  refine J_bipush (zI 27) dX2_writesWord_5 rfl ?_
  refine J_icmp_lt_y (tgt := 18) dX2_writesWord_7 (by decide) (by decide) ?_
  refine J_iload_n dX2_writesWord_18 rfl ?_
  refine J_if_le_n (tgt := 43) dX2_writesWord_19 (by decide) (by decide) ?_
  refine J_aload_n dX2_writesWord_22 rfl ?_
  refine J_bipush (zI 96) dX2_writesWord_23 rfl ?_
  refine J_iload_n dX2_writesWord_25 rfl ?_
  refine J_iload_n dX2_writesWord_26 rfl ?_
  refine J_idiv_z dX2_writesWord_27 (by unfold zR; omega) (by unfold zR; omega) (by omega) (by omega) ?_
  refine J_top (zI (9)) rfl ?_
  refine J_bipush (zI 27) dX2_writesWord_28 rfl ?_
  refine J_irem_z dX2_writesWord_30 (by unfold zR; omega) (by unfold zR; omega) (by omega) (by omega) ?_
  refine J_top (zI (9)) rfl ?_
  refine J_iadd_z dX2_writesWord_31 ?_
  refine J_top (zI (105)) rfl ?_
  refine TC_X2_writes (by decide) (Nat.le_of_ble_eq_true rfl) dX2_writesWord_32 ?_
  refine t_writes hO (by omega) (by first | omega | (simp only [List.length_append, List.length_cons, List.length_nil]; omega)) (fun σ1 e1 hO => ?_)
  have EE := EE.trans e1
  refine J_rv ?_
  refine J_iload_n dX2_writesWord_35 rfl ?_
  refine J_bipush (zI 27) dX2_writesWord_36 rfl ?_
  refine J_idiv_z dX2_writesWord_38 (by unfold zR; omega) (by unfold zR; omega) (by omega) (by omega) ?_
  refine J_top (zI (729)) rfl ?_
  refine J_istore_n dX2_writesWord_39 rfl (by decide) _ rfl ?_
  refine J_goto (tgt := 18) dX2_writesWord_40 (by decide) ?_
  refine J_iload_n dX2_writesWord_18 rfl ?_
  refine J_if_le_n (tgt := 43) dX2_writesWord_19 (by decide) (by decide) ?_
  refine J_aload_n dX2_writesWord_22 rfl ?_
  refine J_bipush (zI 96) dX2_writesWord_23 rfl ?_
  refine J_iload_n dX2_writesWord_25 rfl ?_
  refine J_iload_n dX2_writesWord_26 rfl ?_
  refine J_idiv_z dX2_writesWord_27 (by unfold zR; omega) (by unfold zR; omega) (by omega) (by omega) ?_
  refine J_top (zI (246)) rfl ?_
  refine J_bipush (zI 27) dX2_writesWord_28 rfl ?_
  refine J_irem_z dX2_writesWord_30 (by unfold zR; omega) (by unfold zR; omega) (by omega) (by omega) ?_
  refine J_top (zI (3)) rfl ?_
  refine J_iadd_z dX2_writesWord_31 ?_
  refine J_top (zI (99)) rfl ?_
  refine TC_X2_writes (by decide) (Nat.le_of_ble_eq_true rfl) dX2_writesWord_32 ?_
  refine t_writes hO (by omega) (by first | omega | (simp only [List.length_append, List.length_cons, List.length_nil]; omega)) (fun σ1 e1 hO => ?_)
  have EE := EE.trans e1
  refine J_rv ?_
  refine J_iload_n dX2_writesWord_35 rfl ?_
  refine J_bipush (zI 27) dX2_writesWord_36 rfl ?_
  refine J_idiv_z dX2_writesWord_38 (by unfold zR; omega) (by unfold zR; omega) (by omega) (by omega) ?_
  refine J_top (zI (27)) rfl ?_
  refine J_istore_n dX2_writesWord_39 rfl (by decide) _ rfl ?_
  refine J_goto (tgt := 18) dX2_writesWord_40 (by decide) ?_
  refine J_iload_n dX2_writesWord_18 rfl ?_
  refine J_if_le_n (tgt := 43) dX2_writesWord_19 (by decide) (by decide) ?_
  refine J_aload_n dX2_writesWord_22 rfl ?_
  refine J_bipush (zI 96) dX2_writesWord_23 rfl ?_
  refine J_iload_n dX2_writesWord_25 rfl ?_
  refine J_iload_n dX2_writesWord_26 rfl ?_
  refine J_idiv_z dX2_writesWord_27 (by unfold zR; omega) (by unfold zR; omega) (by omega) (by omega) ?_
  refine J_top (zI (6657)) rfl ?_
  refine J_bipush (zI 27) dX2_writesWord_28 rfl ?_
  refine J_irem_z dX2_writesWord_30 (by unfold zR; omega) (by unfold zR; omega) (by omega) (by omega) ?_
  refine J_top (zI (15)) rfl ?_
  refine J_iadd_z dX2_writesWord_31 ?_
  refine J_top (zI (111)) rfl ?_
  refine TC_X2_writes (by decide) (Nat.le_of_ble_eq_true rfl) dX2_writesWord_32 ?_
  refine t_writes hO (by omega) (by first | omega | (simp only [List.length_append, List.length_cons, List.length_nil]; omega)) (fun σ1 e1 hO => ?_)
  have EE := EE.trans e1
  refine J_rv ?_
  refine J_iload_n dX2_writesWord_35 rfl ?_
  refine J_bipush (zI 27) dX2_writesWord_36 rfl ?_
  refine J_idiv_z dX2_writesWord_38 (by unfold zR; omega) (by unfold zR; omega) (by omega) (by omega) ?_
  refine J_top (zI (1)) rfl ?_
  refine J_istore_n dX2_writesWord_39 rfl (by decide) _ rfl ?_
  refine J_goto (tgt := 18) dX2_writesWord_40 (by decide) ?_
  refine J_iload_n dX2_writesWord_18 rfl ?_
  refine J_if_le_n (tgt := 43) dX2_writesWord_19 (by decide) (by decide) ?_
  refine J_aload_n dX2_writesWord_22 rfl ?_
  refine J_bipush (zI 96) dX2_writesWord_23 rfl ?_
  refine J_iload_n dX2_writesWord_25 rfl ?_
  refine J_iload_n dX2_writesWord_26 rfl ?_
  refine J_idiv_z dX2_writesWord_27 (by unfold zR; omega) (by unfold zR; omega) (by omega) (by omega) ?_
  refine J_top (zI (179753)) rfl ?_
  refine J_bipush (zI 27) dX2_writesWord_28 rfl ?_
  refine J_irem_z dX2_writesWord_30 (by unfold zR; omega) (by unfold zR; omega) (by omega) (by omega) ?_
  refine J_top (zI (14)) rfl ?_
  refine J_iadd_z dX2_writesWord_31 ?_
  refine J_top (zI (110)) rfl ?_
  refine TC_X2_writes (by decide) (Nat.le_of_ble_eq_true rfl) dX2_writesWord_32 ?_
  refine t_writes hO (by omega) (by first | omega | (simp only [List.length_append, List.length_cons, List.length_nil]; omega)) (fun σ1 e1 hO => ?_)
  have EE := EE.trans e1
  refine J_rv ?_
  refine J_iload_n dX2_writesWord_35 rfl ?_
  refine J_bipush (zI 27) dX2_writesWord_36 rfl ?_
  refine J_idiv_z dX2_writesWord_38 (by unfold zR; omega) (by unfold zR; omega) (by omega) (by omega) ?_
  refine J_top (zI (0)) rfl ?_
  refine J_istore_n dX2_writesWord_39 rfl (by decide) _ rfl ?_
  refine J_goto (tgt := 18) dX2_writesWord_40 (by decide) ?_
  refine J_iload_n dX2_writesWord_18 rfl ?_
  refine J_if_le_y (tgt := 43) dX2_writesWord_19 (by decide) (by decide) ?_
  exact J_vret rfl dX2_writesWord_43 (by exact hq _ EE (by simpa using hO))
theorem t_writesWord_border {E : jEnv} {α : Nat → Nat} {σ : tS} {Q : Option Value → tS → Prop} {o : List Int} (hO : tOut o σ) (hl : o.length < 9999) (hq : ∀ σ1, tEq [24] [25] σ σ1 → tOut (o ++ [98, 111, 114, 100, 101, 114]) σ1 → Q none σ1) : jX2_writesWord E α 0 [some (.ref (α 0)), some (.int (zI 37026792)), none] [] σ Q := by
  have EE : tEq [24] [25] σ σ := tEq.refl
  refine J_iconst (zI 1) dX2_writesWord_0 rfl ?_
  refine J_istore_n dX2_writesWord_1 rfl (by decide) _ rfl ?_
  refine J_iload_n dX2_writesWord_2 rfl ?_
  refine J_iload_n dX2_writesWord_3 rfl ?_
  refine J_idiv_z dX2_writesWord_4 (by unfold zR; omega) (by unfold zR; omega) (by omega) (by omega) ?_
  refine J_top (zI (37026792)) rfl ?_
  refine J_bipush (zI 27) dX2_writesWord_5 rfl ?_
  refine J_icmp_lt_n (tgt := 18) dX2_writesWord_7 (by decide) (by decide) ?_
  refine J_iload_n dX2_writesWord_10 rfl ?_
  refine J_bipush (zI 27) dX2_writesWord_11 rfl ?_
  refine J_imul_z dX2_writesWord_13 ?_
  refine J_top (zI (27)) rfl ?_
  refine J_istore_n dX2_writesWord_14 rfl (by decide) _ rfl ?_
  refine J_goto (tgt := 2) dX2_writesWord_15 (by decide) ?_
  refine J_iload_n dX2_writesWord_2 rfl ?_
  refine J_iload_n dX2_writesWord_3 rfl ?_
  refine J_idiv_z dX2_writesWord_4 (by unfold zR; omega) (by unfold zR; omega) (by omega) (by omega) ?_
  refine J_top (zI (1371362)) rfl ?_
  refine J_bipush (zI 27) dX2_writesWord_5 rfl ?_
  refine J_icmp_lt_n (tgt := 18) dX2_writesWord_7 (by decide) (by decide) ?_
  refine J_iload_n dX2_writesWord_10 rfl ?_
  refine J_bipush (zI 27) dX2_writesWord_11 rfl ?_
  refine J_imul_z dX2_writesWord_13 ?_
  refine J_top (zI (729)) rfl ?_
  refine J_istore_n dX2_writesWord_14 rfl (by decide) _ rfl ?_
  refine J_goto (tgt := 2) dX2_writesWord_15 (by decide) ?_
  refine J_iload_n dX2_writesWord_2 rfl ?_
  refine J_iload_n dX2_writesWord_3 rfl ?_
  refine J_idiv_z dX2_writesWord_4 (by unfold zR; omega) (by unfold zR; omega) (by omega) (by omega) ?_
  refine J_top (zI (50791)) rfl ?_
  refine J_bipush (zI 27) dX2_writesWord_5 rfl ?_
  refine J_icmp_lt_n (tgt := 18) dX2_writesWord_7 (by decide) (by decide) ?_
  refine J_iload_n dX2_writesWord_10 rfl ?_
  refine J_bipush (zI 27) dX2_writesWord_11 rfl ?_
  refine J_imul_z dX2_writesWord_13 ?_
  refine J_top (zI (19683)) rfl ?_
  refine J_istore_n dX2_writesWord_14 rfl (by decide) _ rfl ?_
  refine J_goto (tgt := 2) dX2_writesWord_15 (by decide) ?_
  refine J_iload_n dX2_writesWord_2 rfl ?_
  refine J_iload_n dX2_writesWord_3 rfl ?_
  refine J_idiv_z dX2_writesWord_4 (by unfold zR; omega) (by unfold zR; omega) (by omega) (by omega) ?_
  refine J_top (zI (1881)) rfl ?_
  refine J_bipush (zI 27) dX2_writesWord_5 rfl ?_
  refine J_icmp_lt_n (tgt := 18) dX2_writesWord_7 (by decide) (by decide) ?_
  refine J_iload_n dX2_writesWord_10 rfl ?_
  refine J_bipush (zI 27) dX2_writesWord_11 rfl ?_
  refine J_imul_z dX2_writesWord_13 ?_
  refine J_top (zI (531441)) rfl ?_
  refine J_istore_n dX2_writesWord_14 rfl (by decide) _ rfl ?_
  refine J_goto (tgt := 2) dX2_writesWord_15 (by decide) ?_
  refine J_iload_n dX2_writesWord_2 rfl ?_
  refine J_iload_n dX2_writesWord_3 rfl ?_
  refine J_idiv_z dX2_writesWord_4 (by unfold zR; omega) (by unfold zR; omega) (by omega) (by omega) ?_
  refine J_top (zI (69)) rfl ?_
  refine J_bipush (zI 27) dX2_writesWord_5 rfl ?_
  refine J_icmp_lt_n (tgt := 18) dX2_writesWord_7 (by decide) (by decide) ?_
  refine J_iload_n dX2_writesWord_10 rfl ?_
  refine J_bipush (zI 27) dX2_writesWord_11 rfl ?_
  refine J_imul_z dX2_writesWord_13 ?_
  refine J_top (zI (14348907)) rfl ?_
  refine J_istore_n dX2_writesWord_14 rfl (by decide) _ rfl ?_
  refine J_goto (tgt := 2) dX2_writesWord_15 (by decide) ?_
  refine J_iload_n dX2_writesWord_2 rfl ?_
  refine J_iload_n dX2_writesWord_3 rfl ?_
  refine J_idiv_z dX2_writesWord_4 (by unfold zR; omega) (by unfold zR; omega) (by omega) (by omega) ?_
  refine J_top (zI (2)) rfl ?_
  refine J_bipush (zI 27) dX2_writesWord_5 rfl ?_
  refine J_icmp_lt_y (tgt := 18) dX2_writesWord_7 (by decide) (by decide) ?_
  refine J_iload_n dX2_writesWord_18 rfl ?_
  refine J_if_le_n (tgt := 43) dX2_writesWord_19 (by decide) (by decide) ?_
  refine J_aload_n dX2_writesWord_22 rfl ?_
  refine J_bipush (zI 96) dX2_writesWord_23 rfl ?_
  refine J_iload_n dX2_writesWord_25 rfl ?_
  refine J_iload_n dX2_writesWord_26 rfl ?_
  refine J_idiv_z dX2_writesWord_27 (by unfold zR; omega) (by unfold zR; omega) (by omega) (by omega) ?_
  refine J_top (zI (2)) rfl ?_
  refine J_bipush (zI 27) dX2_writesWord_28 rfl ?_
  refine J_irem_z dX2_writesWord_30 (by unfold zR; omega) (by unfold zR; omega) (by omega) (by omega) ?_
  refine J_top (zI (2)) rfl ?_
  refine J_iadd_z dX2_writesWord_31 ?_
  refine J_top (zI (98)) rfl ?_
  refine TC_X2_writes (by decide) (Nat.le_of_ble_eq_true rfl) dX2_writesWord_32 ?_
  refine t_writes hO (by omega) (by first | omega | (simp only [List.length_append, List.length_cons, List.length_nil]; omega)) (fun σ1 e1 hO => ?_)
  have EE := EE.trans e1
  refine J_rv ?_
  refine J_iload_n dX2_writesWord_35 rfl ?_
  refine J_bipush (zI 27) dX2_writesWord_36 rfl ?_
  refine J_idiv_z dX2_writesWord_38 (by unfold zR; omega) (by unfold zR; omega) (by omega) (by omega) ?_
  refine J_top (zI (531441)) rfl ?_
  refine J_istore_n dX2_writesWord_39 rfl (by decide) _ rfl ?_
  refine J_goto (tgt := 18) dX2_writesWord_40 (by decide) ?_
  refine J_iload_n dX2_writesWord_18 rfl ?_
  refine J_if_le_n (tgt := 43) dX2_writesWord_19 (by decide) (by decide) ?_
  refine J_aload_n dX2_writesWord_22 rfl ?_
  refine J_bipush (zI 96) dX2_writesWord_23 rfl ?_
  refine J_iload_n dX2_writesWord_25 rfl ?_
  refine J_iload_n dX2_writesWord_26 rfl ?_
  refine J_idiv_z dX2_writesWord_27 (by unfold zR; omega) (by unfold zR; omega) (by omega) (by omega) ?_
  refine J_top (zI (69)) rfl ?_
  refine J_bipush (zI 27) dX2_writesWord_28 rfl ?_
  refine J_irem_z dX2_writesWord_30 (by unfold zR; omega) (by unfold zR; omega) (by omega) (by omega) ?_
  refine J_top (zI (15)) rfl ?_
  refine J_iadd_z dX2_writesWord_31 ?_
  refine J_top (zI (111)) rfl ?_
  refine TC_X2_writes (by decide) (Nat.le_of_ble_eq_true rfl) dX2_writesWord_32 ?_
  refine t_writes hO (by omega) (by first | omega | (simp only [List.length_append, List.length_cons, List.length_nil]; omega)) (fun σ1 e1 hO => ?_)
  have EE := EE.trans e1
  refine J_rv ?_
  refine J_iload_n dX2_writesWord_35 rfl ?_
  refine J_bipush (zI 27) dX2_writesWord_36 rfl ?_
  refine J_idiv_z dX2_writesWord_38 (by unfold zR; omega) (by unfold zR; omega) (by omega) (by omega) ?_
  refine J_top (zI (19683)) rfl ?_
  refine J_istore_n dX2_writesWord_39 rfl (by decide) _ rfl ?_
  refine J_goto (tgt := 18) dX2_writesWord_40 (by decide) ?_
  refine J_iload_n dX2_writesWord_18 rfl ?_
  refine J_if_le_n (tgt := 43) dX2_writesWord_19 (by decide) (by decide) ?_
  refine J_aload_n dX2_writesWord_22 rfl ?_
  refine J_bipush (zI 96) dX2_writesWord_23 rfl ?_
  refine J_iload_n dX2_writesWord_25 rfl ?_
  refine J_iload_n dX2_writesWord_26 rfl ?_
  refine J_idiv_z dX2_writesWord_27 (by unfold zR; omega) (by unfold zR; omega) (by omega) (by omega) ?_
  refine J_top (zI (1881)) rfl ?_
  refine J_bipush (zI 27) dX2_writesWord_28 rfl ?_
  refine J_irem_z dX2_writesWord_30 (by unfold zR; omega) (by unfold zR; omega) (by omega) (by omega) ?_
  refine J_top (zI (18)) rfl ?_
  refine J_iadd_z dX2_writesWord_31 ?_
  refine J_top (zI (114)) rfl ?_
  refine TC_X2_writes (by decide) (Nat.le_of_ble_eq_true rfl) dX2_writesWord_32 ?_
  refine t_writes hO (by omega) (by first | omega | (simp only [List.length_append, List.length_cons, List.length_nil]; omega)) (fun σ1 e1 hO => ?_)
  have EE := EE.trans e1
  refine J_rv ?_
  refine J_iload_n dX2_writesWord_35 rfl ?_
  refine J_bipush (zI 27) dX2_writesWord_36 rfl ?_
  refine J_idiv_z dX2_writesWord_38 (by unfold zR; omega) (by unfold zR; omega) (by omega) (by omega) ?_
  refine J_top (zI (729)) rfl ?_
  refine J_istore_n dX2_writesWord_39 rfl (by decide) _ rfl ?_
  refine J_goto (tgt := 18) dX2_writesWord_40 (by decide) ?_
  refine J_iload_n dX2_writesWord_18 rfl ?_
  refine J_if_le_n (tgt := 43) dX2_writesWord_19 (by decide) (by decide) ?_
  refine J_aload_n dX2_writesWord_22 rfl ?_
  refine J_bipush (zI 96) dX2_writesWord_23 rfl ?_
  refine J_iload_n dX2_writesWord_25 rfl ?_
  refine J_iload_n dX2_writesWord_26 rfl ?_
  refine J_idiv_z dX2_writesWord_27 (by unfold zR; omega) (by unfold zR; omega) (by omega) (by omega) ?_
  refine J_top (zI (50791)) rfl ?_
  refine J_bipush (zI 27) dX2_writesWord_28 rfl ?_
  refine J_irem_z dX2_writesWord_30 (by unfold zR; omega) (by unfold zR; omega) (by omega) (by omega) ?_
  refine J_top (zI (4)) rfl ?_
  refine J_iadd_z dX2_writesWord_31 ?_
  refine J_top (zI (100)) rfl ?_
  refine TC_X2_writes (by decide) (Nat.le_of_ble_eq_true rfl) dX2_writesWord_32 ?_
  refine t_writes hO (by omega) (by first | omega | (simp only [List.length_append, List.length_cons, List.length_nil]; omega)) (fun σ1 e1 hO => ?_)
  have EE := EE.trans e1
  refine J_rv ?_
  refine J_iload_n dX2_writesWord_35 rfl ?_
  refine J_bipush (zI 27) dX2_writesWord_36 rfl ?_
  refine J_idiv_z dX2_writesWord_38 (by unfold zR; omega) (by unfold zR; omega) (by omega) (by omega) ?_
  refine J_top (zI (27)) rfl ?_
  refine J_istore_n dX2_writesWord_39 rfl (by decide) _ rfl ?_
  refine J_goto (tgt := 18) dX2_writesWord_40 (by decide) ?_
  refine J_iload_n dX2_writesWord_18 rfl ?_
  refine J_if_le_n (tgt := 43) dX2_writesWord_19 (by decide) (by decide) ?_
  refine J_aload_n dX2_writesWord_22 rfl ?_
  refine J_bipush (zI 96) dX2_writesWord_23 rfl ?_
  refine J_iload_n dX2_writesWord_25 rfl ?_
  refine J_iload_n dX2_writesWord_26 rfl ?_
  refine J_idiv_z dX2_writesWord_27 (by unfold zR; omega) (by unfold zR; omega) (by omega) (by omega) ?_
  refine J_top (zI (1371362)) rfl ?_
  refine J_bipush (zI 27) dX2_writesWord_28 rfl ?_
  refine J_irem_z dX2_writesWord_30 (by unfold zR; omega) (by unfold zR; omega) (by omega) (by omega) ?_
  refine J_top (zI (5)) rfl ?_
  refine J_iadd_z dX2_writesWord_31 ?_
  refine J_top (zI (101)) rfl ?_
  refine TC_X2_writes (by decide) (Nat.le_of_ble_eq_true rfl) dX2_writesWord_32 ?_
  refine t_writes hO (by omega) (by first | omega | (simp only [List.length_append, List.length_cons, List.length_nil]; omega)) (fun σ1 e1 hO => ?_)
  have EE := EE.trans e1
  refine J_rv ?_
  refine J_iload_n dX2_writesWord_35 rfl ?_
  refine J_bipush (zI 27) dX2_writesWord_36 rfl ?_
  refine J_idiv_z dX2_writesWord_38 (by unfold zR; omega) (by unfold zR; omega) (by omega) (by omega) ?_
  refine J_top (zI (1)) rfl ?_
  refine J_istore_n dX2_writesWord_39 rfl (by decide) _ rfl ?_
  refine J_goto (tgt := 18) dX2_writesWord_40 (by decide) ?_
  refine J_iload_n dX2_writesWord_18 rfl ?_
  refine J_if_le_n (tgt := 43) dX2_writesWord_19 (by decide) (by decide) ?_
  refine J_aload_n dX2_writesWord_22 rfl ?_
  refine J_bipush (zI 96) dX2_writesWord_23 rfl ?_
  refine J_iload_n dX2_writesWord_25 rfl ?_
  refine J_iload_n dX2_writesWord_26 rfl ?_
  refine J_idiv_z dX2_writesWord_27 (by unfold zR; omega) (by unfold zR; omega) (by omega) (by omega) ?_
  refine J_top (zI (37026792)) rfl ?_
  refine J_bipush (zI 27) dX2_writesWord_28 rfl ?_
  refine J_irem_z dX2_writesWord_30 (by unfold zR; omega) (by unfold zR; omega) (by omega) (by omega) ?_
  refine J_top (zI (18)) rfl ?_
  refine J_iadd_z dX2_writesWord_31 ?_
  refine J_top (zI (114)) rfl ?_
  refine TC_X2_writes (by decide) (Nat.le_of_ble_eq_true rfl) dX2_writesWord_32 ?_
  refine t_writes hO (by omega) (by first | omega | (simp only [List.length_append, List.length_cons, List.length_nil]; omega)) (fun σ1 e1 hO => ?_)
  have EE := EE.trans e1
  refine J_rv ?_
  refine J_iload_n dX2_writesWord_35 rfl ?_
  refine J_bipush (zI 27) dX2_writesWord_36 rfl ?_
  refine J_idiv_z dX2_writesWord_38 (by unfold zR; omega) (by unfold zR; omega) (by omega) (by omega) ?_
  refine J_top (zI (0)) rfl ?_
  refine J_istore_n dX2_writesWord_39 rfl (by decide) _ rfl ?_
  refine J_goto (tgt := 18) dX2_writesWord_40 (by decide) ?_
  refine J_iload_n dX2_writesWord_18 rfl ?_
  refine J_if_le_y (tgt := 43) dX2_writesWord_19 (by decide) (by decide) ?_
  exact J_vret rfl dX2_writesWord_43 (by exact hq _ EE (by simpa using hO))
theorem t_writesWord_logo {E : jEnv} {α : Nat → Nat} {σ : tS} {Q : Option Value → tS → Prop} {o : List Int} (hO : tOut o σ) (hl : o.length < 9999) (hq : ∀ σ1, tEq [24] [25] σ σ1 → tOut (o ++ [108, 111, 103, 111]) σ1 → Q none σ1) : jX2_writesWord E α 0 [some (.ref (α 0)), some (.int (zI 247335)), none] [] σ Q := by
  have EE : tEq [24] [25] σ σ := tEq.refl
  refine J_iconst (zI 1) dX2_writesWord_0 rfl ?_
  refine J_istore_n dX2_writesWord_1 rfl (by decide) _ rfl ?_
  refine J_iload_n dX2_writesWord_2 rfl ?_
  refine J_iload_n dX2_writesWord_3 rfl ?_
  refine J_idiv_z dX2_writesWord_4 (by unfold zR; omega) (by unfold zR; omega) (by omega) (by omega) ?_
  refine J_top (zI (247335)) rfl ?_
  refine J_bipush (zI 27) dX2_writesWord_5 rfl ?_
  refine J_icmp_lt_n (tgt := 18) dX2_writesWord_7 (by decide) (by decide) ?_
  refine J_iload_n dX2_writesWord_10 rfl ?_
  refine J_bipush (zI 27) dX2_writesWord_11 rfl ?_
  refine J_imul_z dX2_writesWord_13 ?_
  refine J_top (zI (27)) rfl ?_
  refine J_istore_n dX2_writesWord_14 rfl (by decide) _ rfl ?_
  refine J_goto (tgt := 2) dX2_writesWord_15 (by decide) ?_
  refine J_iload_n dX2_writesWord_2 rfl ?_
  refine J_iload_n dX2_writesWord_3 rfl ?_
  refine J_idiv_z dX2_writesWord_4 (by unfold zR; omega) (by unfold zR; omega) (by omega) (by omega) ?_
  refine J_top (zI (9160)) rfl ?_
  refine J_bipush (zI 27) dX2_writesWord_5 rfl ?_
  refine J_icmp_lt_n (tgt := 18) dX2_writesWord_7 (by decide) (by decide) ?_
  refine J_iload_n dX2_writesWord_10 rfl ?_
  refine J_bipush (zI 27) dX2_writesWord_11 rfl ?_
  refine J_imul_z dX2_writesWord_13 ?_
  refine J_top (zI (729)) rfl ?_
  refine J_istore_n dX2_writesWord_14 rfl (by decide) _ rfl ?_
  refine J_goto (tgt := 2) dX2_writesWord_15 (by decide) ?_
  refine J_iload_n dX2_writesWord_2 rfl ?_
  refine J_iload_n dX2_writesWord_3 rfl ?_
  refine J_idiv_z dX2_writesWord_4 (by unfold zR; omega) (by unfold zR; omega) (by omega) (by omega) ?_
  refine J_top (zI (339)) rfl ?_
  refine J_bipush (zI 27) dX2_writesWord_5 rfl ?_
  refine J_icmp_lt_n (tgt := 18) dX2_writesWord_7 (by decide) (by decide) ?_
  refine J_iload_n dX2_writesWord_10 rfl ?_
  refine J_bipush (zI 27) dX2_writesWord_11 rfl ?_
  refine J_imul_z dX2_writesWord_13 ?_
  refine J_top (zI (19683)) rfl ?_
  refine J_istore_n dX2_writesWord_14 rfl (by decide) _ rfl ?_
  refine J_goto (tgt := 2) dX2_writesWord_15 (by decide) ?_
  refine J_iload_n dX2_writesWord_2 rfl ?_
  refine J_iload_n dX2_writesWord_3 rfl ?_
  refine J_idiv_z dX2_writesWord_4 (by unfold zR; omega) (by unfold zR; omega) (by omega) (by omega) ?_
  refine J_top (zI (12)) rfl ?_
  refine J_bipush (zI 27) dX2_writesWord_5 rfl ?_
  refine J_icmp_lt_y (tgt := 18) dX2_writesWord_7 (by decide) (by decide) ?_
  refine J_iload_n dX2_writesWord_18 rfl ?_
  refine J_if_le_n (tgt := 43) dX2_writesWord_19 (by decide) (by decide) ?_
  refine J_aload_n dX2_writesWord_22 rfl ?_
  refine J_bipush (zI 96) dX2_writesWord_23 rfl ?_
  refine J_iload_n dX2_writesWord_25 rfl ?_
  refine J_iload_n dX2_writesWord_26 rfl ?_
  refine J_idiv_z dX2_writesWord_27 (by unfold zR; omega) (by unfold zR; omega) (by omega) (by omega) ?_
  refine J_top (zI (12)) rfl ?_
  refine J_bipush (zI 27) dX2_writesWord_28 rfl ?_
  refine J_irem_z dX2_writesWord_30 (by unfold zR; omega) (by unfold zR; omega) (by omega) (by omega) ?_
  refine J_top (zI (12)) rfl ?_
  refine J_iadd_z dX2_writesWord_31 ?_
  refine J_top (zI (108)) rfl ?_
  refine TC_X2_writes (by decide) (Nat.le_of_ble_eq_true rfl) dX2_writesWord_32 ?_
  refine t_writes hO (by omega) (by first | omega | (simp only [List.length_append, List.length_cons, List.length_nil]; omega)) (fun σ1 e1 hO => ?_)
  have EE := EE.trans e1
  refine J_rv ?_
  refine J_iload_n dX2_writesWord_35 rfl ?_
  refine J_bipush (zI 27) dX2_writesWord_36 rfl ?_
  refine J_idiv_z dX2_writesWord_38 (by unfold zR; omega) (by unfold zR; omega) (by omega) (by omega) ?_
  refine J_top (zI (729)) rfl ?_
  refine J_istore_n dX2_writesWord_39 rfl (by decide) _ rfl ?_
  refine J_goto (tgt := 18) dX2_writesWord_40 (by decide) ?_
  refine J_iload_n dX2_writesWord_18 rfl ?_
  refine J_if_le_n (tgt := 43) dX2_writesWord_19 (by decide) (by decide) ?_
  refine J_aload_n dX2_writesWord_22 rfl ?_
  refine J_bipush (zI 96) dX2_writesWord_23 rfl ?_
  refine J_iload_n dX2_writesWord_25 rfl ?_
  refine J_iload_n dX2_writesWord_26 rfl ?_
  refine J_idiv_z dX2_writesWord_27 (by unfold zR; omega) (by unfold zR; omega) (by omega) (by omega) ?_
  refine J_top (zI (339)) rfl ?_
  refine J_bipush (zI 27) dX2_writesWord_28 rfl ?_
  refine J_irem_z dX2_writesWord_30 (by unfold zR; omega) (by unfold zR; omega) (by omega) (by omega) ?_
  refine J_top (zI (15)) rfl ?_
  refine J_iadd_z dX2_writesWord_31 ?_
  refine J_top (zI (111)) rfl ?_
  refine TC_X2_writes (by decide) (Nat.le_of_ble_eq_true rfl) dX2_writesWord_32 ?_
  refine t_writes hO (by omega) (by first | omega | (simp only [List.length_append, List.length_cons, List.length_nil]; omega)) (fun σ1 e1 hO => ?_)
  have EE := EE.trans e1
  refine J_rv ?_
  refine J_iload_n dX2_writesWord_35 rfl ?_
  refine J_bipush (zI 27) dX2_writesWord_36 rfl ?_
  refine J_idiv_z dX2_writesWord_38 (by unfold zR; omega) (by unfold zR; omega) (by omega) (by omega) ?_
  refine J_top (zI (27)) rfl ?_
  refine J_istore_n dX2_writesWord_39 rfl (by decide) _ rfl ?_
  refine J_goto (tgt := 18) dX2_writesWord_40 (by decide) ?_
  refine J_iload_n dX2_writesWord_18 rfl ?_
  refine J_if_le_n (tgt := 43) dX2_writesWord_19 (by decide) (by decide) ?_
  refine J_aload_n dX2_writesWord_22 rfl ?_
  refine J_bipush (zI 96) dX2_writesWord_23 rfl ?_
  refine J_iload_n dX2_writesWord_25 rfl ?_
  refine J_iload_n dX2_writesWord_26 rfl ?_
  refine J_idiv_z dX2_writesWord_27 (by unfold zR; omega) (by unfold zR; omega) (by omega) (by omega) ?_
  refine J_top (zI (9160)) rfl ?_
  refine J_bipush (zI 27) dX2_writesWord_28 rfl ?_
  refine J_irem_z dX2_writesWord_30 (by unfold zR; omega) (by unfold zR; omega) (by omega) (by omega) ?_
  refine J_top (zI (7)) rfl ?_
  refine J_iadd_z dX2_writesWord_31 ?_
  refine J_top (zI (103)) rfl ?_
  refine TC_X2_writes (by decide) (Nat.le_of_ble_eq_true rfl) dX2_writesWord_32 ?_
  refine t_writes hO (by omega) (by first | omega | (simp only [List.length_append, List.length_cons, List.length_nil]; omega)) (fun σ1 e1 hO => ?_)
  have EE := EE.trans e1
  refine J_rv ?_
  refine J_iload_n dX2_writesWord_35 rfl ?_
  refine J_bipush (zI 27) dX2_writesWord_36 rfl ?_
  refine J_idiv_z dX2_writesWord_38 (by unfold zR; omega) (by unfold zR; omega) (by omega) (by omega) ?_
  refine J_top (zI (1)) rfl ?_
  refine J_istore_n dX2_writesWord_39 rfl (by decide) _ rfl ?_
  refine J_goto (tgt := 18) dX2_writesWord_40 (by decide) ?_
  refine J_iload_n dX2_writesWord_18 rfl ?_
  refine J_if_le_n (tgt := 43) dX2_writesWord_19 (by decide) (by decide) ?_
  refine J_aload_n dX2_writesWord_22 rfl ?_
  refine J_bipush (zI 96) dX2_writesWord_23 rfl ?_
  refine J_iload_n dX2_writesWord_25 rfl ?_
  refine J_iload_n dX2_writesWord_26 rfl ?_
  refine J_idiv_z dX2_writesWord_27 (by unfold zR; omega) (by unfold zR; omega) (by omega) (by omega) ?_
  refine J_top (zI (247335)) rfl ?_
  refine J_bipush (zI 27) dX2_writesWord_28 rfl ?_
  refine J_irem_z dX2_writesWord_30 (by unfold zR; omega) (by unfold zR; omega) (by omega) (by omega) ?_
  refine J_top (zI (15)) rfl ?_
  refine J_iadd_z dX2_writesWord_31 ?_
  refine J_top (zI (111)) rfl ?_
  refine TC_X2_writes (by decide) (Nat.le_of_ble_eq_true rfl) dX2_writesWord_32 ?_
  refine t_writes hO (by omega) (by first | omega | (simp only [List.length_append, List.length_cons, List.length_nil]; omega)) (fun σ1 e1 hO => ?_)
  have EE := EE.trans e1
  refine J_rv ?_
  refine J_iload_n dX2_writesWord_35 rfl ?_
  refine J_bipush (zI 27) dX2_writesWord_36 rfl ?_
  refine J_idiv_z dX2_writesWord_38 (by unfold zR; omega) (by unfold zR; omega) (by omega) (by omega) ?_
  refine J_top (zI (0)) rfl ?_
  refine J_istore_n dX2_writesWord_39 rfl (by decide) _ rfl ?_
  refine J_goto (tgt := 18) dX2_writesWord_40 (by decide) ?_
  refine J_iload_n dX2_writesWord_18 rfl ?_
  refine J_if_le_y (tgt := 43) dX2_writesWord_19 (by decide) (by decide) ?_
  exact J_vret rfl dX2_writesWord_43 (by exact hq _ EE (by simpa using hO))
theorem tl_write133 {E : jEnv} {α : Nat → Nat} {σ : tS} {Q : Option Value → tS → Prop} {many : Nat} {wide high bl : Int} {G : Nat → Nat → Int} {t f : Nat} {o : List Int} {kx : Int32} (hS : tSh many wide high bl G σ) (hO : shOK many wide high bl G) (hf : f < many) (hl : o.length < 5000) (hx : ∀ σ1, tEq [24] [25] σ σ1 → tOut (o ++ mNos (G f) 7) σ1 → jX2_write E α 162 [some (.ref (α 0)), some (.int (zI (t : Nat))), some (.int (zI (f : Nat))), none, none] [] σ1 Q) : ∀ (n : Nat) (k : Nat) (σ1 : tS), 1 ≤ k ∧ k ≤ 7 → tEq [24] [25] σ σ1 → tOut (o ++ mNos (G f) k) σ1 → 7 - k < n → jX2_write E α 133 [some (.ref (α 0)), some (.int (zI (t : Nat))), some (.int (zI (f : Nat))), some (.int (kx)), some (.int (zI (k : Nat)))] [] σ1 Q := by
  intro n
  induction n with
  | zero => intro k σ1 h1 h2 h3 hn; exact absurd hn (Nat.not_lt_zero _)
  | succ n ih =>
    intro k σ1 h1 h2 h3 hn
    have := hO.s
    have hS := hS.eq h2 (by decide) (by decide) (by decide) (by decide) (by decide)
    have hnl := mNos_l (G f) k
    refine J_iload dX2_write_133 rfl ?_
    refine J_bipush (zI 7) dX2_write_135 rfl ?_
    refine J_icmp_ge_z (tgt := 162) dX2_write_137 (by decide) (by unfold zR; omega) (by unfold zR; omega) (fun c137 => ?_) (fun c137 => ?_)
    · skip
      obtain rfl : k = 7 := by omega
      refine J_fg (L' := [some (.ref (α 0)), some (.int (zI (t : Nat))), some (.int (zI (f : Nat))), none, none]) (by repeat' constructor) ?_
      exact hx σ1 h2 h3
    · skip
      have hgk : 0 ≤ G f k ∧ G f k ≤ 16 := by
        have hg := hO.g hf
        match k, h1, c137 with
        | 1, _, _ => omega
        | 2, _, _ => omega
        | 3, _, _ => omega
        | 4, _, _ => omega
        | 5, _, _ => omega
        | 6, _, _ => omega
        | k + 7, _, c => omega
      refine J_aload_n dX2_write_140 rfl ?_
      refine J_aload_n dX2_write_141 rfl ?_
      refine TG_given dX2_write_142 ?_
      refine J_bipush (zI 7) dX2_write_145 rfl ?_
      refine J_iload_n dX2_write_147 rfl ?_
      refine J_imul_z dX2_write_148 ?_
      refine J_iload dX2_write_149 rfl ?_
      refine J_iadd_z dX2_write_151 ?_
      refine TJ_iald 12 (((7 * f) + k)) ⟨rfl, rfl, by decide⟩ (by omega) (show ((7 * f) + k) < 56 by omega) dX2_write_152 ?_
      refine J_top (zI (G f k)) (hS.2.2.2.2 f k hf (by omega)) ?_
      refine TC_X2_writesNumber (by decide) (Nat.le_of_ble_eq_true rfl) dX2_write_153 ?_
      refine t_writesNumber h3 (by omega) (by simp only [List.length_append]; omega) (fun σ2 e2 o2 => ?_)
      refine J_rv ?_
      refine J_iinc_z ((((k + 1)) : Nat) : Int) (by omega) dX2_write_156 rfl rfl (by decide) _ rfl ?_
      refine J_goto (tgt := 133) dX2_write_159 (by decide) ?_
      exact ih (k + 1) σ2 (by omega) (h2.trans e2) (by have : mNos (G f) (k + 1) = mNos (G f) k ++ mNo (G f k) := (by obtain ⟨j, rfl⟩ : ∃ j, k = j + 1 := ⟨k - 1, by omega⟩; rfl); rw [this, ← List.append_assoc]; exact o2) (by omega)
