set_option maxRecDepth 100000
/-! the start: classes, arrays, the cells that stand outside -/
theorem k_fld {args : Array Value} {s : State} {tm : Term} {a i : Nat} {o n d : String} {v : Value} (ht : tm.eval args s none [] s = some (.ref a)) (hv : (Term.field tm o n d).eval args s none [] s = some v) (hS : SlotIs s o n d i) : ∃ cell : Cell, s.heap[a]? = some cell ∧ cell.vm ≠ .unknown ∧ cell.slots[i]? = some v := by
  obtain ⟨cf, k, fi, f, h1, h2⟩ := hS
  obtain ⟨g1, cell, g2, g3, -, -, g6⟩ := Term.field_spec h1 ht hv
  exact ⟨cell, g2, g3, by rw [← h2]; exact g6⟩
theorem k_lenx {args : Array Value} {s : State} {t : Term} {N : Nat} (hN : N < 2 ^ 31) (h : (Term.length t).eval args s none [] s = some (.int (Int32.ofNat N))) : ∃ (a : Nat) (cell : Cell), t.eval args s none [] s = some (.ref a) ∧ s.arrayAt? a = some cell ∧ cell.slots.size = N := by
  simp only [Term.eval, Option.bind_eq_bind] at h
  cases ht : t.eval args s none [] s with
  | none => simp [ht] at h
  | some x =>
    cases x <;> simp [ht] at h
    case ref a =>
      obtain ⟨cell, hcell, h⟩ := Option.bind_eq_some_iff.mp h
      by_cases hn : cell.slots.size < 2147483648
      · rw [if_pos hn] at h
        have e : cell.slots.size.toInt32 = Int32.ofNat N := by
          have := Option.some.inj h
          exact Value.int.inj this
        have e2 : (Int32.ofNat cell.slots.size).toNatClampNeg = (Int32.ofNat N).toNatClampNeg := congrArg _ e
        rw [Int32.toNatClampNeg_ofNat_of_lt hn, Int32.toNatClampNeg_ofNat_of_lt hN] at e2
        exact ⟨a, cell, rfl, hcell, e2⟩
      · rw [if_neg hn] at h; cases h
theorem k_arrx {D : va_G} {args : Array Value} {s : State} {tm : Term} {N : Nat} {f : Nat → Int32} {nm : String} {c : ClassId} (hN : N < 2 ^ 31) (hle : (Cond.eq (.length tm) (.int (Int32.ofNat N))).before args s = true) (hel : ∀ j : Nat, j < N → (Cond.eq (.elem tm (.int (Int32.ofNat j))) (.int (f j))).before args s = true) (hex : (Cond.exactly tm nm).before args s = true) (hfc : s.vm.findClass nm = some c) : ∃ t : Nat, tm.eval args s none [] s = some (.ref t) ∧ j_ao D t (.inl (c, N, .inl f)) s.heap := by
  obtain ⟨t, cell, ht, hat, hsz⟩ := k_lenx hN (va_eqt hle)
  obtain ⟨hcell, hkn, hst, -⟩ := State.arrayAt?_spec hat
  obtain ⟨a, cc, cA, kA, q1, q2, q3, q4, q5, q6, -⟩ := Cond.exactly_spec (args := args) (first := s) (o := none) (s := s) (idx := []) (t := tm) (cls := nm) hex
  cases ht.symm.trans q1
  cases hcell.symm.trans q3
  cases hfc.symm.trans q2
  have key : ∀ j : Nat, j < N → cell.slots[j]? = some (.int (f j)) := by
    intro j hj
    obtain ⟨a, i, cell2, h1, h2, h3, h4, h5⟩ := Term.elem_spec (va_eqt (hel j hj))
    cases ht.symm.trans h1
    cases hat.symm.trans h3
    have hi : i = Int32.ofNat j := by
      have e : (Term.int (Int32.ofNat j)).eval args s none [] s = some (.int (Int32.ofNat j)) := rfl
      cases h2.symm.trans e
      rfl
    have hc : i.toNatClampNeg = j := by rw [hi]; exact Int32.toNatClampNeg_ofNat_of_lt (Nat.lt_trans hj hN)
    rw [hc] at h5
    exact h5
  refine ⟨t, ht, cell, hcell, hkn, hst, q6, ?_⟩
  show cell.slots = (arrV c N (fun j => .int (f j))).slots
  apply Array.ext_getElem?
  intro j
  by_cases hj : j < N
  · rw [key j hj, arrV_read _ _ hj]
  · rw [Array.getElem?_eq_none (by omega), Array.getElem?_eq_none (by rw [arrV_size]; omega)]
theorem k_strx {D : va_G} {d : Nat → ClassId} {args : Array Value} {s : State} {i : Nat} (hK : va_K D CL (j_tys d) s) (h : ∀ w ∈ sWs i, w.before args s = true) (hN : (sTx i).length < 2 ^ 31) : ∃ q : Nat × Nat, (sTm i).eval args s none [] s = some (.ref q.1) ∧ j_ao D q.1 (.inr (8, fun k => if k = 0 then .ref q.2 else if k = 1 then .int (zI 0) else if k = 2 then .int (zI (sHs i)) else .int (zI 0))) s.heap ∧ j_ao D q.2 (.inl (d 1, (sTx i).length, .inl (fun j => zI ((sTx i).getD j 0)))) s.heap := by
  have hw : ∀ (k : Nat) (w : Cond), (sWs i)[k]? = some w → w.before args s = true := fun k w e => h w (List.mem_of_getElem? e)
  have hB : s.vm.findClass "[B" = some (d 1) := va_nm_byte (hK.2 1 _ rfl).2
  obtain ⟨v, hv, hvo⟩ := k_arrx (D := D) (f := fun j => zI ((sTx i).getD j 0)) hN (hw 3 _ rfl) (fun j hj => h _ (List.mem_append_right _ (List.mem_map.mpr ⟨j, List.mem_range.mpr hj, rfl⟩))) (hw 6 _ rfl) hB
  obtain ⟨a, cc, cell, kA, q1, q2, q3, q4, q5, q6, -⟩ := Cond.exactly_spec (args := args) (first := s) (o := none) (s := s) (idx := []) (t := sTm i) (cls := "java/lang/String") (hw 0 _ rfl)
  obtain ⟨hSl, hfc, -⟩ := hK.1 8 _ rfl
  cases (show s.vm.findClass "java/lang/String" = some (D.1 8) from hfc).symm.trans q2
  obtain ⟨c0, r1, r2, r3⟩ := k_fld q1 hv (hSl 0 (by decide))
  cases q3.symm.trans r1
  refine ⟨(a, v), q1, ⟨cell, q3, r2, q5, _, rfl, q6, ?_⟩, hvo⟩
  intro k hk
  have hk : k < 4 := hk
  match k, hk with
  | 0, _ => exact r3
  | 1, _ =>
    obtain ⟨c1, s1, s2, s3⟩ := k_fld q1 (va_eqt (hw 1 _ rfl)) (hSl 1 (by decide))
    cases q3.symm.trans s1
    exact s3
  | 2, _ =>
    obtain ⟨c1, s1, s2, s3⟩ := k_fld q1 (va_eqt (hw 4 _ rfl)) (hSl 2 (by decide))
    cases q3.symm.trans s1
    exact s3
  | 3, _ =>
    obtain ⟨c1, s1, s2, s3⟩ := k_fld q1 (va_eqt (hw 5 _ rfl)) (hSl 3 (by decide))
    cases q3.symm.trans s1
    exact s3
theorem k_clx {args : Array Value} {s : State} (hall : ∀ w ∈ lw_all, w.before args s = true) (c : Nat) : ∃ p : ClassId × (Nat → Nat), ∀ q, CL[c]? = some q → u_Kn s q.1 q.2.1 q.2.2 p.1 p.2 := by
  have key : ∀ {C : String} {T : u_T} {N n : Nat}, CL[c]? = some (C, T, N) → (∀ w ∈ u_ws C T N, w ∈ lw_all) → Cond.instantiable C n ∈ lw_all → ∃ p : ClassId × (Nat → Nat), ∀ q, CL[c]? = some q → u_Kn s q.1 q.2.1 q.2.2 p.1 p.2 := by
    intro C T N n e h1 h2
    obtain ⟨cC, iS, h⟩ := u_known hall h1 (hall _ h2)
    exact ⟨(cC, iS), fun q hq => by cases e.symm.trans hq; exact h⟩
  have hn : ∀ {C : String}, ∀ w ∈ u_ws C jT0 0, w ∈ lw_all := fun w hw => by cases hw
  match c with
  | 0 => exact key rfl in_X2 q1572
  | 1 => exact key rfl in_X0 q139
  | 2 => exact key rfl in_X3 q878
  | 3 => exact key rfl in_X4 q797
  | 4 => exact key rfl in_X5 q845
  | 5 => exact key rfl in_X6 q862
  | 6 => exact key rfl in_X11 q1411
  | 7 => exact key rfl in_J10 q501
  | 8 => exact key rfl in_J4 q362
  | 9 => exact key rfl hn q153
  | 10 => exact key rfl hn q899
  | 11 => exact key rfl hn q906
  | 12 => exact key rfl hn q913
  | n + 13 => exact ⟨(0, fun _ => 0), fun q hq => by cases hq⟩
theorem k_arx {args : Array Value} {s : State} (hts : ∀ w ∈ lw_tbl, w.before args s = true) (k : Nat) : ∃ c : ClassId, ∀ t, ([.int, .byte, .boolean, .array .int, .array .byte, .object "FrameSheets$Frame", .object "FrameSheets$Kept"] : List FieldType)[k]? = some t → ArrOfT s c t ∧ va_RA s c t := by
  have key : ∀ {t : FieldType} {c : ClassId} {kk : Class} {comp : ClassId}, s.vm.classes[c]? = some kk → kk.kind = .array comp t → ArrOfT s c t := fun h1 h2 n z => ⟨fun k h => (by cases h), _, h1, _, h2⟩
  match k with
  | 0 =>
    obtain ⟨c, kk, comp, h1, h2, h3⟩ := Cond.arrayClass_spec (hts (.arrayClass .int) (tW_a _ (List.mem_of_getElem? (i := 0) rfl)))
    exact ⟨c, fun t ht => by cases ht; exact ⟨key h2 h3, h1⟩⟩
  | 1 =>
    obtain ⟨c, kk, comp, h1, h2, h3⟩ := Cond.arrayClass_spec (hts (.arrayClass .byte) (tW_a _ (List.mem_of_getElem? (i := 1) rfl)))
    exact ⟨c, fun t ht => by cases ht; exact ⟨key h2 h3, h1⟩⟩
  | 2 =>
    obtain ⟨c, kk, comp, h1, h2, h3⟩ := Cond.arrayClass_spec (hts (.arrayClass .boolean) (tW_a _ (List.mem_of_getElem? (i := 2) rfl)))
    exact ⟨c, fun t ht => by cases ht; exact ⟨key h2 h3, h1⟩⟩
  | 3 =>
    obtain ⟨comp, c, kk, h0, h2, h3, h1⟩ := Cond.arrayOver_specA (hts (.arrayOver (.array .int)) (tW_a _ (List.mem_of_getElem? (i := 3) rfl)))
    exact ⟨c, fun t ht => by cases ht; exact ⟨key h2 h3, h1⟩⟩
  | 4 =>
    obtain ⟨comp, c, kk, h0, h2, h3, h1⟩ := Cond.arrayOver_specA (hts (.arrayOver (.array .byte)) (tW_a _ (List.mem_of_getElem? (i := 4) rfl)))
    exact ⟨c, fun t ht => by cases ht; exact ⟨key h2 h3, h1⟩⟩
  | 5 =>
    obtain ⟨comp, c, kk, h0, -, h2, h3, h1⟩ := Cond.arrayOver_spec (hts (.arrayOver (.object "FrameSheets$Frame")) (tW_a _ (List.mem_of_getElem? (i := 5) rfl)))
    exact ⟨c, fun t ht => by cases ht; exact ⟨key h2 h3, kk, comp, h2, h3, h0, h1⟩⟩
  | 6 =>
    obtain ⟨comp, c, kk, h0, -, h2, h3, h1⟩ := Cond.arrayOver_spec (hts (.arrayOver (.object "FrameSheets$Kept")) (tW_a _ (List.mem_of_getElem? (i := 6) rfl)))
    exact ⟨c, fun t ht => by cases ht; exact ⟨key h2 h3, kk, comp, h2, h3, h0, h1⟩⟩
  | n + 7 => exact ⟨0, fun t ht => by cases ht⟩
theorem k_Kx {args : Array Value} {s : State} (hts : ∀ w ∈ lw_tbl, w.before args s = true) : ∃ (D : va_G) (T : Nat → ClassId), ∀ d : Nat → ClassId, (∀ k, k < 7 → d k = T k) → va_K D CL (j_tys d) s := by
  obtain ⟨P, hP⟩ := Classical.axiomOfChoice (k_clx (fun w h => hts w (lw_all_tbl h)))
  obtain ⟨T, hT⟩ := Classical.axiomOfChoice (k_arx hts)
  refine ⟨(fun c => (P c).1, fun c => (P c).2), T, fun d hd => ⟨fun c q hq => hP c q hq, fun k q hk => ?_⟩⟩
  match k with
  | 0 => cases hk; rw [hd 0 (by decide)]; exact hT 0 _ rfl
  | 1 => cases hk; rw [hd 1 (by decide)]; exact hT 1 _ rfl
  | 2 => cases hk; rw [hd 2 (by decide)]; exact hT 2 _ rfl
  | 3 => cases hk; rw [hd 3 (by decide)]; exact hT 3 _ rfl
  | 4 => cases hk; rw [hd 4 (by decide)]; exact hT 4 _ rfl
  | 5 => cases hk; rw [hd 5 (by decide)]; exact hT 5 _ rfl
  | 6 => cases hk; rw [hd 6 (by decide)]; exact hT 6 _ rfl
  | n + 7 => cases hk
