set_option maxRecDepth 100000
/-! the component: cuts, sorts, setFree -/
theorem rAdd_len (x y w h : Int) : (rAdd x y w h).length ≤ 1 := by unfold rAdd; split <;> simp
theorem cFl.set {l : List rct} {σ : cS} (h : cFl l σ) {k : Nat} (hk : k < l.length) {r : rct} (hr : l.getD k (0, 0, 0, 0) = r) : cFl (l.set k (r.1, r.2.1, 0, r.2.2.2)) (cAr σ 23 (upd (σ.a 23) k (zI 0))) := by
  obtain ⟨h1, h2, b, h3, h4⟩ := h
  refine ⟨by rw [List.length_set]; exact h1, by rw [List.length_set]; exact h2, upF b k (r.1, r.2.1, 0, r.2.2.2), fun i hi => ?_, fun i hi => ?_⟩
  · show σ.a 21 i = _ ∧ σ.a 22 i = _ ∧ upd (σ.a 23) k (zI 0) i = _ ∧ σ.a 24 i = _
    unfold upF upd
    by_cases z : i = k
    · subst z
      simp only [if_pos]
      have e := h3 i hi
      rw [h4 i hk, hr] at e
      exact ⟨e.1, e.2.1, trivial, e.2.2.2⟩
    · simp only [if_neg z]
      exact h3 i hi
  · rw [List.length_set] at hi
    rw [List.getD_eq_getElem?_getD, List.getElem?_set]
    by_cases z : k = i
    · subst z
      rw [if_pos rfl, if_pos hk, upF_s]; rfl
    · rw [if_neg z, upF_n (fun e => z e.symm), ← List.getD_eq_getElem?_getD]
      exact h4 i hi
/-- what a rectangle and a frame are within -/
abbrev rB (r : rct) : Prop := 0 ≤ r.1 ∧ 0 ≤ r.2.1 ∧ 1 ≤ r.2.2.1 ∧ 1 ≤ r.2.2.2 ∧ r.1 + r.2.2.1 ≤ 16 ∧ r.2.1 + r.2.2.2 ≤ 16
abbrev rFB (F : rct) : Prop := 0 ≤ F.1 ∧ 0 ≤ F.2.1 ∧ F.1 < F.2.2.1 ∧ F.2.1 < F.2.2.2 ∧ F.2.2.1 ≤ 16 ∧ F.2.2.2 ≤ 16
theorem rB.z {r : rct} (h : rB r) : rZ r := by unfold rB at h; unfold rZ; omega
theorem rCut_z {F : rct} {l : List rct} (hF : rFB F) (hl : ∀ r ∈ l, rB r) : ∀ r ∈ rCut F l, rZ r := by
  intro r hr
  unfold rCut at hr
  rcases List.mem_append.mp hr with h | h
  · exact (hl r (List.mem_filter.mp h).1).z
  · unfold rPcs at h
    obtain ⟨s, hs, h⟩ := List.mem_flatMap.mp h
    have hb := hl s hs
    split at h
    · unfold rFB at hF
      unfold rB at hb
      unfold rZ
      rcases rPc_mem.mp h with ⟨rfl, a1, a2⟩ | ⟨rfl, a1, a2⟩ | ⟨rfl, a1, a2⟩ | ⟨rfl, a1, a2⟩ <;> simp only <;> omega
    · cases h

theorem cl_cuts48 {E : jEnv} {α : Nat → Nat} {σ : cS} {Q : Option Value → cS → Prop} {many : Nat} {wide high bl : Int} {G : Nat → Nat → Int} {ad : Nat → Nat} {c : Nat → Nat → Int} {f : Nat} {F : rct} {l : List rct}  (hS : cSh many wide high bl G ad c σ) (hO : shOK many wide high bl G) (hf : f < many) (e1 : F.1 = c f 1) (e2 : F.2.1 = c f 2) (hFB : rFB F) (hlen : l.length ≤ 64) (hlB : ∀ r ∈ l, rB r) (hk : ∀ σ', cFl (rMid F l l.length) σ' → cQ [20] [21, 22, 23, 24] σ σ' → jX0_cuts E α 210 [some (.ref (α 0)), some (.ref (ad f)), some (.int (zI (F.2.2.1))), some (.int (zI (F.2.2.2))), some (.int (zI (l.length : Nat))), some (.int (zI (0))), none, none, none, none, none] [] σ' Q)  : ∀ (n : Nat) (k : Nat) (σ1 : cS), k ≤ l.length → cQ [20] [21, 22, 23, 24] σ σ1 → cFl (rMid F l k) σ1 → l.length - k < n → jX0_cuts E α 48 [some (.ref (α 0)), some (.ref (ad f)), some (.int (zI (F.2.2.1))), some (.int (zI (F.2.2.2))), some (.int (zI (l.length : Nat))), some (.int (zI 0)), some (.int (zI (k : Nat))), none, none, none, none] [] σ1 Q := by
  intro n
  induction n with
  | zero => intro k σ1 h1 h2 h3 hn; exact absurd hn (Nat.not_lt_zero _)
  | succ n ih =>
    intro k σ1 h1 h2 h3 hn
    have hS0 := hS
    have hS := hS.up h2 (by decide) (by decide) (by decide) (by decide)
    refine J_iload dX0_cuts_48 rfl ?_
    refine J_iload dX0_cuts_50 rfl ?_
    refine J_icmp_ge_z (tgt := 210) dX0_cuts_52 (by decide) (by unfold zR; omega) (by unfold zR; omega) (fun c52 => ?_) (fun c52 => ?_)
    · skip
      obtain rfl : k = l.length := by omega
      refine J_fg (L' := [some (.ref (α 0)), some (.ref (ad f)), some (.int (zI (F.2.2.1))), some (.int (zI (F.2.2.2))), some (.int (zI (l.length : Nat))), some (.int (zI (0))), none, none, none, none, none]) (by repeat' constructor) ?_
      exact hk _ h3 h2
    · skip
      have hml := rMid_len (F := F) (l := l) (k := k) (by omega)
      have hl1 := h3
      obtain ⟨hF0, hlen1, b, hb, hbl⟩ := h3
      have hbk := (hbl k (by omega)).trans (rMid_at (F := F) (l := l) (by omega))
      have hrm := getD_mem (l := l) (i := k) (by omega)
      generalize hr : l.getD k (0, 0, 0, 0) = r at *
      have hrB := hlB r hrm
      unfold rB at hrB
      unfold rFB at hFB
      refine J_aload_n dX0_cuts_55 rfl ?_
      refine CG_freeX dX0_cuts_56 ?_
      refine J_iload dX0_cuts_59 rfl ?_
      refine CJ_iald 21 (k) ⟨rfl, by decide, by decide, by decide⟩ (by omega) (show k < 512 by omega) dX0_cuts_61 ?_
      refine J_top (zI (r.1)) (((hb k (by omega)).1.trans (congrArg zI (by rw [hbk])))) ?_
      refine J_istore dX0_cuts_62 rfl (by decide) _ rfl ?_
      refine J_aload_n dX0_cuts_64 rfl ?_
      refine CG_freeY dX0_cuts_65 ?_
      refine J_iload dX0_cuts_68 rfl ?_
      refine CJ_iald 22 (k) ⟨rfl, by decide, by decide, by decide⟩ (by omega) (show k < 512 by omega) dX0_cuts_70 ?_
      refine J_top (zI (r.2.1)) (((hb k (by omega)).2.1.trans (congrArg zI (by rw [hbk])))) ?_
      refine J_istore dX0_cuts_71 rfl (by decide) _ rfl ?_
      refine J_aload_n dX0_cuts_73 rfl ?_
      refine CG_freeW dX0_cuts_74 ?_
      refine J_iload dX0_cuts_77 rfl ?_
      refine CJ_iald 23 (k) ⟨rfl, by decide, by decide, by decide⟩ (by omega) (show k < 512 by omega) dX0_cuts_79 ?_
      refine J_top (zI (r.2.2.1)) (((hb k (by omega)).2.2.1.trans (congrArg zI (by rw [hbk])))) ?_
      refine J_istore dX0_cuts_80 rfl (by decide) _ rfl ?_
      refine J_aload_n dX0_cuts_82 rfl ?_
      refine CG_freeH dX0_cuts_83 ?_
      refine J_iload dX0_cuts_86 rfl ?_
      refine CJ_iald 24 (k) ⟨rfl, by decide, by decide, by decide⟩ (by omega) (show k < 512 by omega) dX0_cuts_88 ?_
      refine J_top (zI (r.2.2.2)) (((hb k (by omega)).2.2.2.trans (congrArg zI (by rw [hbk])))) ?_
      refine J_istore dX0_cuts_89 rfl (by decide) _ rfl ?_
      refine J_iload dX0_cuts_91 rfl ?_
      refine J_iload_n dX0_cuts_93 rfl ?_
      refine J_icmp_ge_z (tgt := 204) dX0_cuts_94 (by decide) (by unfold zR; omega) (by unfold zR; omega) (fun c94 => ?_) (fun c94 => ?_)
      · skip
        refine J_iinc_z ((((k + 1)) : Nat) : Int) (by omega) dX0_cuts_204 rfl rfl (by decide) _ rfl ?_
        refine J_goto (tgt := 48) dX0_cuts_207 (by decide) ?_
        refine J_fg (L' := [some (.ref (α 0)), some (.ref (ad f)), some (.int (zI (F.2.2.1))), some (.int (zI (F.2.2.2))), some (.int (zI (l.length : Nat))), some (.int (zI (0))), some (.int (zI ((k + 1 : Nat)))), none, none, none, none]) (by repeat' constructor) ?_
        have hm : ¬ rMeet (l.getD k (0, 0, 0, 0)) F := by rw [hr]; unfold rMeet; omega
        exact ih (k + 1) σ1 (by omega) h2 (by rw [rMid_skip (by omega) hm]; exact hl1) (by omega)
      · skip
        refine J_iload dX0_cuts_97 rfl ?_
        refine J_iload dX0_cuts_99 rfl ?_
        refine J_iadd_z dX0_cuts_101 ?_
        refine J_aload_n dX0_cuts_102 rfl ?_
        refine FNX0_x G f (hS.w hf hO.1) (hO.k hf) dX0_cuts_103 ?_
        refine J_icmp_le_z (tgt := 204) dX0_cuts_106 (by decide) (by unfold zR; omega) (by unfold zR; omega) (fun c106 => ?_) (fun c106 => ?_)
        · skip
          refine J_iinc_z ((((k + 1)) : Nat) : Int) (by omega) dX0_cuts_204 rfl rfl (by decide) _ rfl ?_
          refine J_goto (tgt := 48) dX0_cuts_207 (by decide) ?_
          refine J_fg (L' := [some (.ref (α 0)), some (.ref (ad f)), some (.int (zI (F.2.2.1))), some (.int (zI (F.2.2.2))), some (.int (zI (l.length : Nat))), some (.int (zI (0))), some (.int (zI ((k + 1 : Nat)))), none, none, none, none]) (by repeat' constructor) ?_
          have hm : ¬ rMeet (l.getD k (0, 0, 0, 0)) F := by rw [hr]; unfold rMeet; omega
          exact ih (k + 1) σ1 (by omega) h2 (by rw [rMid_skip (by omega) hm]; exact hl1) (by omega)
        · skip
          refine J_iload dX0_cuts_109 rfl ?_
          refine J_iload_n dX0_cuts_111 rfl ?_
          refine J_icmp_ge_z (tgt := 204) dX0_cuts_112 (by decide) (by unfold zR; omega) (by unfold zR; omega) (fun c112 => ?_) (fun c112 => ?_)
          · skip
            refine J_iinc_z ((((k + 1)) : Nat) : Int) (by omega) dX0_cuts_204 rfl rfl (by decide) _ rfl ?_
            refine J_goto (tgt := 48) dX0_cuts_207 (by decide) ?_
            refine J_fg (L' := [some (.ref (α 0)), some (.ref (ad f)), some (.int (zI (F.2.2.1))), some (.int (zI (F.2.2.2))), some (.int (zI (l.length : Nat))), some (.int (zI (0))), some (.int (zI ((k + 1 : Nat)))), none, none, none, none]) (by repeat' constructor) ?_
            have hm : ¬ rMeet (l.getD k (0, 0, 0, 0)) F := by rw [hr]; unfold rMeet; omega
            exact ih (k + 1) σ1 (by omega) h2 (by rw [rMid_skip (by omega) hm]; exact hl1) (by omega)
          · skip
            refine J_iload dX0_cuts_115 rfl ?_
            refine J_iload dX0_cuts_117 rfl ?_
            refine J_iadd_z dX0_cuts_119 ?_
            refine J_aload_n dX0_cuts_120 rfl ?_
            refine FNX0_y G f (hS.w hf hO.1) (hO.k hf) dX0_cuts_121 ?_
            refine J_icmp_gt_z (tgt := 130) dX0_cuts_124 (by decide) (by unfold zR; omega) (by unfold zR; omega) (fun c124 => ?_) (fun c124 => ?_)
            · skip
              refine J_aload_n dX0_cuts_130 rfl ?_
              refine CG_freeW dX0_cuts_131 ?_
              refine J_iload dX0_cuts_134 rfl ?_
              refine J_iconst (zI 0) dX0_cuts_136 rfl ?_
              refine CJ_iast 23 (k) ⟨rfl, by decide, by decide, by decide⟩ (by omega) (show k < 512 by omega) dX0_cuts_137 ?_
              have hS : cSh many wide high bl G ad c (cAr σ1 23 (upd (σ1.a 23) k (zI 0))) := hS
              have hl1 := hl1.set (k := k) (by omega) ((rMid_at (F := F) (l := l) (by omega)).trans hr)
              have g1 := rAdd_len r.1 r.2.1 (c f 1 - r.1) r.2.2.2
              have g2 := rAdd_len F.2.2.1 r.2.1 (r.1 + r.2.2.1 - F.2.2.1) r.2.2.2
              have g3 := rAdd_len r.1 r.2.1 r.2.2.1 (c f 2 - r.2.1)
              refine J_aload_n dX0_cuts_138 rfl ?_
              refine J_iload dX0_cuts_139 rfl ?_
              refine J_iload dX0_cuts_141 rfl ?_
              refine J_aload_n dX0_cuts_143 rfl ?_
              refine FNX0_x G f (hS.w hf hO.1) (hO.k hf) dX0_cuts_144 ?_
              refine J_iload dX0_cuts_147 rfl ?_
              refine J_isub_z dX0_cuts_149 ?_
              refine J_iload dX0_cuts_150 rfl ?_
              refine CC_X0_comesFree (by decide) (by decide) (Nat.le_of_ble_eq_true rfl) dX0_cuts_152 ?_
              refine c_comesFree hl1 (by simp only [List.length_append, List.length_set]; omega) (by unfold zR; omega) (by unfold zR; omega) (fun σ2 hl2 e20 => ?_)
              have hS := hS.up e20 (by decide) (by decide) (by decide) (by decide)
              refine J_rv ?_
              refine J_aload_n dX0_cuts_155 rfl ?_
              refine J_iload_n dX0_cuts_156 rfl ?_
              refine J_iload dX0_cuts_157 rfl ?_
              refine J_iload dX0_cuts_159 rfl ?_
              refine J_iload dX0_cuts_161 rfl ?_
              refine J_iadd_z dX0_cuts_163 ?_
              refine J_iload_n dX0_cuts_164 rfl ?_
              refine J_isub_z dX0_cuts_165 ?_
              refine J_iload dX0_cuts_166 rfl ?_
              refine CC_X0_comesFree (by decide) (by decide) (Nat.le_of_ble_eq_true rfl) dX0_cuts_168 ?_
              refine c_comesFree hl2 (by simp only [List.length_append, List.length_set]; omega) (by unfold zR; omega) (by unfold zR; omega) (fun σ3 hl3 e30 => ?_)
              have hS := hS.up e30 (by decide) (by decide) (by decide) (by decide)
              refine J_rv ?_
              refine J_aload_n dX0_cuts_171 rfl ?_
              refine J_iload dX0_cuts_172 rfl ?_
              refine J_iload dX0_cuts_174 rfl ?_
              refine J_iload dX0_cuts_176 rfl ?_
              refine J_aload_n dX0_cuts_178 rfl ?_
              refine FNX0_y G f (hS.w hf hO.1) (hO.k hf) dX0_cuts_179 ?_
              refine J_iload dX0_cuts_182 rfl ?_
              refine J_isub_z dX0_cuts_184 ?_
              refine CC_X0_comesFree (by decide) (by decide) (Nat.le_of_ble_eq_true rfl) dX0_cuts_185 ?_
              refine c_comesFree hl3 (by simp only [List.length_append, List.length_set]; omega) (by unfold zR; omega) (by unfold zR; omega) (fun σ4 hl4 e40 => ?_)
              have hS := hS.up e40 (by decide) (by decide) (by decide) (by decide)
              refine J_rv ?_
              refine J_aload_n dX0_cuts_188 rfl ?_
              refine J_iload dX0_cuts_189 rfl ?_
              refine J_iload_n dX0_cuts_191 rfl ?_
              refine J_iload dX0_cuts_192 rfl ?_
              refine J_iload dX0_cuts_194 rfl ?_
              refine J_iload dX0_cuts_196 rfl ?_
              refine J_iadd_z dX0_cuts_198 ?_
              refine J_iload_n dX0_cuts_199 rfl ?_
              refine J_isub_z dX0_cuts_200 ?_
              refine CC_X0_comesFree (by decide) (by decide) (Nat.le_of_ble_eq_true rfl) dX0_cuts_201 ?_
              refine c_comesFree hl4 (by simp only [List.length_append, List.length_set]; omega) (by unfold zR; omega) (by unfold zR; omega) (fun σ5 hl5 e50 => ?_)
              have hS := hS.up e50 (by decide) (by decide) (by decide) (by decide)
              refine J_rv ?_
              refine J_iinc_z ((((k + 1)) : Nat) : Int) (by omega) dX0_cuts_204 rfl rfl (by decide) _ rfl ?_
              refine J_goto (tgt := 48) dX0_cuts_207 (by decide) ?_
              refine J_fg (L' := [some (.ref (α 0)), some (.ref (ad f)), some (.int (zI (F.2.2.1))), some (.int (zI (F.2.2.2))), some (.int (zI (l.length : Nat))), some (.int (zI (0))), some (.int (zI ((k + 1 : Nat)))), none, none, none, none]) (by repeat' constructor) ?_
              have hm : rMeet (l.getD k (0, 0, 0, 0)) F := by rw [hr]; unfold rMeet; omega
              refine ih (k + 1) _ (by omega) (((((h2.sA (by decide)).trans (e20.mono (by decide) (by decide))).trans (e30.mono (by decide) (by decide))).trans (e40.mono (by decide) (by decide))).trans (e50.mono (by decide) (by decide))) ?_ (by omega)
              rw [rMid_cut (by omega) hm, hr]
              unfold rPc
              rw [e1, e2]
              rw [← List.append_assoc, ← List.append_assoc, ← List.append_assoc]
              exact hl5
            · skip
              refine J_goto (tgt := 204) dX0_cuts_127 (by decide) ?_
              refine J_iinc_z ((((k + 1)) : Nat) : Int) (by omega) dX0_cuts_204 rfl rfl (by decide) _ rfl ?_
              refine J_goto (tgt := 48) dX0_cuts_207 (by decide) ?_
              refine J_fg (L' := [some (.ref (α 0)), some (.ref (ad f)), some (.int (zI (F.2.2.1))), some (.int (zI (F.2.2.2))), some (.int (zI (l.length : Nat))), some (.int (zI (0))), some (.int (zI ((k + 1 : Nat)))), none, none, none, none]) (by repeat' constructor) ?_
              have hm : ¬ rMeet (l.getD k (0, 0, 0, 0)) F := by rw [hr]; unfold rMeet; omega
              exact ih (k + 1) σ1 (by omega) h2 (by rw [rMid_skip (by omega) hm]; exact hl1) (by omega)
theorem cl_cuts213 {E : jEnv} {α : Nat → Nat} {σ : cS} {Q : Option Value → cS → Prop} {m : List rct} {a1 : Nat} {z1 z2 z3 : Int}  (hm : m.length ≤ 512) (hz : ∀ r ∈ m, rZ r) (hk : ∀ σ', cFl (rFw m m.length) σ' → cQ [20] [21, 22, 23, 24] σ σ' → jX0_cuts E α 255 [some (.ref (α 0)), some (.ref a1), some (.int (zI (z1))), some (.int (zI (z2))), some (.int (zI (z3))), none, none, none, none, none, none] [] σ' Q)  : ∀ (n : Nat) (k : Nat) (σ1 : cS) (b : Nat → rct), k ≤ m.length → cQ [20] [21, 22, 23, 24] σ σ1 → σ1.i 20 = zI (m.length : Nat) → cFn b σ1 → (∀ i, i < (rFw m k).length → b i = rGet (rFw m k) i) → (∀ i, k ≤ i → i < m.length → b i = rGet m i) → m.length - k < n → jX0_cuts E α 213 [some (.ref (α 0)), some (.ref a1), some (.int (zI (z1))), some (.int (zI (z2))), some (.int (zI (z3))), some (.int (zI ((rFw m k).length : Nat))), some (.int (zI (k : Nat))), none, none, none, none] [] σ1 Q := by
  intro n
  induction n with
  | zero => intro k σ1 b h1 h2 h3 h4 h5 h6 hn; exact absurd hn (Nat.not_lt_zero _)
  | succ n ih =>
    intro k σ1 b h1 h2 h3 h4 h5 h6 hn
    have hle := rFw_len m k
    refine J_iload dX0_cuts_213 rfl ?_
    refine J_aload_n dX0_cuts_215 rfl ?_
    refine CG_freeMany dX0_cuts_216 ?_
    refine J_top (zI (m.length)) h3 ?_
    refine J_icmp_ge_z (tgt := 249) dX0_cuts_219 (by decide) (by unfold zR; omega) (by unfold zR; omega) (fun c219 => ?_) (fun c219 => ?_)
    · skip
      obtain rfl : k = m.length := by omega
      refine J_aload_n dX0_cuts_249 rfl ?_
      refine J_iload dX0_cuts_250 rfl ?_
      refine CP_freeMany dX0_cuts_252 ?_
      refine J_fg (L' := [some (.ref (α 0)), some (.ref a1), some (.int (zI (z1))), some (.int (zI (z2))), some (.int (zI (z3))), none, none, none, none, none, none]) (by repeat' constructor) ?_
      exact hk _ ⟨rfl, by omega, b, h4, h5⟩ (h2.sI (by decide))
    · skip
      have hbk := h6 k (Nat.le_refl _) (by omega)
      have hzk := hz _ (getD_mem (l := m) (i := k) (by omega))
      unfold rZ at hzk
      refine J_aload_n dX0_cuts_222 rfl ?_
      refine CG_freeW dX0_cuts_223 ?_
      refine J_iload dX0_cuts_226 rfl ?_
      refine CJ_iald 23 (k) ⟨rfl, by decide, by decide, by decide⟩ (by omega) (show k < 512 by omega) dX0_cuts_228 ?_
      refine J_top (zI ((m.getD k (0, 0, 0, 0)).2.2.1)) (((h4 k (by omega)).2.2.1.trans (congrArg zI (by rw [hbk])))) ?_
      refine J_if_le_z (tgt := 243) dX0_cuts_229 (by decide) (by unfold zR; omega) (fun c229 => ?_) (fun c229 => ?_)
      · skip
        have er : rFw m (k + 1) = rFw m k := by show (if 0 < (m.getD k (0, 0, 0, 0)).2.2.1 then _ else _) = _; rw [if_neg (by omega)]
        refine J_iinc_z ((((k + 1)) : Nat) : Int) (by omega) dX0_cuts_243 rfl rfl (by decide) _ rfl ?_
        refine J_goto (tgt := 213) dX0_cuts_246 (by decide) ?_
        refine J_fg (L' := [some (.ref (α 0)), some (.ref a1), some (.int (zI (z1))), some (.int (zI (z2))), some (.int (zI (z3))), some (.int (zI ((rFw m (k + 1)).length : Nat))), some (.int (zI ((k + 1 : Nat)))), none, none, none, none]) (by rw [er]; repeat' constructor) ?_
        refine ih (k + 1) _ b (by omega) h2 h3 h4 (fun i hi => by rw [er] at hi ⊢; exact h5 i hi) (fun i h h' => h6 i (by omega) h') (by omega)
      · skip
        have er : rFw m (k + 1) = rFw m k ++ [m.getD k (0, 0, 0, 0)] := by show (if 0 < (m.getD k (0, 0, 0, 0)).2.2.1 then _ else _) = _; rw [if_pos (by omega)]
        refine J_aload_n dX0_cuts_232 rfl ?_
        refine J_iload dX0_cuts_233 rfl ?_
        refine J_iload dX0_cuts_235 rfl ?_
        refine CC_X0_movesFree (by decide) (by decide) (Nat.le_of_ble_eq_true rfl) dX0_cuts_237 ?_
        refine c_movesFree (by omega) (by omega) ?_
        refine J_rv ?_
        refine J_iinc_z ((((rFw m k).length + 1) : Nat) : Int) (by omega) dX0_cuts_240 rfl rfl (by decide) _ rfl ?_
        refine J_iinc_z ((((k + 1)) : Nat) : Int) (by omega) dX0_cuts_243 rfl rfl (by decide) _ rfl ?_
        refine J_goto (tgt := 213) dX0_cuts_246 (by decide) ?_
        refine J_fg (L' := [some (.ref (α 0)), some (.ref a1), some (.int (zI (z1))), some (.int (zI (z2))), some (.int (zI (z3))), some (.int (zI ((rFw m (k + 1)).length : Nat))), some (.int (zI ((k + 1 : Nat)))), none, none, none, none]) (by rw [er]; rw [List.length_append]; repeat' constructor) ?_
        refine ih (k + 1) _ _ (by omega) (h2.move (by decide) (by decide) (by decide) (by decide)) h3 (h4.move (by omega) _) (fun i hi => ?_) (fun i h h' => ?_) (by omega)
        · rw [er] at hi ⊢
          rw [List.length_append] at hi
          show _ = List.getD _ _ _
          rw [getD_app hi]
          by_cases z : i = (rFw m k).length
          · rw [if_pos z, z, upF_s, h6 k (by omega) (by omega)]
          · rw [if_neg z, upF_n z]
            exact h5 i (by have : i < (rFw m k).length + 1 := hi; omega)
        · rw [upF_n (by omega)]
          exact h6 i (by omega) h'
theorem rMid_z {F : rct} {l : List rct} (hF : rFB F) (hl : ∀ r ∈ l, rB r) {k : Nat} : ∀ r ∈ rMid F l k, rZ r := by
  intro r hr
  unfold rMid at hr
  rcases List.mem_append.mp hr with h | h
  · rcases List.mem_append.mp h with h | h
    · obtain ⟨s, hs, rfl⟩ := List.mem_map.mp h
      have hb := hl s (List.mem_of_mem_take hs)
      unfold rZap
      unfold rB at hb
      unfold rZ
      split <;> (try simp only) <;> omega
    · exact (hl r (List.mem_of_mem_drop h)).z
  · exact rCut_z hF (fun s hs => hl s (List.mem_of_mem_take hs)) r (by unfold rCut; exact List.mem_append_right _ h)
theorem c_cuts {E : jEnv} {α : Nat → Nat} {σ : cS} {Q : Option Value → cS → Prop} {many : Nat} {wide high bl : Int} {G : Nat → Nat → Int} {ad : Nat → Nat} {c : Nat → Nat → Int} {f : Nat} {l : List rct}  (hS : cSh many wide high bl G ad c σ) (hO : shOK many wide high bl G) (hf : f < many) (hc3 : c f 3 = 0 ∨ c f 3 = 1) (hFB : rFB (c f 1, c f 2, c f 1 + mNX bl G f (c f 3), c f 2 + mNY bl G f (c f 3))) (hl : cFl l σ) (hlen : l.length ≤ 64) (hlB : ∀ r ∈ l, rB r) (hq : ∀ σ', cFl (rPr (rCut (c f 1, c f 2, c f 1 + mNX bl G f (c f 3), c f 2 + mNY bl G f (c f 3)) l) (rCut (c f 1, c f 2, c f 1 + mNX bl G f (c f 3), c f 2 + mNY bl G f (c f 3)) l).length) σ' → cQ [20] [21, 22, 23, 24, 25] σ σ' → Q none σ')  : jX0_cuts E α 0 [some (.ref (α 0)), some (.ref (ad f)), none, none, none, none, none, none, none, none, none] [] σ Q := by
  refine J_aload_n dX0_cuts_0 rfl ?_
  refine FNX0_x G f (hS.w hf hO.1) (hO.k hf) dX0_cuts_1 ?_
  refine J_aload_n dX0_cuts_4 rfl ?_
  refine J_aload_n dX0_cuts_5 rfl ?_
  refine CG_bleed dX0_cuts_6 ?_
  refine J_top (zI (bl)) hS.2.2.2.1 ?_
  refine J_aload_n dX0_cuts_9 rfl ?_
  refine FNX0_turned G f (hS.w hf hO.1) (hO.k hf) dX0_cuts_10 ?_
  refine VX3_across G f (c := (c f))  (hS.w hf hO.1) (hO.k hf) hc3 q1247 (by decide) (by decide) (Nat.le_of_ble_eq_true rfl) dX0_cuts_13 ?_
  refine J_iadd_z dX0_cuts_16 ?_
  refine J_istore_n dX0_cuts_17 rfl (by decide) _ rfl ?_
  refine J_aload_n dX0_cuts_18 rfl ?_
  refine FNX0_y G f (hS.w hf hO.1) (hO.k hf) dX0_cuts_19 ?_
  refine J_aload_n dX0_cuts_22 rfl ?_
  refine J_aload_n dX0_cuts_23 rfl ?_
  refine CG_bleed dX0_cuts_24 ?_
  refine J_top (zI (bl)) hS.2.2.2.1 ?_
  refine J_aload_n dX0_cuts_27 rfl ?_
  refine FNX0_turned G f (hS.w hf hO.1) (hO.k hf) dX0_cuts_28 ?_
  refine VX3_down G f (c := (c f))  (hS.w hf hO.1) (hO.k hf) hc3 q1248 (by decide) (by decide) (Nat.le_of_ble_eq_true rfl) dX0_cuts_31 ?_
  refine J_iadd_z dX0_cuts_34 ?_
  refine J_istore_n dX0_cuts_35 rfl (by decide) _ rfl ?_
  refine J_aload_n dX0_cuts_36 rfl ?_
  refine CG_freeMany dX0_cuts_37 ?_
  refine J_top (zI (l.length)) hl.1 ?_
  refine J_istore dX0_cuts_40 rfl (by decide) _ rfl ?_
  refine J_iconst (zI 0) dX0_cuts_42 rfl ?_
  refine J_istore dX0_cuts_43 rfl (by decide) _ rfl ?_
  refine J_iconst (zI 0) dX0_cuts_45 rfl ?_
  refine J_istore dX0_cuts_46 rfl (by decide) _ rfl ?_
  refine cl_cuts48 (F := (c f 1, c f 2, c f 1 + mNX bl G f (c f 3), c f 2 + mNY bl G f (c f 3))) hS hO hf rfl rfl hFB hlen hlB (fun σ1 hl1 e1 => ?_) _ 0 σ (by omega) cQ.refl (by rw [rMid_0]; exact hl) (Nat.lt_succ_self _)
  have hml := (rMid_len (F := (c f 1, c f 2, c f 1 + mNX bl G f (c f 3), c f 2 + mNY bl G f (c f 3))) (l := l) (k := l.length) (Nat.le_refl _)).1
  refine J_iconst (zI 0) dX0_cuts_210 rfl ?_
  refine J_istore dX0_cuts_211 rfl (by decide) _ rfl ?_
  obtain ⟨hF1, hlen1, b, hb, hbl⟩ := hl1
  refine cl_cuts213 hlen1 (rMid_z hFB hlB) (fun σ2 hl2 e2 => ?_) _ 0 σ1 b (by omega) cQ.refl hF1 hb (fun i hi => by simp [rFw] at hi) (fun i _ h => hbl i h) (Nat.lt_succ_self _)
  rw [rMid_end (fun r hr => (hlB r hr).2.2.1)] at hl2
  refine J_aload_n dX0_cuts_255 rfl ?_
  refine CC_X0_prunes (by decide) (by decide) (Nat.le_of_ble_eq_true rfl) dX0_cuts_256 ?_
  refine c_prunes hl2 (rCut_z hFB hlB) (fun σ3 hl3 e3 => ?_)
  refine J_rv ?_
  exact J_vret rfl dX0_cuts_259 (by exact hq σ3 hl3 (((e1.mono (by decide) (by decide)).trans (e2.mono (by decide) (by decide))).trans e3))
/-- the rectangles as an array a, in whatever lies at b -/
def sIn (N t k : Nat) (a b : Nat → rct) : Prop := ∀ i, i < N → i ≠ t → b i = if i < t then a i else if i ≤ k then a (i - 1) else a i
theorem cl_sorts20 {E : jEnv} {α : Nat → Nat} {σ : cS} {Q : Option Value → cS → Prop} {N k : Nat} {a : Nat → rct}  (hN : N ≤ 511) (hkN : k < N) (ha : ∀ i, i < N → rZ (a i)) (hq : ∀ (t : Nat) (σ' : cS) (b : Nat → rct), t ≤ k → cQ [] [21, 22, 23, 24] σ σ' → cFn b σ' → sIn N t k a b → b 511 = a k → (∀ i, t ≤ i → i < k → rAh (a k) (a i)) → (t = 0 ∨ ¬ rAh (a k) (a (t - 1))) → jX0_sorts E α 51 [some (.ref (α 0)), some (.int (zI (k : Nat))), some (.int (zI (t : Nat)))] [] σ' Q)  : ∀ (n : Nat) (t : Nat) (σ1 : cS) (b : Nat → rct), t ≤ k → cQ [] [21, 22, 23, 24] σ σ1 → cFn b σ1 → sIn N t k a b → b 511 = a k → (∀ i, t ≤ i → i < k → rAh (a k) (a i)) → t < n → jX0_sorts E α 20 [some (.ref (α 0)), some (.int (zI (k : Nat))), some (.int (zI (t : Nat)))] [] σ1 Q := by
  intro n
  induction n with
  | zero => intro t σ1 b h1 h2 h3 h4 h5 h6 hn; exact absurd hn (Nat.not_lt_zero _)
  | succ n ih =>
    intro t σ1 b h1 h2 h3 h4 h5 h6 hn
    refine J_iload_n dX0_sorts_20 rfl ?_
    refine J_if_le_z (tgt := 51) dX0_sorts_21 (by decide) (by unfold zR; omega) (fun c21 => ?_) (fun c21 => ?_)
    · skip
      obtain rfl : t = 0 := by omega
      exact hq 0 σ1 b (by omega) h2 h3 h4 h5 h6 (Or.inl rfl)
    · skip
      have hbt : b (t - 1) = a (t - 1) := by rw [h4 (t - 1) (by omega) (by omega), if_pos (by omega)]
      refine J_aload_n dX0_sorts_24 rfl ?_
      refine J_sipush (zI 511) dX0_sorts_25 rfl ?_
      refine J_iload_n dX0_sorts_28 rfl ?_
      refine J_iconst (zI 1) dX0_sorts_29 rfl ?_
      refine J_isub_z dX0_sorts_30 ?_
      refine J_top (zI ((t - 1 : Nat) : Int)) (congrArg zI (by omega)) ?_
      refine CC_X0_isAhead (by decide) (by decide) (Nat.le_of_ble_eq_true rfl) dX0_sorts_31 ?_
      refine c_isAhead (b := b) (p := 511) (q := t - 1) h3 (by omega) (by omega) (by rw [h5]; exact ha k (by omega)) (by rw [hbt]; exact ha _ (by omega))  (fun b31 => ?_) (fun b31 => ?_)
      · refine J_ri ?_
        rw [h5, hbt] at b31
        refine J_if_eq_n (tgt := 51) dX0_sorts_34 (by decide) (by decide) ?_
        refine J_aload_n dX0_sorts_37 rfl ?_
        refine J_iload_n dX0_sorts_38 rfl ?_
        refine J_iconst (zI 1) dX0_sorts_39 rfl ?_
        refine J_isub_z dX0_sorts_40 ?_
        refine J_top (zI ((t - 1 : Nat) : Int)) (congrArg zI (by omega)) ?_
        refine J_iload_n dX0_sorts_41 rfl ?_
        refine CC_X0_movesFree (by decide) (by decide) (Nat.le_of_ble_eq_true rfl) dX0_sorts_42 ?_
        refine c_movesFree (p := t - 1) (q := t) (by omega) (by omega) ?_
        refine J_rv ?_
        refine J_iinc_z ((t - 1)) (by omega) dX0_sorts_45 rfl rfl (by decide) _ rfl ?_
        refine J_goto (tgt := 20) dX0_sorts_48 (by decide) ?_
        refine J_fg (L' := [some (.ref (α 0)), some (.int (zI (k : Nat))), some (.int (zI ((t - 1 : Nat))))]) (by rw [show ((t - 1 : Nat) : Int) = (t : Int) - 1 by omega]; repeat' constructor) ?_
        refine ih (t - 1) _ _ (by omega) (h2.move (by decide) (by decide) (by decide) (by decide)) (h3.move (by omega) t) (fun i hi hit => ?_) (by rw [upF_n (by omega)]; exact h5) (fun i hi hik => ?_) (by omega)
        · by_cases z : i = t
          · subst z; rw [upF_s, hbt, if_neg (by omega), if_pos (by omega)]
          · rw [upF_n z, h4 i hi z]; congr 1; exact propext ⟨fun _ => by omega, fun _ => by omega⟩
        · by_cases z : i = t - 1
          · subst z; exact b31
          · exact h6 i (by omega) hik
      · refine J_ri ?_
        rw [h5, hbt] at b31
        refine J_if_eq_y (tgt := 51) dX0_sorts_34 (by decide) (by decide) ?_
        exact hq t σ1 b h1 h2 h3 h4 h5 h6 (Or.inr b31)
theorem cl_sorts2 {E : jEnv} {α : Nat → Nat} {σ : cS} {Q : Option Value → cS → Prop} {wide high : Int} {g : Int → Int → Int} {N : Nat}  (hN : N ≤ 511) (hq : ∀ (σ' : cS) (a b : Nat → rct), cQ [] [21, 22, 23, 24] σ σ' → σ'.i 20 = zI (N : Nat) → cFn b σ' → (∀ i, i < N → b i = a i) → fnS wide high g N a → srt a N → Q none σ') (hw : ∀ r, mxR wide high g r → rZ r)  : ∀ (n : Nat) (k : Nat) (σ1 : cS) (a b : Nat → rct), 1 ≤ k ∧ k ≤ 512 → cQ [] [21, 22, 23, 24] σ σ1 → σ1.i 20 = zI (N : Nat) → cFn b σ1 → (∀ i, i < N → b i = a i) → fnS wide high g N a → srt a k → N - k < n → jX0_sorts E α 2 [some (.ref (α 0)), some (.int (zI (k : Nat))), none] [] σ1 Q := by
  intro n
  induction n with
  | zero => intro k σ1 a b h1 h2 h3 h4 h5 h6 h7 hn; exact absurd hn (Nat.not_lt_zero _)
  | succ n ih =>
    intro k σ1 a b h1 h2 h3 h4 h5 h6 h7 hn
    refine J_iload_n dX0_sorts_2 rfl ?_
    refine J_aload_n dX0_sorts_3 rfl ?_
    refine CG_freeMany dX0_sorts_4 ?_
    refine J_top (zI (N)) h3 ?_
    refine J_icmp_ge_z (tgt := 65) dX0_sorts_7 (by decide) (by unfold zR; omega) (by unfold zR; omega) (fun c7 => ?_) (fun c7 => ?_)
    · skip
      exact J_vret rfl dX0_sorts_65 (by exact hq σ1 a b h2 h3 h4 h5 h6 (fun i j hij hj => h7 i j hij (by omega)))
    · skip
      refine J_aload_n dX0_sorts_10 rfl ?_
      refine J_iload_n dX0_sorts_11 rfl ?_
      refine J_sipush (zI 511) dX0_sorts_12 rfl ?_
      refine CC_X0_movesFree (by decide) (by decide) (Nat.le_of_ble_eq_true rfl) dX0_sorts_15 ?_
      refine c_movesFree (p := k) (q := 511) (by omega) (by omega) ?_
      refine J_rv ?_
      refine J_iload_n dX0_sorts_18 rfl ?_
      refine J_istore_n dX0_sorts_19 rfl (by decide) _ rfl ?_
      refine J_fg (L' := [some (.ref (α 0)), some (.int (zI (k : Nat))), some (.int (zI (k : Nat)))]) (by repeat' constructor) ?_
      refine cl_sorts20 (N := N) (k := k) (a := a) hN (by omega) (fun i hi => hw _ ((h6.2 _).mp ⟨i, hi, rfl⟩)) (fun t σ2 b2 g1 g2 g3 g4 g5 g6 g7 => ?_) _ k _ _ (Nat.le_refl _) cQ.refl (h4.move (by omega) 511) (fun i hi hik => ?_) (by rw [upF_s]; exact h5 k (by omega)) (fun i h h' => by omega) (Nat.lt_succ_self _)
      rotate_left
      · rw [upF_n (by omega), h5 i hi]; split
        · rfl
        · rw [if_neg (by omega)]
      refine J_aload_n dX0_sorts_51 rfl ?_
      refine J_sipush (zI 511) dX0_sorts_52 rfl ?_
      refine J_iload_n dX0_sorts_55 rfl ?_
      refine CC_X0_movesFree (by decide) (by decide) (Nat.le_of_ble_eq_true rfl) dX0_sorts_56 ?_
      refine c_movesFree (p := 511) (q := t) (by omega) (by omega) ?_
      refine J_rv ?_
      refine J_iinc_z ((((k + 1)) : Nat) : Int) (by omega) dX0_sorts_59 rfl rfl (by decide) _ rfl ?_
      refine J_goto (tgt := 2) dX0_sorts_62 (by decide) ?_
      refine J_fg (L' := [some (.ref (α 0)), some (.int (zI ((k + 1 : Nat)))), none]) (by repeat' constructor) ?_
      refine ih (k + 1) _ (insA a t k) _ (by omega) ((h2.move (by decide) (by decide) (by decide) (by decide)).trans (g2.move (by decide) (by decide) (by decide) (by decide))) ((g2.1.1 20 (by decide)).trans h3) (g3.move (by omega) t) (fun i hi => ?_) (ins_fn h6 g1 (by omega)) (ins_srt h7 g1 g6 g7) (by omega)
      unfold insA
      by_cases z : i = t
      · subst z; rw [upF_s, g5, if_neg (by omega), if_pos rfl]
      · rw [upF_n z, g4 i hi z, if_neg z]
theorem c_sorts {E : jEnv} {α : Nat → Nat} {σ : cS} {Q : Option Value → cS → Prop} {wide high : Int} {g : Int → Int → Int} {l : List rct}  (hl : cFl l σ) (hlen : l.length ≤ 511) (hs : frS wide high g l) (h16 : wide ≤ 16 ∧ high ≤ 16) (hq : ∀ σ', cFl (frL wide high g) σ' → cQ [] [21, 22, 23, 24] σ σ' → Q none σ')  : jX0_sorts E α 0 [some (.ref (α 0)), none, none] [] σ Q := by
  obtain ⟨hF, hl5, b, hb, hbl⟩ := hl
  refine J_iconst (zI 1) dX0_sorts_0 rfl ?_
  refine J_istore_n dX0_sorts_1 rfl (by decide) _ rfl ?_
  refine J_fg (L' := [some (.ref (α 0)), some (.int (zI ((1 : Nat)))), none]) (by repeat' constructor) ?_
  refine cl_sorts2 (wide := wide) (high := high) (g := g) (N := l.length) hlen (fun σ' a b' e f1 f2 f3 f4 f5 => ?_) (fun r hr => ?_) _ 1 σ _ b (by omega) cQ.refl hF hb hbl hs.fn (fun i j hij hj => by omega) (Nat.lt_succ_self _)
  · obtain ⟨k1, k2⟩ := srt_end f4 f5 (by omega)
    exact hq σ' ⟨by rw [← k1]; exact f1, by omega, b', f2, fun i hi => (f3 i (by omega)).trans (k2 i (by omega))⟩ e
  · have := mx_ok hr h16.1 h16.2
    unfold rOK at this
    unfold rZ
    omega
theorem mx_B {wide high : Int} {g : Int → Int → Int} {r : rct} (h : mxR wide high g r) (h1 : wide ≤ 16) (h2 : high ≤ 16) : rB r := by
  obtain ⟨a1, a2, ⟨a3, a4, a5, a6, -⟩, -⟩ := h
  unfold rB
  omega
theorem gO_s {bl : Int} {G P : Nat → Nat → Int} {page : Int} {n : Nat} (h : P n 0 = page) (hn : ∀ i j, gO bl G P page n i j = -9 ∨ True) : ∀ i j, gO bl G P page (n + 1) i j = -9 ↔ gO bl G P page n i j = -9 ∧ ¬ (P n 1 ≤ i ∧ i < P n 1 + mNX bl G n (P n 3) ∧ P n 2 ≤ j ∧ j < P n 2 + mNY bl G n (P n 3)) := by
  intro i j
  show (if _ then _ else _) = _ ↔ _
  by_cases z : P n 1 ≤ i ∧ i < P n 1 + mNX bl G n (P n 3) ∧ P n 2 ≤ j ∧ j < P n 2 + mNY bl G n (P n 3)
  · rw [if_pos ⟨h, z⟩]
    constructor
    · intro q; omega
    · intro q; exact absurd z q.2
  · rw [if_neg (fun q => z q.2)]
    exact ⟨fun q => ⟨q, z⟩, fun q => q.1⟩
theorem gO_n {bl : Int} {G P : Nat → Nat → Int} {page : Int} {n : Nat} (h : P n 0 ≠ page) (i j : Int) : gO bl G P page (n + 1) i j = gO bl G P page n i j := by
  show (if _ then _ else _) = _
  rw [if_neg (fun q => h q.1)]
theorem cl_setFree21 {E : jEnv} {α : Nat → Nat} {σ : cS} {Q : Option Value → cS → Prop} {many : Nat} {wide high bl : Int} {G : Nat → Nat → Int} {ad : Nat → Nat} {c : Nat → Nat → Int} {P : Nat → Nat → Int} {rule : Int} {page : Int}  (hS : cSh many wide high bl G ad c σ) (hO : shOK many wide high bl G) (hP : cPl many P c) (hN : plOK many P rule) (hV : plV many wide high bl G P) (hpg : 0 ≤ page ∧ page ≤ 100) (hq : ∀ σ', cFl (frL wide high (gO bl G P page many)) σ' → cQ [20] [21, 22, 23, 24, 25] σ σ' → Q none σ')  : ∀ (n : Nat) (f : Nat) (σ1 : cS) (l : List rct), f ≤ many → cQ [20] [21, 22, 23, 24, 25] σ σ1 → cFl l σ1 → frS wide high (gO bl G P page f) l → l.length ≤ 320 → many - f < n → jX0_setFree E α 21 [some (.ref (α 0)), some (.int (zI (page))), some (.int (zI (f : Nat)))] [] σ1 Q := by
  intro n
  induction n with
  | zero => intro f σ1 l h1 h2 h3 h4 h5 hn; exact absurd hn (Nat.not_lt_zero _)
  | succ n ih =>
    intro f σ1 l h1 h2 h3 h4 h5 hn
    have hO8 := hO.s
    have hS := hS.up h2 (by decide) (by decide) (by decide) (by decide)
    refine J_iload_n dX0_setFree_21 rfl ?_
    refine J_aload_n dX0_setFree_22 rfl ?_
    refine CG_many dX0_setFree_23 ?_
    refine J_top (zI (many)) hS.1 ?_
    refine J_icmp_ge_z (tgt := 58) dX0_setFree_26 (by decide) (by unfold zR; omega) (by unfold zR; omega) (fun c26 => ?_) (fun c26 => ?_)
    · skip
      obtain rfl : f = many := by omega
      refine J_aload_n dX0_setFree_58 rfl ?_
      refine CC_X0_sorts (by decide) (by decide) (Nat.le_of_ble_eq_true rfl) dX0_setFree_59 ?_
      refine c_sorts h3 (by omega) h4 (by omega) (fun σ2 l2 e2 => ?_)
      refine J_rv ?_
      exact J_vret rfl dX0_setFree_62 (by exact hq σ2 l2 (h2.trans (e2.mono (by decide) (by decide))))
    · skip
      have hf : f < many := by omega
      have hpf := hP f hf
      have hnf := hN.1 f hf
      refine J_aload_n dX0_setFree_29 rfl ?_
      refine CG_frames dX0_setFree_30 ?_
      refine J_iload_n dX0_setFree_33 rfl ?_
      refine CA_fr (hS.2.2.2.2 _ hf) (by omega) (by have := hO.1; omega) dX0_setFree_34 ?_
      refine FNX0_page G f (hS.w hf hO.1) (hO.k hf) dX0_setFree_35 ?_
      refine J_iload_n dX0_setFree_38 rfl ?_
      refine J_icmp_ne_z (tgt := 52) dX0_setFree_39 (by decide) (by unfold zR; omega) (by unfold zR; omega) (fun c39 => ?_) (fun c39 => ?_)
      · skip
        refine J_iinc_z ((((f + 1)) : Nat) : Int) (by omega) dX0_setFree_52 rfl rfl (by decide) _ rfl ?_
        refine J_goto (tgt := 21) dX0_setFree_55 (by decide) ?_
        refine J_fg (L' := [some (.ref (α 0)), some (.int (zI (page))), some (.int (zI ((f + 1 : Nat))))]) (by repeat' constructor) ?_
        exact ih (f + 1) σ1 l (by omega) h2 h3 (h4.skip (fun i j => gO_n (by omega) i j)) h5 (by omega)
      · skip
        refine J_aload_n dX0_setFree_42 rfl ?_
        refine J_aload_n dX0_setFree_43 rfl ?_
        refine CG_frames dX0_setFree_44 ?_
        refine J_iload_n dX0_setFree_47 rfl ?_
        refine CA_fr (hS.2.2.2.2 _ hf) (by omega) (by have := hO.1; omega) dX0_setFree_48 ?_
        refine CC_X0_cuts (by decide) (by decide) (Nat.le_of_ble_eq_true rfl) dX0_setFree_49 ?_
        have hvf := hV f hf (by omega)
        have hx := mNX_b hO hf (P f 3)
        have hy := mNY_b hO hf (P f 3)
        have hcc : c f 1 = P f 1 ∧ c f 2 = P f 2 ∧ c f 3 = P f 3 := by omega
        have hlB : ∀ r ∈ l, rB r := fun r hr => mx_B ((h4.2 r).mp hr) (by omega) (by omega)
        refine c_cuts hS hO hf hpf.1 (by rw [hcc.1, hcc.2.1, hcc.2.2]; unfold rFB; simp only; omega) h3 (frS.count (by omega) h4) hlB (fun σ2 l2 e2 => ?_)
        refine J_rv ?_
        refine J_iinc_z ((((f + 1)) : Nat) : Int) (by omega) dX0_setFree_52 rfl rfl (by decide) _ rfl ?_
        refine J_goto (tgt := 21) dX0_setFree_55 (by decide) ?_
        refine J_fg (L' := [some (.ref (α 0)), some (.int (zI (page))), some (.int (zI ((f + 1 : Nat))))]) (by repeat' constructor) ?_
        refine ih (f + 1) σ2 _ (by omega) (h2.trans e2) l2 (frS.cut h4 ?_ ?_) (by have := rPr_len (l := rCut (c f 1, c f 2, c f 1 + mNX bl G f (c f 3), c f 2 + mNY bl G f (c f 3)) l) (rCut (c f 1, c f 2, c f 1 + mNX bl G f (c f 3), c f 2 + mNY bl G f (c f 3)) l).length; have := rCut_len (c f 1, c f 2, c f 1 + mNX bl G f (c f 3), c f 2 + mNY bl G f (c f 3)) l; have := frS.count (n := f) (by omega) h4; omega) (by omega)
        · rw [hcc.2.2]; simp only; omega
        · rw [hcc.1, hcc.2.1, hcc.2.2]; exact gO_s (by omega) (fun _ _ => Or.inr trivial)

theorem c_setFree {E : jEnv} {α : Nat → Nat} {σ : cS} {Q : Option Value → cS → Prop} {many : Nat} {wide high bl : Int} {G : Nat → Nat → Int} {ad : Nat → Nat} {c : Nat → Nat → Int} {P : Nat → Nat → Int} {rule : Int} {page : Int}  (hS : cSh many wide high bl G ad c σ) (hO : shOK many wide high bl G) (hP : cPl many P c) (hN : plOK many P rule) (hV : plV many wide high bl G P) (hm : 0 < many) (hpg : 0 ≤ page ∧ page ≤ 100) (hq : ∀ σ', cFl (frL wide high (gO bl G P page many)) σ' → cQ [20] [21, 22, 23, 24, 25] σ σ' → Q none σ')  : jX0_setFree E α 0 [some (.ref (α 0)), some (.int (zI (page))), none] [] σ Q := by
  have hO8 := hO.s
  have hwh := hO.2.2.2.2.2.1 hm
  refine J_aload_n dX0_setFree_0 rfl ?_
  refine J_iconst (zI 0) dX0_setFree_1 rfl ?_
  refine CP_freeMany dX0_setFree_2 ?_
  have hS : cSh many wide high bl G ad c (cI σ 20 (zI 0)) := hS
  have hl0 : cFl [] (cI σ 20 (zI 0)) := ⟨rfl, by simp, _, cFn.ex _, fun i hi => by simp at hi⟩
  refine J_aload_n dX0_setFree_5 rfl ?_
  refine J_iconst (zI 0) dX0_setFree_6 rfl ?_
  refine J_iconst (zI 0) dX0_setFree_7 rfl ?_
  refine J_aload_n dX0_setFree_8 rfl ?_
  refine CG_wide dX0_setFree_9 ?_
  refine J_top (zI (wide)) hS.2.1 ?_
  refine J_aload_n dX0_setFree_12 rfl ?_
  refine CG_high dX0_setFree_13 ?_
  refine J_top (zI (high)) hS.2.2.1 ?_
  refine CC_X0_comesFree (by decide) (by decide) (Nat.le_of_ble_eq_true rfl) dX0_setFree_16 ?_
  refine c_comesFree hl0 (by simp) (by unfold zR; omega) (by unfold zR; omega) (fun σ1 l1 e1 => ?_)
  have hS := hS.up e1 (by decide) (by decide) (by decide) (by decide)
  refine J_rv ?_
  refine J_iconst (zI 0) dX0_setFree_19 rfl ?_
  refine J_istore_n dX0_setFree_20 rfl (by decide) _ rfl ?_
  refine J_fg (L' := [some (.ref (α 0)), some (.int (zI (page))), some (.int (zI ((0 : Nat))))]) (by repeat' constructor) ?_
  refine cl_setFree21 hS hO hP hN hV hpg (fun σ2 l2 e2 => hq σ2 l2 (((cQ.refl.sI (by decide)).trans (e1.mono (by decide) (by decide))).trans e2)) _ 0 σ1 [(0, 0, wide, high)] (by omega) cQ.refl ?_ (frS.start (by omega) (by omega) (fun _ _ => rfl)) (by simp) (Nat.lt_succ_self _)
  have e0 : ([] : List rct) ++ rAdd 0 0 wide high = [(0, 0, wide, high)] := by unfold rAdd; rw [if_pos (by omega)]; rfl
  rw [← e0]; exact l1
