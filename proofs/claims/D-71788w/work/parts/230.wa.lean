set_option maxRecDepth 100000
/-! the law: its world, its calls -/
def wL (E : jEnv) (α β : Nat → Nat) (s : cS × tS) : jW := fun r => if r % 2 = 0 then wC E α s.1 (r / 2) else wT E β s.2 (r / 2)
def lIv (p r : Nat) : Option Nat := if r % 2 = p then some (r / 2) else none
theorem lIv_i {p : Nat} : ∀ r r' q, lIv p r = some q → lIv p r' = some q → r = r' := by
  intro r r' q h1 h2
  unfold lIv at h1 h2
  by_cases z1 : r % 2 = p
  · rw [if_pos z1] at h1
    by_cases z2 : r' % 2 = p
    · rw [if_pos z2] at h2
      have e1 := Option.some.inj h1
      have e2 := Option.some.inj h2
      omega
    · rw [if_neg z2] at h2; cases h2
  · rw [if_neg z1] at h1; cases h1
theorem wL_c {E : jEnv} {α β : Nat → Nat} {σ σ' : cS} {τ : tS} : wL E α β (σ', τ) = j_mix (lIv 0) (wL E α β (σ, τ)) (wC E α σ') := by
  funext r
  unfold wL j_mix lIv
  by_cases z : r % 2 = 0
  · rw [if_pos z, if_pos z]
  · rw [if_neg z, if_neg z]
    show _ = if r % 2 = 0 then _ else _
    rw [if_neg z]
theorem wL_t {E : jEnv} {α β : Nat → Nat} {σ : cS} {τ τ' : tS} : wL E α β (σ, τ') = j_mix (lIv 1) (wL E α β (σ, τ)) (wT E β τ') := by
  funext r
  unfold wL j_mix lIv
  by_cases z : r % 2 = 0
  · have z1 : ¬ r % 2 = 1 := by omega
    rw [if_pos z, if_neg z1]
    show _ = if r % 2 = 0 then _ else _
    rw [if_pos z]
  · have z1 : r % 2 = 1 := by omega
    rw [if_neg z, if_pos z1]
theorem JE_lc {E : jEnv} {α β : Nat → Nat} {X1 : (Nat → Prop) → State → Prop} {y : MethodName} {ws : List Cond} {R : Room} {vs : List Value} {σ : cS} {τ : tS} {Q : Option Value → cS × tS → Prop} (hX : j_X1 X1) (h : JE E (wC E α) X1 y ws R vs σ (fun v σ' => Q v (σ', τ))) : JE E (wL E α β) X1 y ws R vs (σ, τ) Q :=
  JE.frame (lIv 0) (fun σ' => (σ', τ)) hX wL_c (fun σ' => wL_c) lIv_i (fun r2 x _ => ⟨2 * r2, by unfold lIv; rw [if_pos (by omega)]; congr 1; omega⟩) h
theorem JE_lt {E : jEnv} {α β : Nat → Nat} {X1 : (Nat → Prop) → State → Prop} {y : MethodName} {ws : List Cond} {R : Room} {vs : List Value} {σ : cS} {τ : tS} {Q : Option Value → cS × tS → Prop} (hX : j_X1 X1) (h : JE E (wT E β) X1 y ws R vs τ (fun v τ' => Q v (σ, τ'))) : JE E (wL E α β) X1 y ws R vs (σ, τ) Q :=
  JE.frame (lIv 1) (fun τ' => (σ, τ')) hX wL_t (fun τ' => wL_t) lIv_i (fun r2 x _ => ⟨2 * r2 + 1, by unfold lIv; rw [if_pos (by omega)]; congr 1; omega⟩) h
theorem xT_1 : j_X1 xT.1 := ⟨fun _ _ _ _ _ _ => trivial, fun _ _ _ _ _ _ _ _ _ => trivial⟩
/-- what the law carries: the component's, and its script -/
def xL (E : jEnv) (b n0 : Nat) (xs : Nat → Int32) (A : Nat → Prop) (s : State) : Prop := cX E A s ∧ va_X b n0 xs s s.heap ∧ b < s.heap.size ∧ ¬ A b
theorem va_X.mv {b n0 : Nat} {xs : Nat → Int32} {s U : State} {H H' : Heap} (hal : s.vm.Alike U.vm) (h : va_X b n0 xs s H) (hb : H'[b]? = H[b]?) : va_X b n0 xs U H' := by
  obtain ⟨scr, h1, h2, h3⟩ := h
  exact ⟨scr, hb.trans h1, State.isArrayOf_alike hal h2, h3⟩
theorem xL_1 {E : jEnv} {b n0 : Nat} {xs : Nat → Int32} : j_X1 (xL E b n0 xs) := by
  refine ⟨fun A U U' h hh hv => ?_, fun A A' s U h hW hsz hq hA => ?_⟩
  · obtain ⟨h1, h2, h3, h4⟩ := h
    exact ⟨cX_1.1 A U U' h1 hh hv, h2.mv (by rw [hv]; exact Vm.Alike.refl _) (by rw [hh]), by rw [hh]; exact h3, h4⟩
  · obtain ⟨h1, h2, h3, h4⟩ := h
    exact ⟨cX_1.2 A A' s U h1 hW hsz hq hA, h2.mv hW.alike (hq b h3 h4), Nat.lt_of_lt_of_le h3 hsz, fun z => h4 (hA b h3 z)⟩
section LR
variable {E : jEnv} {St : Type} {w : St → jW} {o : Option MethodName} {cc : ByteArray} {mL : Nat} {ret : Option FieldType} {own : String} {R : Room} {k n pc : Nat} {L : List (Option Value)} {st : List Value} {σ : St} {Q : Option Value → St → Prop} {b n0 : Nat} {xs : Nat → Int32}
theorem J_sld {z : Int} (m : Nat) (hz : z = m) (hm : m < n0) (hn : n0 ≤ 1000000) (d : decode cc pc = .ok (.iaload, 1)) (kk : J E w (xL E b n0 xs, o) cc mL ret own R k n (pc + 1) L (.int (xs m) :: st) σ Q) : J E w (xL E b n0 xs, o) cc mL ret own R k n pc L (.int (zI z) :: .ref b :: st) σ Q := by
  obtain ⟨g1, g2⟩ := zI_in hz hm hn
  intro p e s m' args below meth c A H locs ls C hX hA hk hn hP hD hS hL
  have hx := hX.1
  refine va_sld C.1 C.2.1 hx.2.1 hx.2.2.1 hx.2.2.2 hS g1 d ?_
  rw [g2]
  exact kk p e s m' args below meth c A H locs ls C hX hA hk hn hP hD hS hL
theorem J_slen (d : decode cc pc = .ok (.arraylength, 1)) (hn : n0 ≤ 1000000) (kk : J E w (xL E b n0 xs, o) cc mL ret own R k n (pc + 1) L (.int (zI (n0 : Nat)) :: st) σ Q) : J E w (xL E b n0 xs, o) cc mL ret own R k n pc L (.ref b :: st) σ Q := by
  intro p e s m' args below meth c A H locs ls C hX hA hk hn hP hD hS hL
  have hx := hX.1
  have h := kk p e s m' args below meth c A H locs ls C hX hA hk hn hP hD hS hL
  rw [zI_nI] at h
  exact va_slen C.1 C.2.1 hx.2.1 hx.2.2.1 hx.2.2.2 hS d h
end LR
abbrev LJ (E : jEnv) (α β : Nat → Nat) (b n0 : Nat) (xs : Nat → Int32) (ks ns pc i : Nat) (s : cS × tS) : Prop := J E (wL E α β) (xL E b n0 xs, none) cL_law 4 (some .boolean) "FrameSheetsLaw" room_1 ks ns pc [some (.ref b), some (.ref (α 0)), some (.ref (β 0)), some (.int (zI (i : Nat)))] [] s (fun v _ => v = some (.int (zI 1)))
theorem L_row {E : jEnv} {α β : Nat → Nat} {b n0 i ks ns : Nat} {xs : Nat → Int32} {σ : cS} {τ : tS} (h : Inv σ τ) (hi : i + 6 ≤ n0) (hn : n0 ≤ 384) (hkn : ks ≤ 50000 ∧ ns ≤ 3000000) (hk : ∀ σ' τ', Inv σ' τ' → LJ E α β b n0 xs (ks + 12) (ns + 400) 1147 i (σ', τ')) : LJ E α β b n0 xs ks ns 184 i (σ, τ) := by
  refine J_aload_n dL_law_184 rfl ?_
  refine J_aload_n dL_law_185 rfl ?_
  refine J_iload_n dL_law_186 rfl ?_
  refine J_iconst (zI 1) dL_law_187 rfl ?_
  refine J_iadd_z dL_law_188 ?_
  refine J_sld (i + 1) (by omega) (by omega) (by omega) dL_law_189 ?_
  refine J_aload_n dL_law_190 rfl ?_
  refine J_iload_n dL_law_191 rfl ?_
  refine J_iconst (zI 2) dL_law_192 rfl ?_
  refine J_iadd_z dL_law_193 ?_
  refine J_sld (i + 2) (by omega) (by omega) (by omega) dL_law_194 ?_
  have hs := s_row (E := E) (α := α) (β := β) h (xs (i + 1)) (xs (i + 2)) (fun _ σ' τ' => LJ E α β b n0 xs (ks + 12) (ns + 400) 1147 i (σ', τ')) (fun _ σ' τ' h' => hk σ' τ' h')
  refine J_eVW (y := yX0_row) (R' := (jRx 9 12 400)) [.int (xs (i + 1)), .int (xs (i + 2))] 2 0 rfl rfl q278 q279 q280 q105 q281 (by decide +kernel) xL_1 ⟨Nat.le_of_ble_eq_true rfl, Nat.le_of_ble_eq_true rfl⟩ (by show ks + 12 ≤ 603072 ∧ ns + 400 ≤ 7262314; omega) rfl (Nat.le_of_ble_eq_true rfl) dL_law_195 (JE.weak (fun A s h => h.1) (JE_lc cX_1 (JE.ofW (X' := (cX E, some yX0_row)) (by decide +kernel) (Nat.le_of_ble_eq_true rfl) (fun z h => (Option.some.inj h).symm) (J_mono (fun r1 σ1 hr1 => ?_) hs))))
  obtain ⟨v, rfl, ht⟩ := hr1
  refine J_ri ?_
  refine J_aload_n dL_law_198 rfl ?_
  refine J_aload_n dL_law_199 rfl ?_
  refine J_iload_n dL_law_200 rfl ?_
  refine J_iconst (zI 1) dL_law_201 rfl ?_
  refine J_iadd_z dL_law_202 ?_
  refine J_sld (i + 1) (by omega) (by omega) (by omega) dL_law_203 ?_
  refine J_aload_n dL_law_204 rfl ?_
  refine J_iload_n dL_law_205 rfl ?_
  refine J_iconst (zI 2) dL_law_206 rfl ?_
  refine J_iadd_z dL_law_207 ?_
  refine J_sld (i + 2) (by omega) (by omega) (by omega) dL_law_208 ?_
  refine J_eV (y := yX2_row) (R' := (jR 3 0 0)) [.int (xs (i + 1)), .int (xs (i + 2))] 2 1 rfl rfl q1728 q1729 q1730 q107 q1731 (by decide +kernel) xL_1 ⟨Nat.le_of_ble_eq_true rfl, Nat.le_of_ble_eq_true rfl⟩ (by show ks + 12 + 0 ≤ 603072 ∧ ns + 400 + 0 ≤ 7262314; omega) rfl (Nat.le_of_ble_eq_true rfl) dL_law_209 (JE.weak (fun _ _ _ => trivial) (JE_lt xT_1 (JE.of (X' := xT) (by decide +kernel) (Nat.le_of_ble_eq_true rfl) (fun _ z => by cases z) (J_mono (fun r2 τ1 hr2 => ?_) ht))))
  obtain ⟨rfl, hl⟩ := hr2
  refine J_ri ?_
  refine J_icmp_eq (tgt := 1147) dL_law_212 (by decide) (fun _ => ?_) (fun c9 => absurd rfl c9)
  exact hl
theorem L_lay {E : jEnv} {α β : Nat → Nat} {b n0 i ks ns : Nat} {xs : Nat → Int32} {σ : cS} {τ : tS} (h : Inv σ τ) (hi : i + 6 ≤ n0) (hn : n0 ≤ 384) (hkn : ks ≤ 50000 ∧ ns ≤ 3000000) (hk : ∀ σ' τ', Inv σ' τ' → LJ E α β b n0 xs (ks + 12) (ns + 400) 1147 i (σ', τ')) : LJ E α β b n0 xs ks ns 217 i (σ, τ) := by
  refine J_aload_n dL_law_217 rfl ?_
  refine J_aload_n dL_law_218 rfl ?_
  refine J_iload_n dL_law_219 rfl ?_
  refine J_iconst (zI 1) dL_law_220 rfl ?_
  refine J_iadd_z dL_law_221 ?_
  refine J_sld (i + 1) (by omega) (by omega) (by omega) dL_law_222 ?_
  refine J_aload_n dL_law_223 rfl ?_
  refine J_iload_n dL_law_224 rfl ?_
  refine J_iconst (zI 2) dL_law_225 rfl ?_
  refine J_iadd_z dL_law_226 ?_
  refine J_sld (i + 2) (by omega) (by omega) (by omega) dL_law_227 ?_
  refine J_aload_n dL_law_228 rfl ?_
  refine J_iload_n dL_law_229 rfl ?_
  refine J_iconst (zI 3) dL_law_230 rfl ?_
  refine J_iadd_z dL_law_231 ?_
  refine J_sld (i + 3) (by omega) (by omega) (by omega) dL_law_232 ?_
  have hs := s_lay (E := E) (α := α) (β := β) h (xs (i + 1)) (xs (i + 2)) (xs (i + 3)) (fun _ σ' τ' => LJ E α β b n0 xs (ks + 12) (ns + 400) 1147 i (σ', τ')) (fun _ σ' τ' h' => hk σ' τ' h')
  refine J_eV (y := yX0_lay) (R' := { frames := 10, cells := 12, slots := 400, locals := 10450 }) [.int (xs (i + 1)), .int (xs (i + 2)), .int (xs (i + 3))] 3 0 rfl rfl q378 q379 q380 q105 q381 (by decide +kernel) xL_1 ⟨Nat.le_of_ble_eq_true rfl, Nat.le_of_ble_eq_true rfl⟩ (by show ks + 12 ≤ 603072 ∧ ns + 400 ≤ 7262314; omega) rfl (Nat.le_of_ble_eq_true rfl) dL_law_233 (JE.weak (fun A s h => h.1) (JE_lc cX_1 (JE.of (X' := (cX E, none)) (by decide +kernel) (Nat.le_of_ble_eq_true rfl) (fun _ z => by cases z) (J_mono (fun r1 σ1 hr1 => ?_) hs))))
  obtain ⟨v, rfl, ht⟩ := hr1
  refine J_ri ?_
  refine J_aload_n dL_law_236 rfl ?_
  refine J_aload_n dL_law_237 rfl ?_
  refine J_iload_n dL_law_238 rfl ?_
  refine J_iconst (zI 1) dL_law_239 rfl ?_
  refine J_iadd_z dL_law_240 ?_
  refine J_sld (i + 1) (by omega) (by omega) (by omega) dL_law_241 ?_
  refine J_aload_n dL_law_242 rfl ?_
  refine J_iload_n dL_law_243 rfl ?_
  refine J_iconst (zI 2) dL_law_244 rfl ?_
  refine J_iadd_z dL_law_245 ?_
  refine J_sld (i + 2) (by omega) (by omega) (by omega) dL_law_246 ?_
  refine J_aload_n dL_law_247 rfl ?_
  refine J_iload_n dL_law_248 rfl ?_
  refine J_iconst (zI 3) dL_law_249 rfl ?_
  refine J_iadd_z dL_law_250 ?_
  refine J_sld (i + 3) (by omega) (by omega) (by omega) dL_law_251 ?_
  refine J_eV (y := yX2_lay) (R' := (jR 3 0 0)) [.int (xs (i + 1)), .int (xs (i + 2)), .int (xs (i + 3))] 3 1 rfl rfl q1739 q1740 q1741 q107 q1742 (by decide +kernel) xL_1 ⟨Nat.le_of_ble_eq_true rfl, Nat.le_of_ble_eq_true rfl⟩ (by show ks + 12 + 0 ≤ 603072 ∧ ns + 400 + 0 ≤ 7262314; omega) rfl (Nat.le_of_ble_eq_true rfl) dL_law_252 (JE.weak (fun _ _ _ => trivial) (JE_lt xT_1 (JE.of (X' := xT) (by decide +kernel) (Nat.le_of_ble_eq_true rfl) (fun _ z => by cases z) (J_mono (fun r2 τ1 hr2 => ?_) ht))))
  obtain ⟨rfl, hl⟩ := hr2
  refine J_ri ?_
  refine J_icmp_eq (tgt := 1147) dL_law_255 (by decide) (fun _ => ?_) (fun c9 => absurd rfl c9)
  exact hl
theorem L_at {E : jEnv} {α β : Nat → Nat} {b n0 i ks ns : Nat} {xs : Nat → Int32} {σ : cS} {τ : tS} (h : Inv σ τ) (hi : i + 6 ≤ n0) (hn : n0 ≤ 384) (hkn : ks ≤ 50000 ∧ ns ≤ 3000000) (hk : ∀ σ' τ', Inv σ' τ' → LJ E α β b n0 xs (ks + 12) (ns + 400) 1147 i (σ', τ')) : LJ E α β b n0 xs ks ns 260 i (σ, τ) := by
  refine J_aload_n dL_law_260 rfl ?_
  refine J_aload_n dL_law_261 rfl ?_
  refine J_iload_n dL_law_262 rfl ?_
  refine J_iconst (zI 1) dL_law_263 rfl ?_
  refine J_iadd_z dL_law_264 ?_
  refine J_sld (i + 1) (by omega) (by omega) (by omega) dL_law_265 ?_
  refine J_aload_n dL_law_266 rfl ?_
  refine J_iload_n dL_law_267 rfl ?_
  refine J_iconst (zI 2) dL_law_268 rfl ?_
  refine J_iadd_z dL_law_269 ?_
  refine J_sld (i + 2) (by omega) (by omega) (by omega) dL_law_270 ?_
  have hs := s_at (E := E) (α := α) (β := β) h (xs (i + 1)) (xs (i + 2)) (fun _ σ' τ' => LJ E α β b n0 xs (ks + 12) (ns + 400) 1147 i (σ', τ')) (fun _ σ' τ' h' => hk σ' τ' h')
  refine J_eVW (y := yX0_at) (R' := (jRx 9 12 400)) [.int (xs (i + 1)), .int (xs (i + 2))] 2 0 rfl rfl q434 q383 q384 q105 q385 (by decide +kernel) xL_1 ⟨Nat.le_of_ble_eq_true rfl, Nat.le_of_ble_eq_true rfl⟩ (by show ks + 12 ≤ 603072 ∧ ns + 400 ≤ 7262314; omega) rfl (Nat.le_of_ble_eq_true rfl) dL_law_271 (JE.weak (fun A s h => h.1) (JE_lc cX_1 (JE.ofW (X' := (cX E, some yX0_at)) (by decide +kernel) (Nat.le_of_ble_eq_true rfl) (fun z h => (Option.some.inj h).symm) (J_mono (fun r1 σ1 hr1 => ?_) hs))))
  obtain ⟨v, rfl, ht⟩ := hr1
  refine J_ri ?_
  refine J_aload_n dL_law_274 rfl ?_
  refine J_aload_n dL_law_275 rfl ?_
  refine J_iload_n dL_law_276 rfl ?_
  refine J_iconst (zI 1) dL_law_277 rfl ?_
  refine J_iadd_z dL_law_278 ?_
  refine J_sld (i + 1) (by omega) (by omega) (by omega) dL_law_279 ?_
  refine J_aload_n dL_law_280 rfl ?_
  refine J_iload_n dL_law_281 rfl ?_
  refine J_iconst (zI 2) dL_law_282 rfl ?_
  refine J_iadd_z dL_law_283 ?_
  refine J_sld (i + 2) (by omega) (by omega) (by omega) dL_law_284 ?_
  refine J_eV (y := yX2_at) (R' := (jR 3 0 0)) [.int (xs (i + 1)), .int (xs (i + 2))] 2 1 rfl rfl q1751 q1752 q1753 q107 q1754 (by decide +kernel) xL_1 ⟨Nat.le_of_ble_eq_true rfl, Nat.le_of_ble_eq_true rfl⟩ (by show ks + 12 + 0 ≤ 603072 ∧ ns + 400 + 0 ≤ 7262314; omega) rfl (Nat.le_of_ble_eq_true rfl) dL_law_285 (JE.weak (fun _ _ _ => trivial) (JE_lt xT_1 (JE.of (X' := xT) (by decide +kernel) (Nat.le_of_ble_eq_true rfl) (fun _ z => by cases z) (J_mono (fun r2 τ1 hr2 => ?_) ht))))
  obtain ⟨rfl, hl⟩ := hr2
  refine J_ri ?_
  refine J_icmp_eq (tgt := 1147) dL_law_288 (by decide) (fun _ => ?_) (fun c9 => absurd rfl c9)
  exact hl
theorem L_tear {E : jEnv} {α β : Nat → Nat} {b n0 i ks ns : Nat} {xs : Nat → Int32} {σ : cS} {τ : tS} (h : Inv σ τ) (hi : i + 6 ≤ n0) (hn : n0 ≤ 384) (hkn : ks ≤ 50000 ∧ ns ≤ 3000000) (hk : ∀ σ' τ', Inv σ' τ' → LJ E α β b n0 xs (ks + 0) (ns + 0) 1147 i (σ', τ')) : LJ E α β b n0 xs ks ns 293 i (σ, τ) := by
  refine J_aload_n dL_law_293 rfl ?_
  refine J_aload_n dL_law_294 rfl ?_
  refine J_iload_n dL_law_295 rfl ?_
  refine J_iconst (zI 1) dL_law_296 rfl ?_
  refine J_iadd_z dL_law_297 ?_
  refine J_sld (i + 1) (by omega) (by omega) (by omega) dL_law_298 ?_
  have hs := s_tear (E := E) (α := α) (β := β) h (xs (i + 1)) (fun _ σ' τ' => LJ E α β b n0 xs (ks + 0) (ns + 0) 1147 i (σ', τ')) (fun _ σ' τ' h' => hk σ' τ' h')
  refine J_eV (y := yX0_tear) (R' := (jR 3 0 0)) [.int (xs (i + 1))] 1 0 rfl rfl q435 q436 q437 q105 q438 (by decide +kernel) xL_1 ⟨Nat.le_of_ble_eq_true rfl, Nat.le_of_ble_eq_true rfl⟩ (by show ks + 0 ≤ 603072 ∧ ns + 0 ≤ 7262314; omega) rfl (Nat.le_of_ble_eq_true rfl) dL_law_299 (JE.weak (fun A s h => h.1) (JE_lc cX_1 (JE.of (X' := (cX E, none)) (by decide +kernel) (Nat.le_of_ble_eq_true rfl) (fun _ z => by cases z) (J_mono (fun r1 σ1 hr1 => ?_) hs))))
  obtain ⟨v, rfl, ht⟩ := hr1
  refine J_ri ?_
  refine J_aload_n dL_law_302 rfl ?_
  refine J_aload_n dL_law_303 rfl ?_
  refine J_iload_n dL_law_304 rfl ?_
  refine J_iconst (zI 1) dL_law_305 rfl ?_
  refine J_iadd_z dL_law_306 ?_
  refine J_sld (i + 1) (by omega) (by omega) (by omega) dL_law_307 ?_
  refine J_eV (y := yX2_tear) (R' := (jR 3 0 0)) [.int (xs (i + 1))] 1 1 rfl rfl q1755 q1756 q1757 q107 q1758 (by decide +kernel) xL_1 ⟨Nat.le_of_ble_eq_true rfl, Nat.le_of_ble_eq_true rfl⟩ (by show ks + 0 + 0 ≤ 603072 ∧ ns + 0 + 0 ≤ 7262314; omega) rfl (Nat.le_of_ble_eq_true rfl) dL_law_308 (JE.weak (fun _ _ _ => trivial) (JE_lt xT_1 (JE.of (X' := xT) (by decide +kernel) (Nat.le_of_ble_eq_true rfl) (fun _ z => by cases z) (J_mono (fun r2 τ1 hr2 => ?_) ht))))
  obtain ⟨rfl, hl⟩ := hr2
  refine J_ri ?_
  refine J_icmp_eq (tgt := 1147) dL_law_311 (by decide) (fun _ => ?_) (fun c9 => absurd rfl c9)
  exact hl
theorem L_copy {E : jEnv} {α β : Nat → Nat} {b n0 i ks ns : Nat} {xs : Nat → Int32} {σ : cS} {τ : tS} (h : Inv σ τ) (hi : i + 6 ≤ n0) (hn : n0 ≤ 384) (hkn : ks ≤ 50000 ∧ ns ≤ 3000000) (hk : ∀ σ' τ', Inv σ' τ' → LJ E α β b n0 xs (ks + 12) (ns + 400) 1147 i (σ', τ')) : LJ E α β b n0 xs ks ns 316 i (σ, τ) := by
  refine J_aload_n dL_law_316 rfl ?_
  refine J_aload_n dL_law_317 rfl ?_
  refine J_iload_n dL_law_318 rfl ?_
  refine J_iconst (zI 1) dL_law_319 rfl ?_
  refine J_iadd_z dL_law_320 ?_
  refine J_sld (i + 1) (by omega) (by omega) (by omega) dL_law_321 ?_
  refine J_aload_n dL_law_322 rfl ?_
  refine J_iload_n dL_law_323 rfl ?_
  refine J_iconst (zI 2) dL_law_324 rfl ?_
  refine J_iadd_z dL_law_325 ?_
  refine J_sld (i + 2) (by omega) (by omega) (by omega) dL_law_326 ?_
  refine J_aload_n dL_law_327 rfl ?_
  refine J_iload_n dL_law_328 rfl ?_
  refine J_iconst (zI 3) dL_law_329 rfl ?_
  refine J_iadd_z dL_law_330 ?_
  refine J_sld (i + 3) (by omega) (by omega) (by omega) dL_law_331 ?_
  refine J_aload_n dL_law_332 rfl ?_
  refine J_iload_n dL_law_333 rfl ?_
  refine J_iconst (zI 4) dL_law_334 rfl ?_
  refine J_iadd_z dL_law_335 ?_
  refine J_sld (i + 4) (by omega) (by omega) (by omega) dL_law_336 ?_
  refine J_aload_n dL_law_337 rfl ?_
  refine J_iload_n dL_law_338 rfl ?_
  refine J_iconst (zI 5) dL_law_339 rfl ?_
  refine J_iadd_z dL_law_340 ?_
  refine J_sld (i + 5) (by omega) (by omega) (by omega) dL_law_341 ?_
  have hs := s_copy (E := E) (α := α) (β := β) h (xs (i + 1)) (xs (i + 2)) (xs (i + 3)) (xs (i + 4)) (xs (i + 5)) (fun _ σ' τ' => LJ E α β b n0 xs (ks + 12) (ns + 400) 1147 i (σ', τ')) (fun _ σ' τ' h' => hk σ' τ' h')
  refine J_eVW (y := yX0_copy) (R' := (jRx 9 12 400)) [.int (xs (i + 1)), .int (xs (i + 2)), .int (xs (i + 3)), .int (xs (i + 4)), .int (xs (i + 5))] 5 0 rfl rfl q439 q440 q441 q105 q442 (by decide +kernel) xL_1 ⟨Nat.le_of_ble_eq_true rfl, Nat.le_of_ble_eq_true rfl⟩ (by show ks + 12 ≤ 603072 ∧ ns + 400 ≤ 7262314; omega) rfl (Nat.le_of_ble_eq_true rfl) dL_law_342 (JE.weak (fun A s h => h.1) (JE_lc cX_1 (JE.ofW (X' := (cX E, some yX0_copy)) (by decide +kernel) (Nat.le_of_ble_eq_true rfl) (fun z h => (Option.some.inj h).symm) (J_mono (fun r1 σ1 hr1 => ?_) hs))))
  obtain ⟨v, rfl, ht⟩ := hr1
  refine J_ri ?_
  refine J_aload_n dL_law_345 rfl ?_
  refine J_aload_n dL_law_346 rfl ?_
  refine J_iload_n dL_law_347 rfl ?_
  refine J_iconst (zI 1) dL_law_348 rfl ?_
  refine J_iadd_z dL_law_349 ?_
  refine J_sld (i + 1) (by omega) (by omega) (by omega) dL_law_350 ?_
  refine J_aload_n dL_law_351 rfl ?_
  refine J_iload_n dL_law_352 rfl ?_
  refine J_iconst (zI 2) dL_law_353 rfl ?_
  refine J_iadd_z dL_law_354 ?_
  refine J_sld (i + 2) (by omega) (by omega) (by omega) dL_law_355 ?_
  refine J_aload_n dL_law_356 rfl ?_
  refine J_iload_n dL_law_357 rfl ?_
  refine J_iconst (zI 3) dL_law_358 rfl ?_
  refine J_iadd_z dL_law_359 ?_
  refine J_sld (i + 3) (by omega) (by omega) (by omega) dL_law_360 ?_
  refine J_aload_n dL_law_361 rfl ?_
  refine J_iload_n dL_law_362 rfl ?_
  refine J_iconst (zI 4) dL_law_363 rfl ?_
  refine J_iadd_z dL_law_364 ?_
  refine J_sld (i + 4) (by omega) (by omega) (by omega) dL_law_365 ?_
  refine J_aload_n dL_law_366 rfl ?_
  refine J_iload_n dL_law_367 rfl ?_
  refine J_iconst (zI 5) dL_law_368 rfl ?_
  refine J_iadd_z dL_law_369 ?_
  refine J_sld (i + 5) (by omega) (by omega) (by omega) dL_law_370 ?_
  refine J_eV (y := yX2_copy) (R' := (jR 3 0 0)) [.int (xs (i + 1)), .int (xs (i + 2)), .int (xs (i + 3)), .int (xs (i + 4)), .int (xs (i + 5))] 5 1 rfl rfl q1759 q1760 q1761 q107 q1762 (by decide +kernel) xL_1 ⟨Nat.le_of_ble_eq_true rfl, Nat.le_of_ble_eq_true rfl⟩ (by show ks + 12 + 0 ≤ 603072 ∧ ns + 400 + 0 ≤ 7262314; omega) rfl (Nat.le_of_ble_eq_true rfl) dL_law_371 (JE.weak (fun _ _ _ => trivial) (JE_lt xT_1 (JE.of (X' := xT) (by decide +kernel) (Nat.le_of_ble_eq_true rfl) (fun _ z => by cases z) (J_mono (fun r2 τ1 hr2 => ?_) ht))))
  obtain ⟨rfl, hl⟩ := hr2
  refine J_ri ?_
  refine J_icmp_eq (tgt := 1147) dL_law_374 (by decide) (fun _ => ?_) (fun c9 => absurd rfl c9)
  exact hl
theorem L_mean {E : jEnv} {α β : Nat → Nat} {b n0 i ks ns : Nat} {xs : Nat → Int32} {σ : cS} {τ : tS} (h : Inv σ τ) (hi : i + 6 ≤ n0) (hn : n0 ≤ 384) (hkn : ks ≤ 50000 ∧ ns ≤ 3000000) (hk : ∀ σ' τ', Inv σ' τ' → LJ E α β b n0 xs (ks + 12) (ns + 400) 1147 i (σ', τ')) : LJ E α β b n0 xs ks ns 379 i (σ, τ) := by
  refine J_aload_n dL_law_379 rfl ?_
  refine J_aload_n dL_law_380 rfl ?_
  refine J_iload_n dL_law_381 rfl ?_
  refine J_iconst (zI 1) dL_law_382 rfl ?_
  refine J_iadd_z dL_law_383 ?_
  refine J_sld (i + 1) (by omega) (by omega) (by omega) dL_law_384 ?_
  have hs := s_mean (E := E) (α := α) (β := β) h (xs (i + 1)) (fun _ σ' τ' => LJ E α β b n0 xs (ks + 12) (ns + 400) 1147 i (σ', τ')) (fun _ σ' τ' h' => hk σ' τ' h')
  refine J_eVW (y := yX0_mean) (R' := (jRx 9 12 400)) [.int (xs (i + 1))] 1 0 rfl rfl q447 q448 q449 q105 q450 (by decide +kernel) xL_1 ⟨Nat.le_of_ble_eq_true rfl, Nat.le_of_ble_eq_true rfl⟩ (by show ks + 12 ≤ 603072 ∧ ns + 400 ≤ 7262314; omega) rfl (Nat.le_of_ble_eq_true rfl) dL_law_385 (JE.weak (fun A s h => h.1) (JE_lc cX_1 (JE.ofW (X' := (cX E, some yX0_mean)) (by decide +kernel) (Nat.le_of_ble_eq_true rfl) (fun z h => (Option.some.inj h).symm) (J_mono (fun r1 σ1 hr1 => ?_) hs))))
  obtain ⟨v, rfl, ht⟩ := hr1
  refine J_ri ?_
  refine J_aload_n dL_law_388 rfl ?_
  refine J_aload_n dL_law_389 rfl ?_
  refine J_iload_n dL_law_390 rfl ?_
  refine J_iconst (zI 1) dL_law_391 rfl ?_
  refine J_iadd_z dL_law_392 ?_
  refine J_sld (i + 1) (by omega) (by omega) (by omega) dL_law_393 ?_
  refine J_eV (y := yX2_mean) (R' := (jR 3 0 0)) [.int (xs (i + 1))] 1 1 rfl rfl q1763 q1764 q1765 q107 q1766 (by decide +kernel) xL_1 ⟨Nat.le_of_ble_eq_true rfl, Nat.le_of_ble_eq_true rfl⟩ (by show ks + 12 + 0 ≤ 603072 ∧ ns + 400 + 0 ≤ 7262314; omega) rfl (Nat.le_of_ble_eq_true rfl) dL_law_394 (JE.weak (fun _ _ _ => trivial) (JE_lt xT_1 (JE.of (X' := xT) (by decide +kernel) (Nat.le_of_ble_eq_true rfl) (fun _ z => by cases z) (J_mono (fun r2 τ1 hr2 => ?_) ht))))
  obtain ⟨rfl, hl⟩ := hr2
  refine J_ri ?_
  refine J_icmp_eq (tgt := 1147) dL_law_397 (by decide) (fun _ => ?_) (fun c9 => absurd rfl c9)
  exact hl
theorem L_text {E : jEnv} {α β : Nat → Nat} {b n0 i ks ns : Nat} {xs : Nat → Int32} {σ : cS} {τ : tS} (h : Inv σ τ) (hi : i + 6 ≤ n0) (hn : n0 ≤ 384) (hkn : ks ≤ 50000 ∧ ns ≤ 3000000) (hk : ∀ σ' τ', Inv σ' τ' → LJ E α β b n0 xs (ks + 12) (ns + 400) 1147 i (σ', τ')) : LJ E α β b n0 xs ks ns 402 i (σ, τ) := by
  refine J_aload_n dL_law_402 rfl ?_
  refine J_aload_n dL_law_403 rfl ?_
  refine J_iload_n dL_law_404 rfl ?_
  refine J_iconst (zI 1) dL_law_405 rfl ?_
  refine J_iadd_z dL_law_406 ?_
  refine J_sld (i + 1) (by omega) (by omega) (by omega) dL_law_407 ?_
  refine J_aload_n dL_law_408 rfl ?_
  refine J_iload_n dL_law_409 rfl ?_
  refine J_iconst (zI 2) dL_law_410 rfl ?_
  refine J_iadd_z dL_law_411 ?_
  refine J_sld (i + 2) (by omega) (by omega) (by omega) dL_law_412 ?_
  have hs := s_text (E := E) (α := α) (β := β) h (xs (i + 1)) (xs (i + 2)) (fun _ σ' τ' => LJ E α β b n0 xs (ks + 12) (ns + 400) 1147 i (σ', τ')) (fun _ σ' τ' h' => hk σ' τ' h')
  refine J_eVW (y := yX0_text) (R' := (jRx 9 12 400)) [.int (xs (i + 1)), .int (xs (i + 2))] 2 0 rfl rfl q465 q466 q467 q105 q468 (by decide +kernel) xL_1 ⟨Nat.le_of_ble_eq_true rfl, Nat.le_of_ble_eq_true rfl⟩ (by show ks + 12 ≤ 603072 ∧ ns + 400 ≤ 7262314; omega) rfl (Nat.le_of_ble_eq_true rfl) dL_law_413 (JE.weak (fun A s h => h.1) (JE_lc cX_1 (JE.ofW (X' := (cX E, some yX0_text)) (by decide +kernel) (Nat.le_of_ble_eq_true rfl) (fun z h => (Option.some.inj h).symm) (J_mono (fun r1 σ1 hr1 => ?_) hs))))
  obtain ⟨v, rfl, ht⟩ := hr1
  refine J_ri ?_
  refine J_aload_n dL_law_416 rfl ?_
  refine J_aload_n dL_law_417 rfl ?_
  refine J_iload_n dL_law_418 rfl ?_
  refine J_iconst (zI 1) dL_law_419 rfl ?_
  refine J_iadd_z dL_law_420 ?_
  refine J_sld (i + 1) (by omega) (by omega) (by omega) dL_law_421 ?_
  refine J_aload_n dL_law_422 rfl ?_
  refine J_iload_n dL_law_423 rfl ?_
  refine J_iconst (zI 2) dL_law_424 rfl ?_
  refine J_iadd_z dL_law_425 ?_
  refine J_sld (i + 2) (by omega) (by omega) (by omega) dL_law_426 ?_
  refine J_eV (y := yX2_text) (R' := (jR 3 0 0)) [.int (xs (i + 1)), .int (xs (i + 2))] 2 1 rfl rfl q1767 q1768 q1769 q107 q1770 (by decide +kernel) xL_1 ⟨Nat.le_of_ble_eq_true rfl, Nat.le_of_ble_eq_true rfl⟩ (by show ks + 12 + 0 ≤ 603072 ∧ ns + 400 + 0 ≤ 7262314; omega) rfl (Nat.le_of_ble_eq_true rfl) dL_law_427 (JE.weak (fun _ _ _ => trivial) (JE_lt xT_1 (JE.of (X' := xT) (by decide +kernel) (Nat.le_of_ble_eq_true rfl) (fun _ z => by cases z) (J_mono (fun r2 τ1 hr2 => ?_) ht))))
  obtain ⟨rfl, hl⟩ := hr2
  refine J_ri ?_
  refine J_icmp_eq (tgt := 1147) dL_law_430 (by decide) (fun _ => ?_) (fun c9 => absurd rfl c9)
  exact hl
theorem L_put {E : jEnv} {α β : Nat → Nat} {b n0 i ks ns : Nat} {xs : Nat → Int32} {σ : cS} {τ : tS} (h : Inv σ τ) (hi : i + 6 ≤ n0) (hn : n0 ≤ 384) (hkn : ks ≤ 50000 ∧ ns ≤ 3000000) (hk : ∀ σ' τ', Inv σ' τ' → LJ E α β b n0 xs (ks + 12) (ns + 400) 1147 i (σ', τ')) : LJ E α β b n0 xs ks ns 435 i (σ, τ) := by
  refine J_aload_n dL_law_435 rfl ?_
  refine J_aload_n dL_law_436 rfl ?_
  refine J_iload_n dL_law_437 rfl ?_
  refine J_iconst (zI 1) dL_law_438 rfl ?_
  refine J_iadd_z dL_law_439 ?_
  refine J_sld (i + 1) (by omega) (by omega) (by omega) dL_law_440 ?_
  refine J_aload_n dL_law_441 rfl ?_
  refine J_iload_n dL_law_442 rfl ?_
  refine J_iconst (zI 2) dL_law_443 rfl ?_
  refine J_iadd_z dL_law_444 ?_
  refine J_sld (i + 2) (by omega) (by omega) (by omega) dL_law_445 ?_
  refine J_aload_n dL_law_446 rfl ?_
  refine J_iload_n dL_law_447 rfl ?_
  refine J_iconst (zI 3) dL_law_448 rfl ?_
  refine J_iadd_z dL_law_449 ?_
  refine J_sld (i + 3) (by omega) (by omega) (by omega) dL_law_450 ?_
  have hs := s_put (E := E) (α := α) (β := β) h (xs (i + 1)) (xs (i + 2)) (xs (i + 3)) (fun _ σ' τ' => LJ E α β b n0 xs (ks + 12) (ns + 400) 1147 i (σ', τ')) (fun _ σ' τ' h' => hk σ' τ' h')
  refine J_eVW (y := yX0_put) (R' := (jRx 9 12 400)) [.int (xs (i + 1)), .int (xs (i + 2)), .int (xs (i + 3))] 3 0 rfl rfl q472 q473 q474 q105 q475 (by decide +kernel) xL_1 ⟨Nat.le_of_ble_eq_true rfl, Nat.le_of_ble_eq_true rfl⟩ (by show ks + 12 ≤ 603072 ∧ ns + 400 ≤ 7262314; omega) rfl (Nat.le_of_ble_eq_true rfl) dL_law_451 (JE.weak (fun A s h => h.1) (JE_lc cX_1 (JE.ofW (X' := (cX E, some yX0_put)) (by decide +kernel) (Nat.le_of_ble_eq_true rfl) (fun z h => (Option.some.inj h).symm) (J_mono (fun r1 σ1 hr1 => ?_) hs))))
  obtain ⟨v, rfl, ht⟩ := hr1
  refine J_ri ?_
  refine J_aload_n dL_law_454 rfl ?_
  refine J_aload_n dL_law_455 rfl ?_
  refine J_iload_n dL_law_456 rfl ?_
  refine J_iconst (zI 1) dL_law_457 rfl ?_
  refine J_iadd_z dL_law_458 ?_
  refine J_sld (i + 1) (by omega) (by omega) (by omega) dL_law_459 ?_
  refine J_aload_n dL_law_460 rfl ?_
  refine J_iload_n dL_law_461 rfl ?_
  refine J_iconst (zI 2) dL_law_462 rfl ?_
  refine J_iadd_z dL_law_463 ?_
  refine J_sld (i + 2) (by omega) (by omega) (by omega) dL_law_464 ?_
  refine J_aload_n dL_law_465 rfl ?_
  refine J_iload_n dL_law_466 rfl ?_
  refine J_iconst (zI 3) dL_law_467 rfl ?_
  refine J_iadd_z dL_law_468 ?_
  refine J_sld (i + 3) (by omega) (by omega) (by omega) dL_law_469 ?_
  refine J_eV (y := yX2_put) (R' := (jR 3 0 0)) [.int (xs (i + 1)), .int (xs (i + 2)), .int (xs (i + 3))] 3 1 rfl rfl q1774 q1775 q1776 q107 q1777 (by decide +kernel) xL_1 ⟨Nat.le_of_ble_eq_true rfl, Nat.le_of_ble_eq_true rfl⟩ (by show ks + 12 + 0 ≤ 603072 ∧ ns + 400 + 0 ≤ 7262314; omega) rfl (Nat.le_of_ble_eq_true rfl) dL_law_470 (JE.weak (fun _ _ _ => trivial) (JE_lt xT_1 (JE.of (X' := xT) (by decide +kernel) (Nat.le_of_ble_eq_true rfl) (fun _ z => by cases z) (J_mono (fun r2 τ1 hr2 => ?_) ht))))
  obtain ⟨rfl, hl⟩ := hr2
  refine J_ri ?_
  refine J_icmp_eq (tgt := 1147) dL_law_473 (by decide) (fun _ => ?_) (fun c9 => absurd rfl c9)
  exact hl
theorem L_fault {E : jEnv} {α β : Nat → Nat} {b n0 i ks ns : Nat} {xs : Nat → Int32} {σ : cS} {τ : tS} (h : Inv σ τ) (hi : i + 6 ≤ n0) (hn : n0 ≤ 384) (hkn : ks ≤ 50000 ∧ ns ≤ 3000000) (hk : ∀ σ' τ', Inv σ' τ' → LJ E α β b n0 xs (ks + 500) (ns + 31000) 1147 i (σ', τ')) : LJ E α β b n0 xs ks ns 478 i (σ, τ) := by
  refine J_aload_n dL_law_478 rfl ?_
  refine J_aload_n dL_law_479 rfl ?_
  refine J_iload_n dL_law_480 rfl ?_
  refine J_iconst (zI 1) dL_law_481 rfl ?_
  refine J_iadd_z dL_law_482 ?_
  refine J_sld (i + 1) (by omega) (by omega) (by omega) dL_law_483 ?_
  have hs := s_fault (E := E) (α := α) (β := β) h (xs (i + 1)) (fun _ σ' τ' => LJ E α β b n0 xs (ks + 500) (ns + 31000) 1147 i (σ', τ')) (fun _ σ' τ' h' => hk σ' τ' h')
  refine J_eV (y := yX0_fault) (R' := (jR 13 500 31000)) [.int (xs (i + 1))] 1 0 rfl rfl q476 q477 q478 q105 q479 (by decide +kernel) xL_1 ⟨Nat.le_of_ble_eq_true rfl, Nat.le_of_ble_eq_true rfl⟩ (by show ks + 500 ≤ 603072 ∧ ns + 31000 ≤ 7262314; omega) rfl (Nat.le_of_ble_eq_true rfl) dL_law_484 (JE.weak (fun A s h => h.1) (JE_lc cX_1 (JE.of (X' := (cX E, none)) (by decide +kernel) (Nat.le_of_ble_eq_true rfl) (fun _ z => by cases z) (J_mono (fun r1 σ1 hr1 => ?_) hs))))
  obtain ⟨v, rfl, ht⟩ := hr1
  refine J_ri ?_
  refine J_aload_n dL_law_487 rfl ?_
  refine J_aload_n dL_law_488 rfl ?_
  refine J_iload_n dL_law_489 rfl ?_
  refine J_iconst (zI 1) dL_law_490 rfl ?_
  refine J_iadd_z dL_law_491 ?_
  refine J_sld (i + 1) (by omega) (by omega) (by omega) dL_law_492 ?_
  refine J_eV (y := yX2_fault) (R' := (jR 8 0 0)) [.int (xs (i + 1))] 1 1 rfl rfl q1778 q1779 q1780 q107 q1781 (by decide +kernel) xL_1 ⟨Nat.le_of_ble_eq_true rfl, Nat.le_of_ble_eq_true rfl⟩ (by show ks + 500 + 0 ≤ 603072 ∧ ns + 31000 + 0 ≤ 7262314; omega) rfl (Nat.le_of_ble_eq_true rfl) dL_law_493 (JE.weak (fun _ _ _ => trivial) (JE_lt xT_1 (JE.of (X' := xT) (by decide +kernel) (Nat.le_of_ble_eq_true rfl) (fun _ z => by cases z) (J_mono (fun r2 τ1 hr2 => ?_) ht))))
  obtain ⟨rfl, hl⟩ := hr2
  refine J_ri ?_
  refine J_icmp_eq (tgt := 1147) dL_law_496 (by decide) (fun _ => ?_) (fun c9 => absurd rfl c9)
  exact hl
theorem L_sheet {E : jEnv} {α β : Nat → Nat} {b n0 i ks ns : Nat} {xs : Nat → Int32} {σ : cS} {τ : tS} (h : Inv σ τ) (hi : i + 6 ≤ n0) (hn : n0 ≤ 384) (hkn : ks ≤ 50000 ∧ ns ≤ 3000000) (hk : ∀ σ' τ', Inv σ' τ' → LJ E α β b n0 xs (ks + 501) (ns + 31000) 1147 i (σ', τ')) : LJ E α β b n0 xs ks ns 501 i (σ, τ) := by
  refine J_aload_n dL_law_501 rfl ?_
  refine J_aload_n dL_law_502 rfl ?_
  refine J_iload_n dL_law_503 rfl ?_
  refine J_iconst (zI 1) dL_law_504 rfl ?_
  refine J_iadd_z dL_law_505 ?_
  refine J_sld (i + 1) (by omega) (by omega) (by omega) dL_law_506 ?_
  have hs := s_sheet (E := E) (α := α) (β := β) h (xs (i + 1)) (fun _ σ' τ' => LJ E α β b n0 xs (ks + 501) (ns + 31000) 1147 i (σ', τ')) (fun _ σ' τ' h' => hk σ' τ' h')
  refine J_eV (y := yX0_sheet) (R' := (jR 13 501 31000)) [.int (xs (i + 1))] 1 0 rfl rfl q891 q892 q893 q105 q894 (by decide +kernel) xL_1 ⟨Nat.le_of_ble_eq_true rfl, Nat.le_of_ble_eq_true rfl⟩ (by show ks + 501 ≤ 603072 ∧ ns + 31000 ≤ 7262314; omega) rfl (Nat.le_of_ble_eq_true rfl) dL_law_507 (JE.weak (fun A s h => h.1) (JE_lc cX_1 (JE.of (X' := (cX E, none)) (by decide +kernel) (Nat.le_of_ble_eq_true rfl) (fun _ z => by cases z) (J_mono (fun r1 σ1 hr1 => ?_) hs))))
  obtain ⟨v, rfl, ht⟩ := hr1
  refine J_ri ?_
  refine J_aload_n dL_law_510 rfl ?_
  refine J_aload_n dL_law_511 rfl ?_
  refine J_iload_n dL_law_512 rfl ?_
  refine J_iconst (zI 1) dL_law_513 rfl ?_
  refine J_iadd_z dL_law_514 ?_
  refine J_sld (i + 1) (by omega) (by omega) (by omega) dL_law_515 ?_
  refine J_eV (y := yX2_sheet) (R' := (jR 8 0 0)) [.int (xs (i + 1))] 1 1 rfl rfl q1839 q1840 q1841 q107 q1842 (by decide +kernel) xL_1 ⟨Nat.le_of_ble_eq_true rfl, Nat.le_of_ble_eq_true rfl⟩ (by show ks + 501 + 0 ≤ 603072 ∧ ns + 31000 + 0 ≤ 7262314; omega) rfl (Nat.le_of_ble_eq_true rfl) dL_law_516 (JE.weak (fun _ _ _ => trivial) (JE_lt xT_1 (JE.of (X' := xT) (by decide +kernel) (Nat.le_of_ble_eq_true rfl) (fun _ z => by cases z) (J_mono (fun r2 τ1 hr2 => ?_) ht))))
  obtain ⟨rfl, hl⟩ := hr2
  refine J_ri ?_
  refine J_icmp_eq (tgt := 1147) dL_law_519 (by decide) (fun _ => ?_) (fun c9 => absurd rfl c9)
  exact hl
theorem L_write {E : jEnv} {α β : Nat → Nat} {b n0 i ks ns : Nat} {xs : Nat → Int32} {σ : cS} {τ : tS} (h : Inv σ τ) (hi : i + 6 ≤ n0) (hn : n0 ≤ 384) (hkn : ks ≤ 50000 ∧ ns ≤ 3000000) (hk : ∀ σ' τ', Inv σ' τ' → LJ E α β b n0 xs (ks + 400) (ns + 20000) 1147 i (σ', τ')) : LJ E α β b n0 xs ks ns 524 i (σ, τ) := by
  refine J_aload_n dL_law_524 rfl ?_
  refine J_aload_n dL_law_525 rfl ?_
  refine J_iload_n dL_law_526 rfl ?_
  refine J_iconst (zI 1) dL_law_527 rfl ?_
  refine J_iadd_z dL_law_528 ?_
  refine J_sld (i + 1) (by omega) (by omega) (by omega) dL_law_529 ?_
  have hs := s_write (E := E) (α := α) (β := β) h (xs (i + 1)) (fun _ σ' τ' => LJ E α β b n0 xs (ks + 400) (ns + 20000) 1147 i (σ', τ')) (fun _ σ' τ' h' => hk σ' τ' h')
  refine J_eV (y := yX0_write) (R' := (jR 11 400 20000)) [.int (xs (i + 1))] 1 0 rfl rfl q919 q920 q921 q105 q922 (by decide +kernel) xL_1 ⟨Nat.le_of_ble_eq_true rfl, Nat.le_of_ble_eq_true rfl⟩ (by show ks + 400 ≤ 603072 ∧ ns + 20000 ≤ 7262314; omega) rfl (Nat.le_of_ble_eq_true rfl) dL_law_530 (JE.weak (fun A s h => h.1) (JE_lc cX_1 (JE.of (X' := (cX E, none)) (by decide +kernel) (Nat.le_of_ble_eq_true rfl) (fun _ z => by cases z) (J_mono (fun r1 σ1 hr1 => ?_) hs))))
  obtain ⟨v, rfl, ht⟩ := hr1
  refine J_ri ?_
  refine J_aload_n dL_law_533 rfl ?_
  refine J_aload_n dL_law_534 rfl ?_
  refine J_iload_n dL_law_535 rfl ?_
  refine J_iconst (zI 1) dL_law_536 rfl ?_
  refine J_iadd_z dL_law_537 ?_
  refine J_sld (i + 1) (by omega) (by omega) (by omega) dL_law_538 ?_
  refine J_eV (y := yX2_write) (R' := (jR 3 0 0)) [.int (xs (i + 1))] 1 1 rfl rfl q1847 q1848 q1849 q107 q1850 (by decide +kernel) xL_1 ⟨Nat.le_of_ble_eq_true rfl, Nat.le_of_ble_eq_true rfl⟩ (by show ks + 400 + 0 ≤ 603072 ∧ ns + 20000 + 0 ≤ 7262314; omega) rfl (Nat.le_of_ble_eq_true rfl) dL_law_539 (JE.weak (fun _ _ _ => trivial) (JE_lt xT_1 (JE.of (X' := xT) (by decide +kernel) (Nat.le_of_ble_eq_true rfl) (fun _ z => by cases z) (J_mono (fun r2 τ1 hr2 => ?_) ht))))
  obtain ⟨rfl, hl⟩ := hr2
  refine J_ri ?_
  refine J_icmp_eq (tgt := 1147) dL_law_542 (by decide) (fun _ => ?_) (fun c9 => absurd rfl c9)
  exact hl
theorem L_frame {E : jEnv} {α β : Nat → Nat} {b n0 i ks ns : Nat} {xs : Nat → Int32} {σ : cS} {τ : tS} (h : Inv σ τ) (hi : i + 6 ≤ n0) (hn : n0 ≤ 384) (hkn : ks ≤ 50000 ∧ ns ≤ 3000000) (hk : ∀ σ' τ', Inv σ' τ' → LJ E α β b n0 xs (ks + 0) (ns + 0) 1147 i (σ', τ')) : LJ E α β b n0 xs ks ns 547 i (σ, τ) := by
  refine J_aload_n dL_law_547 rfl ?_
  refine J_aload_n dL_law_548 rfl ?_
  refine J_iload_n dL_law_549 rfl ?_
  refine J_iconst (zI 1) dL_law_550 rfl ?_
  refine J_iadd_z dL_law_551 ?_
  refine J_sld (i + 1) (by omega) (by omega) (by omega) dL_law_552 ?_
  refine J_aload_n dL_law_553 rfl ?_
  refine J_iload_n dL_law_554 rfl ?_
  refine J_iconst (zI 2) dL_law_555 rfl ?_
  refine J_iadd_z dL_law_556 ?_
  refine J_sld (i + 2) (by omega) (by omega) (by omega) dL_law_557 ?_
  have hs := s_frame (E := E) (α := α) (β := β) h (xs (i + 1)) (xs (i + 2)) (fun _ σ' τ' => LJ E α β b n0 xs (ks + 0) (ns + 0) 1147 i (σ', τ')) (fun _ σ' τ' h' => hk σ' τ' h')
  refine J_eV (y := yX0_frame) (R' := (jR 5 0 0)) [.int (xs (i + 1)), .int (xs (i + 2))] 2 0 rfl rfl q1051 q1052 q1053 q105 q1054 (by decide +kernel) xL_1 ⟨Nat.le_of_ble_eq_true rfl, Nat.le_of_ble_eq_true rfl⟩ (by show ks + 0 ≤ 603072 ∧ ns + 0 ≤ 7262314; omega) rfl (Nat.le_of_ble_eq_true rfl) dL_law_558 (JE.weak (fun A s h => h.1) (JE_lc cX_1 (JE.of (X' := (cX E, none)) (by decide +kernel) (Nat.le_of_ble_eq_true rfl) (fun _ z => by cases z) (J_mono (fun r1 σ1 hr1 => ?_) hs))))
  obtain ⟨v, rfl, ht⟩ := hr1
  refine J_ri ?_
  refine J_aload_n dL_law_561 rfl ?_
  refine J_aload_n dL_law_562 rfl ?_
  refine J_iload_n dL_law_563 rfl ?_
  refine J_iconst (zI 1) dL_law_564 rfl ?_
  refine J_iadd_z dL_law_565 ?_
  refine J_sld (i + 1) (by omega) (by omega) (by omega) dL_law_566 ?_
  refine J_aload_n dL_law_567 rfl ?_
  refine J_iload_n dL_law_568 rfl ?_
  refine J_iconst (zI 2) dL_law_569 rfl ?_
  refine J_iadd_z dL_law_570 ?_
  refine J_sld (i + 2) (by omega) (by omega) (by omega) dL_law_571 ?_
  refine J_eV (y := yX2_frame) (R' := (jR 6 0 0)) [.int (xs (i + 1)), .int (xs (i + 2))] 2 1 rfl rfl q1872 q1873 q1874 q107 q1875 (by decide +kernel) xL_1 ⟨Nat.le_of_ble_eq_true rfl, Nat.le_of_ble_eq_true rfl⟩ (by show ks + 0 + 0 ≤ 603072 ∧ ns + 0 + 0 ≤ 7262314; omega) rfl (Nat.le_of_ble_eq_true rfl) dL_law_572 (JE.weak (fun _ _ _ => trivial) (JE_lt xT_1 (JE.of (X' := xT) (by decide +kernel) (Nat.le_of_ble_eq_true rfl) (fun _ z => by cases z) (J_mono (fun r2 τ1 hr2 => ?_) ht))))
  obtain ⟨rfl, hl⟩ := hr2
  refine J_ri ?_
  refine J_icmp_eq (tgt := 1147) dL_law_575 (by decide) (fun _ => ?_) (fun c9 => absurd rfl c9)
  exact hl
theorem L_place {E : jEnv} {α β : Nat → Nat} {b n0 i ks ns : Nat} {xs : Nat → Int32} {σ : cS} {τ : tS} (h : Inv σ τ) (hi : i + 6 ≤ n0) (hn : n0 ≤ 384) (hkn : ks ≤ 50000 ∧ ns ≤ 3000000) (hk : ∀ σ' τ', Inv σ' τ' → LJ E α β b n0 xs (ks + 0) (ns + 0) 1147 i (σ', τ')) : LJ E α β b n0 xs ks ns 580 i (σ, τ) := by
  refine J_aload_n dL_law_580 rfl ?_
  refine J_aload_n dL_law_581 rfl ?_
  refine J_iload_n dL_law_582 rfl ?_
  refine J_iconst (zI 1) dL_law_583 rfl ?_
  refine J_iadd_z dL_law_584 ?_
  refine J_sld (i + 1) (by omega) (by omega) (by omega) dL_law_585 ?_
  refine J_aload_n dL_law_586 rfl ?_
  refine J_iload_n dL_law_587 rfl ?_
  refine J_iconst (zI 2) dL_law_588 rfl ?_
  refine J_iadd_z dL_law_589 ?_
  refine J_sld (i + 2) (by omega) (by omega) (by omega) dL_law_590 ?_
  have hs := s_place (E := E) (α := α) (β := β) h (xs (i + 1)) (xs (i + 2)) (fun _ σ' τ' => LJ E α β b n0 xs (ks + 0) (ns + 0) 1147 i (σ', τ')) (fun _ σ' τ' h' => hk σ' τ' h')
  refine J_eV (y := yX0_place) (R' := (jR 3 0 0)) [.int (xs (i + 1)), .int (xs (i + 2))] 2 0 rfl rfl q1144 q1145 q1146 q105 q1147 (by decide +kernel) xL_1 ⟨Nat.le_of_ble_eq_true rfl, Nat.le_of_ble_eq_true rfl⟩ (by show ks + 0 ≤ 603072 ∧ ns + 0 ≤ 7262314; omega) rfl (Nat.le_of_ble_eq_true rfl) dL_law_591 (JE.weak (fun A s h => h.1) (JE_lc cX_1 (JE.of (X' := (cX E, none)) (by decide +kernel) (Nat.le_of_ble_eq_true rfl) (fun _ z => by cases z) (J_mono (fun r1 σ1 hr1 => ?_) hs))))
  obtain ⟨v, rfl, ht⟩ := hr1
  refine J_ri ?_
  refine J_aload_n dL_law_594 rfl ?_
  refine J_aload_n dL_law_595 rfl ?_
  refine J_iload_n dL_law_596 rfl ?_
  refine J_iconst (zI 1) dL_law_597 rfl ?_
  refine J_iadd_z dL_law_598 ?_
  refine J_sld (i + 1) (by omega) (by omega) (by omega) dL_law_599 ?_
  refine J_aload_n dL_law_600 rfl ?_
  refine J_iload_n dL_law_601 rfl ?_
  refine J_iconst (zI 2) dL_law_602 rfl ?_
  refine J_iadd_z dL_law_603 ?_
  refine J_sld (i + 2) (by omega) (by omega) (by omega) dL_law_604 ?_
  refine J_eV (y := yX2_place) (R' := (jR 3 0 0)) [.int (xs (i + 1)), .int (xs (i + 2))] 2 1 rfl rfl q1908 q1909 q1910 q107 q1911 (by decide +kernel) xL_1 ⟨Nat.le_of_ble_eq_true rfl, Nat.le_of_ble_eq_true rfl⟩ (by show ks + 0 + 0 ≤ 603072 ∧ ns + 0 + 0 ≤ 7262314; omega) rfl (Nat.le_of_ble_eq_true rfl) dL_law_605 (JE.weak (fun _ _ _ => trivial) (JE_lt xT_1 (JE.of (X' := xT) (by decide +kernel) (Nat.le_of_ble_eq_true rfl) (fun _ z => by cases z) (J_mono (fun r2 τ1 hr2 => ?_) ht))))
  obtain ⟨rfl, hl⟩ := hr2
  refine J_ri ?_
  refine J_icmp_eq (tgt := 1147) dL_law_608 (by decide) (fun _ => ?_) (fun c9 => absurd rfl c9)
  exact hl
theorem L_mark {E : jEnv} {α β : Nat → Nat} {b n0 i ks ns : Nat} {xs : Nat → Int32} {σ : cS} {τ : tS} (h : Inv σ τ) (hi : i + 6 ≤ n0) (hn : n0 ≤ 384) (hkn : ks ≤ 50000 ∧ ns ≤ 3000000) (hk : ∀ σ' τ', Inv σ' τ' → LJ E α β b n0 xs (ks + 12) (ns + 1100) 1147 i (σ', τ')) : LJ E α β b n0 xs ks ns 613 i (σ, τ) := by
  refine J_aload_n dL_law_613 rfl ?_
  refine J_aload_n dL_law_614 rfl ?_
  refine J_iload_n dL_law_615 rfl ?_
  refine J_iconst (zI 1) dL_law_616 rfl ?_
  refine J_iadd_z dL_law_617 ?_
  refine J_sld (i + 1) (by omega) (by omega) (by omega) dL_law_618 ?_
  refine J_aload_n dL_law_619 rfl ?_
  refine J_iload_n dL_law_620 rfl ?_
  refine J_iconst (zI 2) dL_law_621 rfl ?_
  refine J_iadd_z dL_law_622 ?_
  refine J_sld (i + 2) (by omega) (by omega) (by omega) dL_law_623 ?_
  have hs := s_mark (E := E) (α := α) (β := β) h (xs (i + 1)) (xs (i + 2)) (fun _ σ' τ' => LJ E α β b n0 xs (ks + 12) (ns + 1100) 1147 i (σ', τ')) (fun _ σ' τ' h' => hk σ' τ' h')
  refine J_eVW (y := yX0_mark) (R' := (jRx 9 12 1100)) [.int (xs (i + 1)), .int (xs (i + 2))] 2 0 rfl rfl q1160 q1161 q1162 q105 q1163 (by decide +kernel) xL_1 ⟨Nat.le_of_ble_eq_true rfl, Nat.le_of_ble_eq_true rfl⟩ (by show ks + 12 ≤ 603072 ∧ ns + 1100 ≤ 7262314; omega) rfl (Nat.le_of_ble_eq_true rfl) dL_law_624 (JE.weak (fun A s h => h.1) (JE_lc cX_1 (JE.ofW (X' := (cX E, some yX0_mark)) (by decide +kernel) (Nat.le_of_ble_eq_true rfl) (fun z h => (Option.some.inj h).symm) (J_mono (fun r1 σ1 hr1 => ?_) hs))))
  obtain ⟨v, rfl, ht⟩ := hr1
  refine J_ri ?_
  refine J_aload_n dL_law_627 rfl ?_
  refine J_aload_n dL_law_628 rfl ?_
  refine J_iload_n dL_law_629 rfl ?_
  refine J_iconst (zI 1) dL_law_630 rfl ?_
  refine J_iadd_z dL_law_631 ?_
  refine J_sld (i + 1) (by omega) (by omega) (by omega) dL_law_632 ?_
  refine J_aload_n dL_law_633 rfl ?_
  refine J_iload_n dL_law_634 rfl ?_
  refine J_iconst (zI 2) dL_law_635 rfl ?_
  refine J_iadd_z dL_law_636 ?_
  refine J_sld (i + 2) (by omega) (by omega) (by omega) dL_law_637 ?_
  refine J_eV (y := yX2_mark) (R' := (jR 5 0 0)) [.int (xs (i + 1)), .int (xs (i + 2))] 2 1 rfl rfl q1916 q1917 q1918 q107 q1919 (by decide +kernel) xL_1 ⟨Nat.le_of_ble_eq_true rfl, Nat.le_of_ble_eq_true rfl⟩ (by show ks + 12 + 0 ≤ 603072 ∧ ns + 1100 + 0 ≤ 7262314; omega) rfl (Nat.le_of_ble_eq_true rfl) dL_law_638 (JE.weak (fun _ _ _ => trivial) (JE_lt xT_1 (JE.of (X' := xT) (by decide +kernel) (Nat.le_of_ble_eq_true rfl) (fun _ z => by cases z) (J_mono (fun r2 τ1 hr2 => ?_) ht))))
  obtain ⟨rfl, hl⟩ := hr2
  refine J_ri ?_
  refine J_icmp_eq (tgt := 1147) dL_law_641 (by decide) (fun _ => ?_) (fun c9 => absurd rfl c9)
  exact hl
theorem L_set {E : jEnv} {α β : Nat → Nat} {b n0 i ks ns : Nat} {xs : Nat → Int32} {σ : cS} {τ : tS} (h : Inv σ τ) (hi : i + 6 ≤ n0) (hn : n0 ≤ 384) (hkn : ks ≤ 50000 ∧ ns ≤ 3000000) (hk : ∀ σ' τ', Inv σ' τ' → LJ E α β b n0 xs (ks + 0) (ns + 0) 1147 i (σ', τ')) : LJ E α β b n0 xs ks ns 646 i (σ, τ) := by
  refine J_aload_n dL_law_646 rfl ?_
  refine J_aload_n dL_law_647 rfl ?_
  refine J_iload_n dL_law_648 rfl ?_
  refine J_iconst (zI 1) dL_law_649 rfl ?_
  refine J_iadd_z dL_law_650 ?_
  refine J_sld (i + 1) (by omega) (by omega) (by omega) dL_law_651 ?_
  have hs := s_set (E := E) (α := α) (β := β) h (xs (i + 1)) (fun _ σ' τ' => LJ E α β b n0 xs (ks + 0) (ns + 0) 1147 i (σ', τ')) (fun _ σ' τ' h' => hk σ' τ' h')
  refine J_eV (y := yX0_set) (R' := (jR 8 0 0)) [.int (xs (i + 1))] 1 0 rfl rfl q1218 q1219 q1220 q105 q1221 (by decide +kernel) xL_1 ⟨Nat.le_of_ble_eq_true rfl, Nat.le_of_ble_eq_true rfl⟩ (by show ks + 0 ≤ 603072 ∧ ns + 0 ≤ 7262314; omega) rfl (Nat.le_of_ble_eq_true rfl) dL_law_652 (JE.weak (fun A s h => h.1) (JE_lc cX_1 (JE.of (X' := (cX E, none)) (by decide +kernel) (Nat.le_of_ble_eq_true rfl) (fun _ z => by cases z) (J_mono (fun r1 σ1 hr1 => ?_) hs))))
  obtain ⟨v, rfl, ht⟩ := hr1
  refine J_ri ?_
  refine J_aload_n dL_law_655 rfl ?_
  refine J_aload_n dL_law_656 rfl ?_
  refine J_iload_n dL_law_657 rfl ?_
  refine J_iconst (zI 1) dL_law_658 rfl ?_
  refine J_iadd_z dL_law_659 ?_
  refine J_sld (i + 1) (by omega) (by omega) (by omega) dL_law_660 ?_
  refine J_eV (y := yX2_set) (R' := (jR 8 0 0)) [.int (xs (i + 1))] 1 1 rfl rfl q1932 q1933 q1934 q107 q1935 (by decide +kernel) xL_1 ⟨Nat.le_of_ble_eq_true rfl, Nat.le_of_ble_eq_true rfl⟩ (by show ks + 0 + 0 ≤ 603072 ∧ ns + 0 + 0 ≤ 7262314; omega) rfl (Nat.le_of_ble_eq_true rfl) dL_law_661 (JE.weak (fun _ _ _ => trivial) (JE_lt xT_1 (JE.of (X' := xT) (by decide +kernel) (Nat.le_of_ble_eq_true rfl) (fun _ z => by cases z) (J_mono (fun r2 τ1 hr2 => ?_) ht))))
  obtain ⟨rfl, hl⟩ := hr2
  refine J_ri ?_
  refine J_icmp_eq (tgt := 1147) dL_law_664 (by decide) (fun _ => ?_) (fun c9 => absurd rfl c9)
  exact hl
theorem L_lift {E : jEnv} {α β : Nat → Nat} {b n0 i ks ns : Nat} {xs : Nat → Int32} {σ : cS} {τ : tS} (h : Inv σ τ) (hi : i + 6 ≤ n0) (hn : n0 ≤ 384) (hkn : ks ≤ 50000 ∧ ns ≤ 3000000) (hk : ∀ σ' τ', Inv σ' τ' → LJ E α β b n0 xs (ks + 0) (ns + 0) 1147 i (σ', τ')) : LJ E α β b n0 xs ks ns 669 i (σ, τ) := by
  refine J_aload_n dL_law_669 rfl ?_
  refine J_aload_n dL_law_670 rfl ?_
  refine J_iload_n dL_law_671 rfl ?_
  refine J_iconst (zI 1) dL_law_672 rfl ?_
  refine J_iadd_z dL_law_673 ?_
  refine J_sld (i + 1) (by omega) (by omega) (by omega) dL_law_674 ?_
  have hs := s_lift (E := E) (α := α) (β := β) h (xs (i + 1)) (fun _ σ' τ' => LJ E α β b n0 xs (ks + 0) (ns + 0) 1147 i (σ', τ')) (fun _ σ' τ' h' => hk σ' τ' h')
  refine J_eV (y := yX0_lift) (R' := (jR 4 0 0)) [.int (xs (i + 1))] 1 0 rfl rfl q1371 q1372 q1373 q105 q1374 (by decide +kernel) xL_1 ⟨Nat.le_of_ble_eq_true rfl, Nat.le_of_ble_eq_true rfl⟩ (by show ks + 0 ≤ 603072 ∧ ns + 0 ≤ 7262314; omega) rfl (Nat.le_of_ble_eq_true rfl) dL_law_675 (JE.weak (fun A s h => h.1) (JE_lc cX_1 (JE.of (X' := (cX E, none)) (by decide +kernel) (Nat.le_of_ble_eq_true rfl) (fun _ z => by cases z) (J_mono (fun r1 σ1 hr1 => ?_) hs))))
  obtain ⟨v, rfl, ht⟩ := hr1
  refine J_ri ?_
  refine J_aload_n dL_law_678 rfl ?_
  refine J_aload_n dL_law_679 rfl ?_
  refine J_iload_n dL_law_680 rfl ?_
  refine J_iconst (zI 1) dL_law_681 rfl ?_
  refine J_iadd_z dL_law_682 ?_
  refine J_sld (i + 1) (by omega) (by omega) (by omega) dL_law_683 ?_
  refine J_eV (y := yX2_lift) (R' := (jR 3 0 0)) [.int (xs (i + 1))] 1 1 rfl rfl q1984 q1985 q1986 q107 q1987 (by decide +kernel) xL_1 ⟨Nat.le_of_ble_eq_true rfl, Nat.le_of_ble_eq_true rfl⟩ (by show ks + 0 + 0 ≤ 603072 ∧ ns + 0 + 0 ≤ 7262314; omega) rfl (Nat.le_of_ble_eq_true rfl) dL_law_684 (JE.weak (fun _ _ _ => trivial) (JE_lt xT_1 (JE.of (X' := xT) (by decide +kernel) (Nat.le_of_ble_eq_true rfl) (fun _ z => by cases z) (J_mono (fun r2 τ1 hr2 => ?_) ht))))
  obtain ⟨rfl, hl⟩ := hr2
  refine J_ri ?_
  refine J_icmp_eq (tgt := 1147) dL_law_687 (by decide) (fun _ => ?_) (fun c9 => absurd rfl c9)
  exact hl
theorem L_all {E : jEnv} {α β : Nat → Nat} {b n0 i ks ns : Nat} {xs : Nat → Int32} {σ : cS} {τ : tS} (h : Inv σ τ) (hi : i + 6 ≤ n0) (hn : n0 ≤ 384) (hkn : ks ≤ 50000 ∧ ns ≤ 3000000) (hk : ∀ σ' τ', Inv σ' τ' → LJ E α β b n0 xs (ks + 0) (ns + 0) 1147 i (σ', τ')) : LJ E α β b n0 xs ks ns 692 i (σ, τ) := by
  refine J_aload_n dL_law_692 rfl ?_
  refine J_aload_n dL_law_693 rfl ?_
  refine J_iload_n dL_law_694 rfl ?_
  refine J_iconst (zI 1) dL_law_695 rfl ?_
  refine J_iadd_z dL_law_696 ?_
  refine J_sld (i + 1) (by omega) (by omega) (by omega) dL_law_697 ?_
  have hs := s_all (E := E) (α := α) (β := β) h (xs (i + 1)) (fun _ σ' τ' => LJ E α β b n0 xs (ks + 0) (ns + 0) 1147 i (σ', τ')) (fun _ σ' τ' h' => hk σ' τ' h')
  refine J_eV (y := yX0_all) (R' := (jR 9 0 0)) [.int (xs (i + 1))] 1 0 rfl rfl q1379 q1380 q1381 q105 q1382 (by decide +kernel) xL_1 ⟨Nat.le_of_ble_eq_true rfl, Nat.le_of_ble_eq_true rfl⟩ (by show ks + 0 ≤ 603072 ∧ ns + 0 ≤ 7262314; omega) rfl (Nat.le_of_ble_eq_true rfl) dL_law_698 (JE.weak (fun A s h => h.1) (JE_lc cX_1 (JE.of (X' := (cX E, none)) (by decide +kernel) (Nat.le_of_ble_eq_true rfl) (fun _ z => by cases z) (J_mono (fun r1 σ1 hr1 => ?_) hs))))
  obtain ⟨v, rfl, ht⟩ := hr1
  refine J_ri ?_
  refine J_aload_n dL_law_701 rfl ?_
  refine J_aload_n dL_law_702 rfl ?_
  refine J_iload_n dL_law_703 rfl ?_
  refine J_iconst (zI 1) dL_law_704 rfl ?_
  refine J_iadd_z dL_law_705 ?_
  refine J_sld (i + 1) (by omega) (by omega) (by omega) dL_law_706 ?_
  refine J_eV (y := yX2_all) (R' := (jR 9 0 0)) [.int (xs (i + 1))] 1 1 rfl rfl q1992 q1993 q1994 q107 q1995 (by decide +kernel) xL_1 ⟨Nat.le_of_ble_eq_true rfl, Nat.le_of_ble_eq_true rfl⟩ (by show ks + 0 + 0 ≤ 603072 ∧ ns + 0 + 0 ≤ 7262314; omega) rfl (Nat.le_of_ble_eq_true rfl) dL_law_707 (JE.weak (fun _ _ _ => trivial) (JE_lt xT_1 (JE.of (X' := xT) (by decide +kernel) (Nat.le_of_ble_eq_true rfl) (fun _ z => by cases z) (J_mono (fun r2 τ1 hr2 => ?_) ht))))
  obtain ⟨rfl, hl⟩ := hr2
  refine J_ri ?_
  refine J_icmp_eq (tgt := 1147) dL_law_710 (by decide) (fun _ => ?_) (fun c9 => absurd rfl c9)
  exact hl
theorem L_rule {E : jEnv} {α β : Nat → Nat} {b n0 i ks ns : Nat} {xs : Nat → Int32} {σ : cS} {τ : tS} (h : Inv σ τ) (hi : i + 6 ≤ n0) (hn : n0 ≤ 384) (hkn : ks ≤ 50000 ∧ ns ≤ 3000000) (hk : ∀ σ' τ', Inv σ' τ' → LJ E α β b n0 xs (ks + 1) (ns + 0) 1147 i (σ', τ')) : LJ E α β b n0 xs ks ns 715 i (σ, τ) := by
  refine J_aload_n dL_law_715 rfl ?_
  refine J_aload_n dL_law_716 rfl ?_
  refine J_iload_n dL_law_717 rfl ?_
  refine J_iconst (zI 1) dL_law_718 rfl ?_
  refine J_iadd_z dL_law_719 ?_
  refine J_sld (i + 1) (by omega) (by omega) (by omega) dL_law_720 ?_
  have hs := s_rule (E := E) (α := α) (β := β) h (xs (i + 1)) (fun _ σ' τ' => LJ E α β b n0 xs (ks + 1) (ns + 0) 1147 i (σ', τ')) (fun _ σ' τ' h' => hk σ' τ' h')
  refine J_eV (y := yX0_rule) (R' := (jR 4 1 0)) [.int (xs (i + 1))] 1 0 rfl rfl q1392 q1393 q1394 q105 q1395 (by decide +kernel) xL_1 ⟨Nat.le_of_ble_eq_true rfl, Nat.le_of_ble_eq_true rfl⟩ (by show ks + 1 ≤ 603072 ∧ ns + 0 ≤ 7262314; omega) rfl (Nat.le_of_ble_eq_true rfl) dL_law_721 (JE.weak (fun A s h => h.1) (JE_lc cX_1 (JE.of (X' := (cX E, none)) (by decide +kernel) (Nat.le_of_ble_eq_true rfl) (fun _ z => by cases z) (J_mono (fun r1 σ1 hr1 => ?_) hs))))
  obtain ⟨v, rfl, ht⟩ := hr1
  refine J_ri ?_
  refine J_aload_n dL_law_724 rfl ?_
  refine J_aload_n dL_law_725 rfl ?_
  refine J_iload_n dL_law_726 rfl ?_
  refine J_iconst (zI 1) dL_law_727 rfl ?_
  refine J_iadd_z dL_law_728 ?_
  refine J_sld (i + 1) (by omega) (by omega) (by omega) dL_law_729 ?_
  refine J_eV (y := yX2_rule) (R' := (jR 2 0 0)) [.int (xs (i + 1))] 1 1 rfl rfl q2007 q2008 q2009 q107 q2010 (by decide +kernel) xL_1 ⟨Nat.le_of_ble_eq_true rfl, Nat.le_of_ble_eq_true rfl⟩ (by show ks + 1 + 0 ≤ 603072 ∧ ns + 0 + 0 ≤ 7262314; omega) rfl (Nat.le_of_ble_eq_true rfl) dL_law_730 (JE.weak (fun _ _ _ => trivial) (JE_lt xT_1 (JE.of (X' := xT) (by decide +kernel) (Nat.le_of_ble_eq_true rfl) (fun _ z => by cases z) (J_mono (fun r2 τ1 hr2 => ?_) ht))))
  obtain ⟨rfl, hl⟩ := hr2
  refine J_ri ?_
  refine J_icmp_eq (tgt := 1147) dL_law_733 (by decide) (fun _ => ?_) (fun c9 => absurd rfl c9)
  exact hl
theorem L_undo {E : jEnv} {α β : Nat → Nat} {b n0 i ks ns : Nat} {xs : Nat → Int32} {σ : cS} {τ : tS} (h : Inv σ τ) (hi : i + 6 ≤ n0) (hn : n0 ≤ 384) (hkn : ks ≤ 50000 ∧ ns ≤ 3000000) (hk : ∀ σ' τ', Inv σ' τ' → LJ E α β b n0 xs (ks + 1) (ns + 0) 1147 i (σ', τ')) : LJ E α β b n0 xs ks ns 738 i (σ, τ) := by
  refine J_aload_n dL_law_738 rfl ?_
  refine J_aload_n dL_law_739 rfl ?_
  refine J_iload_n dL_law_740 rfl ?_
  refine J_iconst (zI 1) dL_law_741 rfl ?_
  refine J_iadd_z dL_law_742 ?_
  refine J_sld (i + 1) (by omega) (by omega) (by omega) dL_law_743 ?_
  have hs := s_undo (E := E) (α := α) (β := β) h (xs (i + 1)) (fun _ σ' τ' => LJ E α β b n0 xs (ks + 1) (ns + 0) 1147 i (σ', τ')) (fun _ σ' τ' h' => hk σ' τ' h')
  refine J_eV (y := yX0_undo) (R' := (jR 5 1 0)) [.int (xs (i + 1))] 1 0 rfl rfl q1396 q1397 q1398 q105 q1399 (by decide +kernel) xL_1 ⟨Nat.le_of_ble_eq_true rfl, Nat.le_of_ble_eq_true rfl⟩ (by show ks + 1 ≤ 603072 ∧ ns + 0 ≤ 7262314; omega) rfl (Nat.le_of_ble_eq_true rfl) dL_law_744 (JE.weak (fun A s h => h.1) (JE_lc cX_1 (JE.of (X' := (cX E, none)) (by decide +kernel) (Nat.le_of_ble_eq_true rfl) (fun _ z => by cases z) (J_mono (fun r1 σ1 hr1 => ?_) hs))))
  obtain ⟨v, rfl, ht⟩ := hr1
  refine J_ri ?_
  refine J_aload_n dL_law_747 rfl ?_
  refine J_aload_n dL_law_748 rfl ?_
  refine J_iload_n dL_law_749 rfl ?_
  refine J_iconst (zI 1) dL_law_750 rfl ?_
  refine J_iadd_z dL_law_751 ?_
  refine J_sld (i + 1) (by omega) (by omega) (by omega) dL_law_752 ?_
  refine J_eV (y := yX2_undo) (R' := (jR 2 0 0)) [.int (xs (i + 1))] 1 1 rfl rfl q1920 q1921 q1922 q107 q1923 (by decide +kernel) xL_1 ⟨Nat.le_of_ble_eq_true rfl, Nat.le_of_ble_eq_true rfl⟩ (by show ks + 1 + 0 ≤ 603072 ∧ ns + 0 + 0 ≤ 7262314; omega) rfl (Nat.le_of_ble_eq_true rfl) dL_law_753 (JE.weak (fun _ _ _ => trivial) (JE_lt xT_1 (JE.of (X' := xT) (by decide +kernel) (Nat.le_of_ble_eq_true rfl) (fun _ z => by cases z) (J_mono (fun r2 τ1 hr2 => ?_) ht))))
  obtain ⟨rfl, hl⟩ := hr2
  refine J_ri ?_
  refine J_icmp_eq (tgt := 1147) dL_law_756 (by decide) (fun _ => ?_) (fun c9 => absurd rfl c9)
  exact hl
theorem L_keep {E : jEnv} {α β : Nat → Nat} {b n0 i ks ns : Nat} {xs : Nat → Int32} {σ : cS} {τ : tS} (h : Inv σ τ) (hi : i + 6 ≤ n0) (hn : n0 ≤ 384) (hkn : ks ≤ 50000 ∧ ns ≤ 3000000) (hk : ∀ σ' τ', Inv σ' τ' → LJ E α β b n0 xs (ks + 3) (ns + 1356) 1147 i (σ', τ')) : LJ E α β b n0 xs ks ns 761 i (σ, τ) := by
  refine J_aload_n dL_law_761 rfl ?_
  refine J_aload_n dL_law_762 rfl ?_
  refine J_iload_n dL_law_763 rfl ?_
  refine J_iconst (zI 1) dL_law_764 rfl ?_
  refine J_iadd_z dL_law_765 ?_
  refine J_sld (i + 1) (by omega) (by omega) (by omega) dL_law_766 ?_
  have hs := s_keep (E := E) (α := α) (β := β) h (xs (i + 1)) (fun _ σ' τ' => LJ E α β b n0 xs (ks + 3) (ns + 1356) 1147 i (σ', τ')) (fun _ σ' τ' h' => hk σ' τ' h')
  refine J_eV (y := yX0_keep) (R' := (jR 3 3 1356)) [.int (xs (i + 1))] 1 0 rfl rfl q1404 q1405 q1406 q105 q1407 (by decide +kernel) xL_1 ⟨Nat.le_of_ble_eq_true rfl, Nat.le_of_ble_eq_true rfl⟩ (by show ks + 3 ≤ 603072 ∧ ns + 1356 ≤ 7262314; omega) rfl (Nat.le_of_ble_eq_true rfl) dL_law_767 (JE.weak (fun A s h => h.1) (JE_lc cX_1 (JE.of (X' := (cX E, none)) (by decide +kernel) (Nat.le_of_ble_eq_true rfl) (fun _ z => by cases z) (J_mono (fun r1 σ1 hr1 => ?_) hs))))
  obtain ⟨v, rfl, ht⟩ := hr1
  refine J_ri ?_
  refine J_aload_n dL_law_770 rfl ?_
  refine J_aload_n dL_law_771 rfl ?_
  refine J_iload_n dL_law_772 rfl ?_
  refine J_iconst (zI 1) dL_law_773 rfl ?_
  refine J_iadd_z dL_law_774 ?_
  refine J_sld (i + 1) (by omega) (by omega) (by omega) dL_law_775 ?_
  refine J_eV (y := yX2_keep) (R' := (jR 2 0 0)) [.int (xs (i + 1))] 1 1 rfl rfl q1924 q1925 q1926 q107 q1927 (by decide +kernel) xL_1 ⟨Nat.le_of_ble_eq_true rfl, Nat.le_of_ble_eq_true rfl⟩ (by show ks + 3 + 0 ≤ 603072 ∧ ns + 1356 + 0 ≤ 7262314; omega) rfl (Nat.le_of_ble_eq_true rfl) dL_law_776 (JE.weak (fun _ _ _ => trivial) (JE_lt xT_1 (JE.of (X' := xT) (by decide +kernel) (Nat.le_of_ble_eq_true rfl) (fun _ z => by cases z) (J_mono (fun r2 τ1 hr2 => ?_) ht))))
  obtain ⟨rfl, hl⟩ := hr2
  refine J_ri ?_
  refine J_icmp_eq (tgt := 1147) dL_law_779 (by decide) (fun _ => ?_) (fun c9 => absurd rfl c9)
  exact hl
theorem L_on {E : jEnv} {α β : Nat → Nat} {b n0 i ks ns : Nat} {xs : Nat → Int32} {σ : cS} {τ : tS} (h : Inv σ τ) (hi : i + 6 ≤ n0) (hn : n0 ≤ 384) (hkn : ks ≤ 50000 ∧ ns ≤ 3000000) (hk : ∀ σ' τ', Inv σ' τ' → LJ E α β b n0 xs (ks + 1) (ns + 0) 1147 i (σ', τ')) : LJ E α β b n0 xs ks ns 784 i (σ, τ) := by
  refine J_aload_n dL_law_784 rfl ?_
  refine J_aload_n dL_law_785 rfl ?_
  refine J_iload_n dL_law_786 rfl ?_
  refine J_iconst (zI 1) dL_law_787 rfl ?_
  refine J_iadd_z dL_law_788 ?_
  refine J_sld (i + 1) (by omega) (by omega) (by omega) dL_law_789 ?_
  have hs := s_on (E := E) (α := α) (β := β) h (xs (i + 1)) (fun _ σ' τ' => LJ E α β b n0 xs (ks + 1) (ns + 0) 1147 i (σ', τ')) (fun _ σ' τ' h' => hk σ' τ' h')
  refine J_eV (y := yX0_on) (R' := (jR 5 1 0)) [.int (xs (i + 1))] 1 0 rfl rfl q1428 q1429 q1430 q105 q1431 (by decide +kernel) xL_1 ⟨Nat.le_of_ble_eq_true rfl, Nat.le_of_ble_eq_true rfl⟩ (by show ks + 1 ≤ 603072 ∧ ns + 0 ≤ 7262314; omega) rfl (Nat.le_of_ble_eq_true rfl) dL_law_790 (JE.weak (fun A s h => h.1) (JE_lc cX_1 (JE.of (X' := (cX E, none)) (by decide +kernel) (Nat.le_of_ble_eq_true rfl) (fun _ z => by cases z) (J_mono (fun r1 σ1 hr1 => ?_) hs))))
  obtain ⟨v, rfl, ht⟩ := hr1
  refine J_ri ?_
  refine J_aload_n dL_law_793 rfl ?_
  refine J_aload_n dL_law_794 rfl ?_
  refine J_iload_n dL_law_795 rfl ?_
  refine J_iconst (zI 1) dL_law_796 rfl ?_
  refine J_iadd_z dL_law_797 ?_
  refine J_sld (i + 1) (by omega) (by omega) (by omega) dL_law_798 ?_
  refine J_eV (y := yX2_on) (R' := (jR 2 0 0)) [.int (xs (i + 1))] 1 1 rfl rfl q1928 q1929 q1930 q107 q1931 (by decide +kernel) xL_1 ⟨Nat.le_of_ble_eq_true rfl, Nat.le_of_ble_eq_true rfl⟩ (by show ks + 1 + 0 ≤ 603072 ∧ ns + 0 + 0 ≤ 7262314; omega) rfl (Nat.le_of_ble_eq_true rfl) dL_law_799 (JE.weak (fun _ _ _ => trivial) (JE_lt xT_1 (JE.of (X' := xT) (by decide +kernel) (Nat.le_of_ble_eq_true rfl) (fun _ z => by cases z) (J_mono (fun r2 τ1 hr2 => ?_) ht))))
  obtain ⟨rfl, hl⟩ := hr2
  refine J_ri ?_
  refine J_icmp_eq (tgt := 1147) dL_law_802 (by decide) (fun _ => ?_) (fun c9 => absurd rfl c9)
  exact hl
theorem L_free {E : jEnv} {α β : Nat → Nat} {b n0 i ks ns : Nat} {xs : Nat → Int32} {σ : cS} {τ : tS} (h : Inv σ τ) (hi : i + 6 ≤ n0) (hn : n0 ≤ 384) (hkn : ks ≤ 50000 ∧ ns ≤ 3000000) (hk : ∀ σ' τ', Inv σ' τ' → LJ E α β b n0 xs (ks + 0) (ns + 0) 1147 i (σ', τ')) : LJ E α β b n0 xs ks ns 807 i (σ, τ) := by
  refine J_aload_n dL_law_807 rfl ?_
  refine J_aload_n dL_law_808 rfl ?_
  refine J_iload_n dL_law_809 rfl ?_
  refine J_iconst (zI 1) dL_law_810 rfl ?_
  refine J_iadd_z dL_law_811 ?_
  refine J_sld (i + 1) (by omega) (by omega) (by omega) dL_law_812 ?_
  refine J_aload_n dL_law_813 rfl ?_
  refine J_iload_n dL_law_814 rfl ?_
  refine J_iconst (zI 2) dL_law_815 rfl ?_
  refine J_iadd_z dL_law_816 ?_
  refine J_sld (i + 2) (by omega) (by omega) (by omega) dL_law_817 ?_
  refine J_aload_n dL_law_818 rfl ?_
  refine J_iload_n dL_law_819 rfl ?_
  refine J_iconst (zI 3) dL_law_820 rfl ?_
  refine J_iadd_z dL_law_821 ?_
  refine J_sld (i + 3) (by omega) (by omega) (by omega) dL_law_822 ?_
  have hs := s_free (E := E) (α := α) (β := β) h (xs (i + 1)) (xs (i + 2)) (xs (i + 3)) (fun _ σ' τ' => LJ E α β b n0 xs (ks + 0) (ns + 0) 1147 i (σ', τ')) (fun _ σ' τ' h' => hk σ' τ' h')
  refine J_eV (y := yX0_free) (R' := (jR 6 0 0)) [.int (xs (i + 1)), .int (xs (i + 2)), .int (xs (i + 3))] 3 0 rfl rfl q1432 q1433 q1434 q105 q1435 (by decide +kernel) xL_1 ⟨Nat.le_of_ble_eq_true rfl, Nat.le_of_ble_eq_true rfl⟩ (by show ks + 0 ≤ 603072 ∧ ns + 0 ≤ 7262314; omega) rfl (Nat.le_of_ble_eq_true rfl) dL_law_823 (JE.weak (fun A s h => h.1) (JE_lc cX_1 (JE.of (X' := (cX E, none)) (by decide +kernel) (Nat.le_of_ble_eq_true rfl) (fun _ z => by cases z) (J_mono (fun r1 σ1 hr1 => ?_) hs))))
  obtain ⟨v, rfl, ht⟩ := hr1
  refine J_ri ?_
  refine J_aload_n dL_law_826 rfl ?_
  refine J_aload_n dL_law_827 rfl ?_
  refine J_iload_n dL_law_828 rfl ?_
  refine J_iconst (zI 1) dL_law_829 rfl ?_
  refine J_iadd_z dL_law_830 ?_
  refine J_sld (i + 1) (by omega) (by omega) (by omega) dL_law_831 ?_
  refine J_aload_n dL_law_832 rfl ?_
  refine J_iload_n dL_law_833 rfl ?_
  refine J_iconst (zI 2) dL_law_834 rfl ?_
  refine J_iadd_z dL_law_835 ?_
  refine J_sld (i + 2) (by omega) (by omega) (by omega) dL_law_836 ?_
  refine J_aload_n dL_law_837 rfl ?_
  refine J_iload_n dL_law_838 rfl ?_
  refine J_iconst (zI 3) dL_law_839 rfl ?_
  refine J_iadd_z dL_law_840 ?_
  refine J_sld (i + 3) (by omega) (by omega) (by omega) dL_law_841 ?_
  refine J_eV (y := yX2_free) (R' := (jR 7 0 0)) [.int (xs (i + 1)), .int (xs (i + 2)), .int (xs (i + 3))] 3 1 rfl rfl q2011 q2012 q2013 q107 q2014 (by decide +kernel) xL_1 ⟨Nat.le_of_ble_eq_true rfl, Nat.le_of_ble_eq_true rfl⟩ (by show ks + 0 + 0 ≤ 603072 ∧ ns + 0 + 0 ≤ 7262314; omega) rfl (Nat.le_of_ble_eq_true rfl) dL_law_842 (JE.weak (fun _ _ _ => trivial) (JE_lt xT_1 (JE.of (X' := xT) (by decide +kernel) (Nat.le_of_ble_eq_true rfl) (fun _ z => by cases z) (J_mono (fun r2 τ1 hr2 => ?_) ht))))
  obtain ⟨rfl, hl⟩ := hr2
  refine J_ri ?_
  refine J_icmp_eq (tgt := 1147) dL_law_845 (by decide) (fun _ => ?_) (fun c9 => absurd rfl c9)
  exact hl
theorem L_seen {E : jEnv} {α β : Nat → Nat} {b n0 i ks ns : Nat} {xs : Nat → Int32} {σ : cS} {τ : tS} (h : Inv σ τ) (hi : i + 6 ≤ n0) (hn : n0 ≤ 384) (hkn : ks ≤ 50000 ∧ ns ≤ 3000000) (hk : ∀ σ' τ', Inv σ' τ' → LJ E α β b n0 xs (ks + 0) (ns + 0) 1147 i (σ', τ')) : LJ E α β b n0 xs ks ns 850 i (σ, τ) := by
  refine J_aload_n dL_law_850 rfl ?_
  refine J_aload_n dL_law_851 rfl ?_
  refine J_iload_n dL_law_852 rfl ?_
  refine J_iconst (zI 1) dL_law_853 rfl ?_
  refine J_iadd_z dL_law_854 ?_
  refine J_sld (i + 1) (by omega) (by omega) (by omega) dL_law_855 ?_
  refine J_aload_n dL_law_856 rfl ?_
  refine J_iload_n dL_law_857 rfl ?_
  refine J_iconst (zI 2) dL_law_858 rfl ?_
  refine J_iadd_z dL_law_859 ?_
  refine J_sld (i + 2) (by omega) (by omega) (by omega) dL_law_860 ?_
  refine J_aload_n dL_law_861 rfl ?_
  refine J_iload_n dL_law_862 rfl ?_
  refine J_iconst (zI 3) dL_law_863 rfl ?_
  refine J_iadd_z dL_law_864 ?_
  refine J_sld (i + 3) (by omega) (by omega) (by omega) dL_law_865 ?_
  have hs := s_seen (E := E) (α := α) (β := β) h (xs (i + 1)) (xs (i + 2)) (xs (i + 3)) (fun _ σ' τ' => LJ E α β b n0 xs (ks + 0) (ns + 0) 1147 i (σ', τ')) (fun _ σ' τ' h' => hk σ' τ' h')
  refine J_eV (y := yX0_seen) (R' := (jR 5 0 0)) [.int (xs (i + 1)), .int (xs (i + 2)), .int (xs (i + 3))] 3 0 rfl rfl q1444 q1445 q1446 q105 q1447 (by decide +kernel) xL_1 ⟨Nat.le_of_ble_eq_true rfl, Nat.le_of_ble_eq_true rfl⟩ (by show ks + 0 ≤ 603072 ∧ ns + 0 ≤ 7262314; omega) rfl (Nat.le_of_ble_eq_true rfl) dL_law_866 (JE.weak (fun A s h => h.1) (JE_lc cX_1 (JE.of (X' := (cX E, none)) (by decide +kernel) (Nat.le_of_ble_eq_true rfl) (fun _ z => by cases z) (J_mono (fun r1 σ1 hr1 => ?_) hs))))
  obtain ⟨v, rfl, ht⟩ := hr1
  refine J_ri ?_
  refine J_aload_n dL_law_869 rfl ?_
  refine J_aload_n dL_law_870 rfl ?_
  refine J_iload_n dL_law_871 rfl ?_
  refine J_iconst (zI 1) dL_law_872 rfl ?_
  refine J_iadd_z dL_law_873 ?_
  refine J_sld (i + 1) (by omega) (by omega) (by omega) dL_law_874 ?_
  refine J_aload_n dL_law_875 rfl ?_
  refine J_iload_n dL_law_876 rfl ?_
  refine J_iconst (zI 2) dL_law_877 rfl ?_
  refine J_iadd_z dL_law_878 ?_
  refine J_sld (i + 2) (by omega) (by omega) (by omega) dL_law_879 ?_
  refine J_aload_n dL_law_880 rfl ?_
  refine J_iload_n dL_law_881 rfl ?_
  refine J_iconst (zI 3) dL_law_882 rfl ?_
  refine J_iadd_z dL_law_883 ?_
  refine J_sld (i + 3) (by omega) (by omega) (by omega) dL_law_884 ?_
  refine J_eV (y := yX2_seen) (R' := (jR 6 0 0)) [.int (xs (i + 1)), .int (xs (i + 2)), .int (xs (i + 3))] 3 1 rfl rfl q2019 q2020 q2021 q107 q2022 (by decide +kernel) xL_1 ⟨Nat.le_of_ble_eq_true rfl, Nat.le_of_ble_eq_true rfl⟩ (by show ks + 0 + 0 ≤ 603072 ∧ ns + 0 + 0 ≤ 7262314; omega) rfl (Nat.le_of_ble_eq_true rfl) dL_law_885 (JE.weak (fun _ _ _ => trivial) (JE_lt xT_1 (JE.of (X' := xT) (by decide +kernel) (Nat.le_of_ble_eq_true rfl) (fun _ z => by cases z) (J_mono (fun r2 τ1 hr2 => ?_) ht))))
  obtain ⟨rfl, hl⟩ := hr2
  refine J_ri ?_
  refine J_icmp_eq (tgt := 1147) dL_law_888 (by decide) (fun _ => ?_) (fun c9 => absurd rfl c9)
  exact hl
theorem L_point {E : jEnv} {α β : Nat → Nat} {b n0 i ks ns : Nat} {xs : Nat → Int32} {σ : cS} {τ : tS} (h : Inv σ τ) (hi : i + 6 ≤ n0) (hn : n0 ≤ 384) (hkn : ks ≤ 50000 ∧ ns ≤ 3000000) (hk : ∀ σ' τ', Inv σ' τ' → LJ E α β b n0 xs (ks + 0) (ns + 0) 1147 i (σ', τ')) : LJ E α β b n0 xs ks ns 893 i (σ, τ) := by
  refine J_aload_n dL_law_893 rfl ?_
  refine J_aload_n dL_law_894 rfl ?_
  refine J_iload_n dL_law_895 rfl ?_
  refine J_iconst (zI 1) dL_law_896 rfl ?_
  refine J_iadd_z dL_law_897 ?_
  refine J_sld (i + 1) (by omega) (by omega) (by omega) dL_law_898 ?_
  refine J_aload_n dL_law_899 rfl ?_
  refine J_iload_n dL_law_900 rfl ?_
  refine J_iconst (zI 2) dL_law_901 rfl ?_
  refine J_iadd_z dL_law_902 ?_
  refine J_sld (i + 2) (by omega) (by omega) (by omega) dL_law_903 ?_
  refine J_aload_n dL_law_904 rfl ?_
  refine J_iload_n dL_law_905 rfl ?_
  refine J_iconst (zI 3) dL_law_906 rfl ?_
  refine J_iadd_z dL_law_907 ?_
  refine J_sld (i + 3) (by omega) (by omega) (by omega) dL_law_908 ?_
  have hs := s_point (E := E) (α := α) (β := β) h (xs (i + 1)) (xs (i + 2)) (xs (i + 3)) (fun _ σ' τ' => LJ E α β b n0 xs (ks + 0) (ns + 0) 1147 i (σ', τ')) (fun _ σ' τ' h' => hk σ' τ' h')
  refine J_eV (y := yX0_point) (R' := (jR 3 0 0)) [.int (xs (i + 1)), .int (xs (i + 2)), .int (xs (i + 3))] 3 0 rfl rfl q1469 q1470 q1471 q105 q1472 (by decide +kernel) xL_1 ⟨Nat.le_of_ble_eq_true rfl, Nat.le_of_ble_eq_true rfl⟩ (by show ks + 0 ≤ 603072 ∧ ns + 0 ≤ 7262314; omega) rfl (Nat.le_of_ble_eq_true rfl) dL_law_909 (JE.weak (fun A s h => h.1) (JE_lc cX_1 (JE.of (X' := (cX E, none)) (by decide +kernel) (Nat.le_of_ble_eq_true rfl) (fun _ z => by cases z) (J_mono (fun r1 σ1 hr1 => ?_) hs))))
  obtain ⟨v, rfl, ht⟩ := hr1
  refine J_ri ?_
  refine J_aload_n dL_law_912 rfl ?_
  refine J_aload_n dL_law_913 rfl ?_
  refine J_iload_n dL_law_914 rfl ?_
  refine J_iconst (zI 1) dL_law_915 rfl ?_
  refine J_iadd_z dL_law_916 ?_
  refine J_sld (i + 1) (by omega) (by omega) (by omega) dL_law_917 ?_
  refine J_aload_n dL_law_918 rfl ?_
  refine J_iload_n dL_law_919 rfl ?_
  refine J_iconst (zI 2) dL_law_920 rfl ?_
  refine J_iadd_z dL_law_921 ?_
  refine J_sld (i + 2) (by omega) (by omega) (by omega) dL_law_922 ?_
  refine J_aload_n dL_law_923 rfl ?_
  refine J_iload_n dL_law_924 rfl ?_
  refine J_iconst (zI 3) dL_law_925 rfl ?_
  refine J_iadd_z dL_law_926 ?_
  refine J_sld (i + 3) (by omega) (by omega) (by omega) dL_law_927 ?_
  refine J_eV (y := yX2_point) (R' := (jR 3 0 0)) [.int (xs (i + 1)), .int (xs (i + 2)), .int (xs (i + 3))] 3 1 rfl rfl q2034 q2035 q2036 q107 q2037 (by decide +kernel) xL_1 ⟨Nat.le_of_ble_eq_true rfl, Nat.le_of_ble_eq_true rfl⟩ (by show ks + 0 + 0 ≤ 603072 ∧ ns + 0 + 0 ≤ 7262314; omega) rfl (Nat.le_of_ble_eq_true rfl) dL_law_928 (JE.weak (fun _ _ _ => trivial) (JE_lt xT_1 (JE.of (X' := xT) (by decide +kernel) (Nat.le_of_ble_eq_true rfl) (fun _ z => by cases z) (J_mono (fun r2 τ1 hr2 => ?_) ht))))
  obtain ⟨rfl, hl⟩ := hr2
  refine J_ri ?_
  refine J_icmp_eq (tgt := 1147) dL_law_931 (by decide) (fun _ => ?_) (fun c9 => absurd rfl c9)
  exact hl
theorem L_used {E : jEnv} {α β : Nat → Nat} {b n0 i ks ns : Nat} {xs : Nat → Int32} {σ : cS} {τ : tS} (h : Inv σ τ) (hi : i + 6 ≤ n0) (hn : n0 ≤ 384) (hkn : ks ≤ 50000 ∧ ns ≤ 3000000) (hk : ∀ σ' τ', Inv σ' τ' → LJ E α β b n0 xs (ks + 0) (ns + 0) 1147 i (σ', τ')) : LJ E α β b n0 xs ks ns 936 i (σ, τ) := by
  refine J_aload_n dL_law_936 rfl ?_
  refine J_aload_n dL_law_937 rfl ?_
  refine J_iload_n dL_law_938 rfl ?_
  refine J_iconst (zI 1) dL_law_939 rfl ?_
  refine J_iadd_z dL_law_940 ?_
  refine J_sld (i + 1) (by omega) (by omega) (by omega) dL_law_941 ?_
  have hs := s_used (E := E) (α := α) (β := β) h (xs (i + 1)) (fun _ σ' τ' => LJ E α β b n0 xs (ks + 0) (ns + 0) 1147 i (σ', τ')) (fun _ σ' τ' h' => hk σ' τ' h')
  refine J_eV (y := yX0_used) (R' := (jR 6 0 0)) [.int (xs (i + 1))] 1 0 rfl rfl q1473 q1474 q1475 q105 q1476 (by decide +kernel) xL_1 ⟨Nat.le_of_ble_eq_true rfl, Nat.le_of_ble_eq_true rfl⟩ (by show ks + 0 ≤ 603072 ∧ ns + 0 ≤ 7262314; omega) rfl (Nat.le_of_ble_eq_true rfl) dL_law_942 (JE.weak (fun A s h => h.1) (JE_lc cX_1 (JE.of (X' := (cX E, none)) (by decide +kernel) (Nat.le_of_ble_eq_true rfl) (fun _ z => by cases z) (J_mono (fun r1 σ1 hr1 => ?_) hs))))
  obtain ⟨v, rfl, ht⟩ := hr1
  refine J_ri ?_
  refine J_aload_n dL_law_945 rfl ?_
  refine J_aload_n dL_law_946 rfl ?_
  refine J_iload_n dL_law_947 rfl ?_
  refine J_iconst (zI 1) dL_law_948 rfl ?_
  refine J_iadd_z dL_law_949 ?_
  refine J_sld (i + 1) (by omega) (by omega) (by omega) dL_law_950 ?_
  refine J_eV (y := yX2_used) (R' := (jR 6 0 0)) [.int (xs (i + 1))] 1 1 rfl rfl q2038 q2039 q2040 q107 q2041 (by decide +kernel) xL_1 ⟨Nat.le_of_ble_eq_true rfl, Nat.le_of_ble_eq_true rfl⟩ (by show ks + 0 + 0 ≤ 603072 ∧ ns + 0 + 0 ≤ 7262314; omega) rfl (Nat.le_of_ble_eq_true rfl) dL_law_951 (JE.weak (fun _ _ _ => trivial) (JE_lt xT_1 (JE.of (X' := xT) (by decide +kernel) (Nat.le_of_ble_eq_true rfl) (fun _ z => by cases z) (J_mono (fun r2 τ1 hr2 => ?_) ht))))
  obtain ⟨rfl, hl⟩ := hr2
  refine J_ri ?_
  refine J_icmp_eq (tgt := 1147) dL_law_954 (by decide) (fun _ => ?_) (fun c9 => absurd rfl c9)
  exact hl
theorem L_takes {E : jEnv} {α β : Nat → Nat} {b n0 i ks ns : Nat} {xs : Nat → Int32} {σ : cS} {τ : tS} (h : Inv σ τ) (hi : i + 6 ≤ n0) (hn : n0 ≤ 384) (hkn : ks ≤ 50000 ∧ ns ≤ 3000000) (hk : ∀ σ' τ', Inv σ' τ' → LJ E α β b n0 xs (ks + 0) (ns + 0) 1147 i (σ', τ')) : LJ E α β b n0 xs ks ns 959 i (σ, τ) := by
  refine J_aload_n dL_law_959 rfl ?_
  refine J_aload_n dL_law_960 rfl ?_
  refine J_iload_n dL_law_961 rfl ?_
  refine J_iconst (zI 1) dL_law_962 rfl ?_
  refine J_iadd_z dL_law_963 ?_
  refine J_sld (i + 1) (by omega) (by omega) (by omega) dL_law_964 ?_
  have hs := s_takes (E := E) (α := α) (β := β) h (xs (i + 1)) (fun _ σ' τ' => LJ E α β b n0 xs (ks + 0) (ns + 0) 1147 i (σ', τ')) (fun _ σ' τ' h' => hk σ' τ' h')
  refine J_eV (y := yX0_takes) (R' := (jR 6 0 0)) [.int (xs (i + 1))] 1 0 rfl rfl q1481 q1482 q1483 q105 q1484 (by decide +kernel) xL_1 ⟨Nat.le_of_ble_eq_true rfl, Nat.le_of_ble_eq_true rfl⟩ (by show ks + 0 ≤ 603072 ∧ ns + 0 ≤ 7262314; omega) rfl (Nat.le_of_ble_eq_true rfl) dL_law_965 (JE.weak (fun A s h => h.1) (JE_lc cX_1 (JE.of (X' := (cX E, none)) (by decide +kernel) (Nat.le_of_ble_eq_true rfl) (fun _ z => by cases z) (J_mono (fun r1 σ1 hr1 => ?_) hs))))
  obtain ⟨v, rfl, ht⟩ := hr1
  refine J_ri ?_
  refine J_aload_n dL_law_968 rfl ?_
  refine J_aload_n dL_law_969 rfl ?_
  refine J_iload_n dL_law_970 rfl ?_
  refine J_iconst (zI 1) dL_law_971 rfl ?_
  refine J_iadd_z dL_law_972 ?_
  refine J_sld (i + 1) (by omega) (by omega) (by omega) dL_law_973 ?_
  refine J_eV (y := yX2_takes) (R' := (jR 7 0 0)) [.int (xs (i + 1))] 1 1 rfl rfl q2046 q2047 q2048 q107 q2049 (by decide +kernel) xL_1 ⟨Nat.le_of_ble_eq_true rfl, Nat.le_of_ble_eq_true rfl⟩ (by show ks + 0 + 0 ≤ 603072 ∧ ns + 0 + 0 ≤ 7262314; omega) rfl (Nat.le_of_ble_eq_true rfl) dL_law_974 (JE.weak (fun _ _ _ => trivial) (JE_lt xT_1 (JE.of (X' := xT) (by decide +kernel) (Nat.le_of_ble_eq_true rfl) (fun _ z => by cases z) (J_mono (fun r2 τ1 hr2 => ?_) ht))))
  obtain ⟨rfl, hl⟩ := hr2
  refine J_ri ?_
  refine J_icmp_eq (tgt := 1147) dL_law_977 (by decide) (fun _ => ?_) (fun c9 => absurd rfl c9)
  exact hl
theorem L_would {E : jEnv} {α β : Nat → Nat} {b n0 i ks ns : Nat} {xs : Nat → Int32} {σ : cS} {τ : tS} (h : Inv σ τ) (hi : i + 6 ≤ n0) (hn : n0 ≤ 384) (hkn : ks ≤ 50000 ∧ ns ≤ 3000000) (hk : ∀ σ' τ', Inv σ' τ' → LJ E α β b n0 xs (ks + 2) (ns + 0) 1147 i (σ', τ')) : LJ E α β b n0 xs ks ns 982 i (σ, τ) := by
  refine J_aload_n dL_law_982 rfl ?_
  refine J_aload_n dL_law_983 rfl ?_
  refine J_iload_n dL_law_984 rfl ?_
  refine J_iconst (zI 1) dL_law_985 rfl ?_
  refine J_iadd_z dL_law_986 ?_
  refine J_sld (i + 1) (by omega) (by omega) (by omega) dL_law_987 ?_
  refine J_aload_n dL_law_988 rfl ?_
  refine J_iload_n dL_law_989 rfl ?_
  refine J_iconst (zI 2) dL_law_990 rfl ?_
  refine J_iadd_z dL_law_991 ?_
  refine J_sld (i + 2) (by omega) (by omega) (by omega) dL_law_992 ?_
  have hs := s_would (E := E) (α := α) (β := β) h (xs (i + 1)) (xs (i + 2)) (fun _ σ' τ' => LJ E α β b n0 xs (ks + 2) (ns + 0) 1147 i (σ', τ')) (fun _ σ' τ' h' => hk σ' τ' h')
  refine J_eV (y := yX0_would) (R' := (jR 10 2 0)) [.int (xs (i + 1)), .int (xs (i + 2))] 2 0 rfl rfl q1485 q1486 q1487 q105 q1488 (by decide +kernel) xL_1 ⟨Nat.le_of_ble_eq_true rfl, Nat.le_of_ble_eq_true rfl⟩ (by show ks + 2 ≤ 603072 ∧ ns + 0 ≤ 7262314; omega) rfl (Nat.le_of_ble_eq_true rfl) dL_law_993 (JE.weak (fun A s h => h.1) (JE_lc cX_1 (JE.of (X' := (cX E, none)) (by decide +kernel) (Nat.le_of_ble_eq_true rfl) (fun _ z => by cases z) (J_mono (fun r1 σ1 hr1 => ?_) hs))))
  obtain ⟨v, rfl, ht⟩ := hr1
  refine J_ri ?_
  refine J_aload_n dL_law_996 rfl ?_
  refine J_aload_n dL_law_997 rfl ?_
  refine J_iload_n dL_law_998 rfl ?_
  refine J_iconst (zI 1) dL_law_999 rfl ?_
  refine J_iadd_z dL_law_1000 ?_
  refine J_sld (i + 1) (by omega) (by omega) (by omega) dL_law_1001 ?_
  refine J_aload_n dL_law_1002 rfl ?_
  refine J_iload_n dL_law_1003 rfl ?_
  refine J_iconst (zI 2) dL_law_1004 rfl ?_
  refine J_iadd_z dL_law_1005 ?_
  refine J_sld (i + 2) (by omega) (by omega) (by omega) dL_law_1006 ?_
  refine J_eV (y := yX2_would) (R' := (jR 10 0 0)) [.int (xs (i + 1)), .int (xs (i + 2))] 2 1 rfl rfl q2050 q2051 q2052 q107 q2053 (by decide +kernel) xL_1 ⟨Nat.le_of_ble_eq_true rfl, Nat.le_of_ble_eq_true rfl⟩ (by show ks + 2 + 0 ≤ 603072 ∧ ns + 0 + 0 ≤ 7262314; omega) rfl (Nat.le_of_ble_eq_true rfl) dL_law_1007 (JE.weak (fun _ _ _ => trivial) (JE_lt xT_1 (JE.of (X' := xT) (by decide +kernel) (Nat.le_of_ble_eq_true rfl) (fun _ z => by cases z) (J_mono (fun r2 τ1 hr2 => ?_) ht))))
  obtain ⟨rfl, hl⟩ := hr2
  refine J_ri ?_
  refine J_icmp_eq (tgt := 1147) dL_law_1010 (by decide) (fun _ => ?_) (fun c9 => absurd rfl c9)
  exact hl
theorem L_best {E : jEnv} {α β : Nat → Nat} {b n0 i ks ns : Nat} {xs : Nat → Int32} {σ : cS} {τ : tS} (h : Inv σ τ) (hi : i + 6 ≤ n0) (hn : n0 ≤ 384) (hkn : ks ≤ 50000 ∧ ns ≤ 3000000) (hk : ∀ σ' τ', Inv σ' τ' → LJ E α β b n0 xs (ks + 24) (ns + 0) 1147 i (σ', τ')) : LJ E α β b n0 xs ks ns 1015 i (σ, τ) := by
  refine J_aload_n dL_law_1015 rfl ?_
  have hs := s_best (E := E) (α := α) (β := β) h  (fun _ σ' τ' => LJ E α β b n0 xs (ks + 24) (ns + 0) 1147 i (σ', τ')) (fun _ σ' τ' h' => hk σ' τ' h')
  refine J_eV (y := yX0_best) (R' := (jR 10 24 0)) [] 0 0 rfl rfl q1493 q1494 q1495 q105 q1496 (by decide +kernel) xL_1 ⟨Nat.le_of_ble_eq_true rfl, Nat.le_of_ble_eq_true rfl⟩ (by show ks + 24 ≤ 603072 ∧ ns + 0 ≤ 7262314; omega) rfl (Nat.le_of_ble_eq_true rfl) dL_law_1016 (JE.weak (fun A s h => h.1) (JE_lc cX_1 (JE.of (X' := (cX E, none)) (by decide +kernel) (Nat.le_of_ble_eq_true rfl) (fun _ z => by cases z) (J_mono (fun r1 σ1 hr1 => ?_) hs))))
  obtain ⟨v, rfl, ht⟩ := hr1
  refine J_ri ?_
  refine J_aload_n dL_law_1019 rfl ?_
  refine J_eV (y := yX2_best) (R' := (jR 10 0 0)) [] 0 1 rfl rfl q2058 q2059 q2060 q107 q2061 (by decide +kernel) xL_1 ⟨Nat.le_of_ble_eq_true rfl, Nat.le_of_ble_eq_true rfl⟩ (by show ks + 24 + 0 ≤ 603072 ∧ ns + 0 + 0 ≤ 7262314; omega) rfl (Nat.le_of_ble_eq_true rfl) dL_law_1020 (JE.weak (fun _ _ _ => trivial) (JE_lt xT_1 (JE.of (X' := xT) (by decide +kernel) (Nat.le_of_ble_eq_true rfl) (fun _ z => by cases z) (J_mono (fun r2 τ1 hr2 => ?_) ht))))
  obtain ⟨rfl, hl⟩ := hr2
  refine J_ri ?_
  refine J_icmp_eq (tgt := 1147) dL_law_1023 (by decide) (fun _ => ?_) (fun c9 => absurd rfl c9)
  exact hl
theorem L_lots {E : jEnv} {α β : Nat → Nat} {b n0 i ks ns : Nat} {xs : Nat → Int32} {σ : cS} {τ : tS} (h : Inv σ τ) (hi : i + 6 ≤ n0) (hn : n0 ≤ 384) (hkn : ks ≤ 50000 ∧ ns ≤ 3000000) (hk : ∀ σ' τ', Inv σ' τ' → LJ E α β b n0 xs (ks + 20) (ns + 0) 1147 i (σ', τ')) : LJ E α β b n0 xs ks ns 1028 i (σ, τ) := by
  refine J_aload_n dL_law_1028 rfl ?_
  refine J_aload_n dL_law_1029 rfl ?_
  refine J_iload_n dL_law_1030 rfl ?_
  refine J_iconst (zI 1) dL_law_1031 rfl ?_
  refine J_iadd_z dL_law_1032 ?_
  refine J_sld (i + 1) (by omega) (by omega) (by omega) dL_law_1033 ?_
  refine J_aload_n dL_law_1034 rfl ?_
  refine J_iload_n dL_law_1035 rfl ?_
  refine J_iconst (zI 2) dL_law_1036 rfl ?_
  refine J_iadd_z dL_law_1037 ?_
  refine J_sld (i + 2) (by omega) (by omega) (by omega) dL_law_1038 ?_
  have hs := s_lots (E := E) (α := α) (β := β) h (xs (i + 1)) (xs (i + 2)) (fun _ σ' τ' => LJ E α β b n0 xs (ks + 20) (ns + 0) 1147 i (σ', τ')) (fun _ σ' τ' h' => hk σ' τ' h')
  refine J_eV (y := yX0_lots) (R' := (jR 9 20 0)) [.int (xs (i + 1)), .int (xs (i + 2))] 2 0 rfl rfl q1503 q1504 q1505 q105 q1506 (by decide +kernel) xL_1 ⟨Nat.le_of_ble_eq_true rfl, Nat.le_of_ble_eq_true rfl⟩ (by show ks + 20 ≤ 603072 ∧ ns + 0 ≤ 7262314; omega) rfl (Nat.le_of_ble_eq_true rfl) dL_law_1039 (JE.weak (fun A s h => h.1) (JE_lc cX_1 (JE.of (X' := (cX E, none)) (by decide +kernel) (Nat.le_of_ble_eq_true rfl) (fun _ z => by cases z) (J_mono (fun r1 σ1 hr1 => ?_) hs))))
  obtain ⟨v, rfl, ht⟩ := hr1
  refine J_ri ?_
  refine J_aload_n dL_law_1042 rfl ?_
  refine J_aload_n dL_law_1043 rfl ?_
  refine J_iload_n dL_law_1044 rfl ?_
  refine J_iconst (zI 1) dL_law_1045 rfl ?_
  refine J_iadd_z dL_law_1046 ?_
  refine J_sld (i + 1) (by omega) (by omega) (by omega) dL_law_1047 ?_
  refine J_aload_n dL_law_1048 rfl ?_
  refine J_iload_n dL_law_1049 rfl ?_
  refine J_iconst (zI 2) dL_law_1050 rfl ?_
  refine J_iadd_z dL_law_1051 ?_
  refine J_sld (i + 2) (by omega) (by omega) (by omega) dL_law_1052 ?_
  refine J_eV (y := yX2_lots) (R' := (jR 8 0 0)) [.int (xs (i + 1)), .int (xs (i + 2))] 2 1 rfl rfl q2065 q2066 q2067 q107 q2068 (by decide +kernel) xL_1 ⟨Nat.le_of_ble_eq_true rfl, Nat.le_of_ble_eq_true rfl⟩ (by show ks + 20 + 0 ≤ 603072 ∧ ns + 0 + 0 ≤ 7262314; omega) rfl (Nat.le_of_ble_eq_true rfl) dL_law_1053 (JE.weak (fun _ _ _ => trivial) (JE_lt xT_1 (JE.of (X' := xT) (by decide +kernel) (Nat.le_of_ble_eq_true rfl) (fun _ z => by cases z) (J_mono (fun r2 τ1 hr2 => ?_) ht))))
  obtain ⟨rfl, hl⟩ := hr2
  refine J_ri ?_
  refine J_icmp_eq (tgt := 1147) dL_law_1056 (by decide) (fun _ => ?_) (fun c9 => absurd rfl c9)
  exact hl
theorem L_asked {E : jEnv} {α β : Nat → Nat} {b n0 i ks ns : Nat} {xs : Nat → Int32} {σ : cS} {τ : tS} (h : Inv σ τ) (hi : i + 6 ≤ n0) (hn : n0 ≤ 384) (hkn : ks ≤ 50000 ∧ ns ≤ 3000000) (hk : ∀ σ' τ', Inv σ' τ' → LJ E α β b n0 xs (ks + 0) (ns + 0) 1147 i (σ', τ')) : LJ E α β b n0 xs ks ns 1061 i (σ, τ) := by
  refine J_aload_n dL_law_1061 rfl ?_
  have hs := s_asked (E := E) (α := α) (β := β) h  (fun _ σ' τ' => LJ E α β b n0 xs (ks + 0) (ns + 0) 1147 i (σ', τ')) (fun _ σ' τ' h' => hk σ' τ' h')
  refine J_eV (y := yX0_asked) (R' := (jR 1 0 0)) [] 0 0 rfl rfl q1521 q1522 q1523 q105 q1524 (by decide +kernel) xL_1 ⟨Nat.le_of_ble_eq_true rfl, Nat.le_of_ble_eq_true rfl⟩ (by show ks + 0 ≤ 603072 ∧ ns + 0 ≤ 7262314; omega) rfl (Nat.le_of_ble_eq_true rfl) dL_law_1062 (JE.weak (fun A s h => h.1) (JE_lc cX_1 (JE.of (X' := (cX E, none)) (by decide +kernel) (Nat.le_of_ble_eq_true rfl) (fun _ z => by cases z) (J_mono (fun r1 σ1 hr1 => ?_) hs))))
  obtain ⟨v, rfl, ht⟩ := hr1
  refine J_ri ?_
  refine J_aload_n dL_law_1065 rfl ?_
  refine J_eV (y := yX2_asked) (R' := (jR 1 0 0)) [] 0 1 rfl rfl q1713 q1714 q1715 q107 q1716 (by decide +kernel) xL_1 ⟨Nat.le_of_ble_eq_true rfl, Nat.le_of_ble_eq_true rfl⟩ (by show ks + 0 + 0 ≤ 603072 ∧ ns + 0 + 0 ≤ 7262314; omega) rfl (Nat.le_of_ble_eq_true rfl) dL_law_1066 (JE.weak (fun _ _ _ => trivial) (JE_lt xT_1 (JE.of (X' := xT) (by decide +kernel) (Nat.le_of_ble_eq_true rfl) (fun _ z => by cases z) (J_mono (fun r2 τ1 hr2 => ?_) ht))))
  obtain ⟨rfl, hl⟩ := hr2
  refine J_ri ?_
  refine J_icmp_eq (tgt := 1147) dL_law_1069 (by decide) (fun _ => ?_) (fun c9 => absurd rfl c9)
  exact hl
theorem L_count {E : jEnv} {α β : Nat → Nat} {b n0 i ks ns : Nat} {xs : Nat → Int32} {σ : cS} {τ : tS} (h : Inv σ τ) (hi : i + 6 ≤ n0) (hn : n0 ≤ 384) (hkn : ks ≤ 50000 ∧ ns ≤ 3000000) (hk : ∀ σ' τ', Inv σ' τ' → LJ E α β b n0 xs (ks + 0) (ns + 0) 1147 i (σ', τ')) : LJ E α β b n0 xs ks ns 1074 i (σ, τ) := by
  refine J_aload_n dL_law_1074 rfl ?_
  refine J_aload_n dL_law_1075 rfl ?_
  refine J_iload_n dL_law_1076 rfl ?_
  refine J_iconst (zI 1) dL_law_1077 rfl ?_
  refine J_iadd_z dL_law_1078 ?_
  refine J_sld (i + 1) (by omega) (by omega) (by omega) dL_law_1079 ?_
  have hs := s_count (E := E) (α := α) (β := β) h (xs (i + 1)) (fun _ σ' τ' => LJ E α β b n0 xs (ks + 0) (ns + 0) 1147 i (σ', τ')) (fun _ σ' τ' h' => hk σ' τ' h')
  refine J_eV (y := yX0_count) (R' := (jR 8 0 0)) [.int (xs (i + 1))] 1 0 rfl rfl q1525 q1526 q1527 q105 q1528 (by decide +kernel) xL_1 ⟨Nat.le_of_ble_eq_true rfl, Nat.le_of_ble_eq_true rfl⟩ (by show ks + 0 ≤ 603072 ∧ ns + 0 ≤ 7262314; omega) rfl (Nat.le_of_ble_eq_true rfl) dL_law_1080 (JE.weak (fun A s h => h.1) (JE_lc cX_1 (JE.of (X' := (cX E, none)) (by decide +kernel) (Nat.le_of_ble_eq_true rfl) (fun _ z => by cases z) (J_mono (fun r1 σ1 hr1 => ?_) hs))))
  obtain ⟨v, rfl, ht⟩ := hr1
  refine J_ri ?_
  refine J_aload_n dL_law_1083 rfl ?_
  refine J_aload_n dL_law_1084 rfl ?_
  refine J_iload_n dL_law_1085 rfl ?_
  refine J_iconst (zI 1) dL_law_1086 rfl ?_
  refine J_iadd_z dL_law_1087 ?_
  refine J_sld (i + 1) (by omega) (by omega) (by omega) dL_law_1088 ?_
  refine J_eV (y := yX2_count) (R' := (jR 9 0 0)) [.int (xs (i + 1))] 1 1 rfl rfl q2079 q2080 q2081 q107 q2082 (by decide +kernel) xL_1 ⟨Nat.le_of_ble_eq_true rfl, Nat.le_of_ble_eq_true rfl⟩ (by show ks + 0 + 0 ≤ 603072 ∧ ns + 0 + 0 ≤ 7262314; omega) rfl (Nat.le_of_ble_eq_true rfl) dL_law_1089 (JE.weak (fun _ _ _ => trivial) (JE_lt xT_1 (JE.of (X' := xT) (by decide +kernel) (Nat.le_of_ble_eq_true rfl) (fun _ z => by cases z) (J_mono (fun r2 τ1 hr2 => ?_) ht))))
  obtain ⟨rfl, hl⟩ := hr2
  refine J_ri ?_
  refine J_icmp_eq (tgt := 1147) dL_law_1092 (by decide) (fun _ => ?_) (fun c9 => absurd rfl c9)
  exact hl
theorem L_finding {E : jEnv} {α β : Nat → Nat} {b n0 i ks ns : Nat} {xs : Nat → Int32} {σ : cS} {τ : tS} (h : Inv σ τ) (hi : i + 6 ≤ n0) (hn : n0 ≤ 384) (hkn : ks ≤ 50000 ∧ ns ≤ 3000000) (hk : ∀ σ' τ', Inv σ' τ' → LJ E α β b n0 xs (ks + 0) (ns + 0) 1147 i (σ', τ')) : LJ E α β b n0 xs ks ns 1097 i (σ, τ) := by
  refine J_aload_n dL_law_1097 rfl ?_
  have hs := s_finding (E := E) (α := α) (β := β) h  (fun _ σ' τ' => LJ E α β b n0 xs (ks + 0) (ns + 0) 1147 i (σ', τ')) (fun _ σ' τ' h' => hk σ' τ' h')
  refine J_eV (y := yX0_finding) (R' := (jR 1 0 0)) [] 0 0 rfl rfl q1549 q1550 q1551 q105 q1552 (by decide +kernel) xL_1 ⟨Nat.le_of_ble_eq_true rfl, Nat.le_of_ble_eq_true rfl⟩ (by show ks + 0 ≤ 603072 ∧ ns + 0 ≤ 7262314; omega) rfl (Nat.le_of_ble_eq_true rfl) dL_law_1098 (JE.weak (fun A s h => h.1) (JE_lc cX_1 (JE.of (X' := (cX E, none)) (by decide +kernel) (Nat.le_of_ble_eq_true rfl) (fun _ z => by cases z) (J_mono (fun r1 σ1 hr1 => ?_) hs))))
  obtain ⟨v, rfl, ht⟩ := hr1
  refine J_ri ?_
  refine J_aload_n dL_law_1101 rfl ?_
  refine J_eV (y := yX2_finding) (R' := (jR 1 0 0)) [] 0 1 rfl rfl q1717 q1718 q1719 q107 q1720 (by decide +kernel) xL_1 ⟨Nat.le_of_ble_eq_true rfl, Nat.le_of_ble_eq_true rfl⟩ (by show ks + 0 + 0 ≤ 603072 ∧ ns + 0 + 0 ≤ 7262314; omega) rfl (Nat.le_of_ble_eq_true rfl) dL_law_1102 (JE.weak (fun _ _ _ => trivial) (JE_lt xT_1 (JE.of (X' := xT) (by decide +kernel) (Nat.le_of_ble_eq_true rfl) (fun _ z => by cases z) (J_mono (fun r2 τ1 hr2 => ?_) ht))))
  obtain ⟨rfl, hl⟩ := hr2
  refine J_ri ?_
  refine J_icmp_eq (tgt := 1147) dL_law_1105 (by decide) (fun _ => ?_) (fun c9 => absurd rfl c9)
  exact hl
theorem L_findings {E : jEnv} {α β : Nat → Nat} {b n0 i ks ns : Nat} {xs : Nat → Int32} {σ : cS} {τ : tS} (h : Inv σ τ) (hi : i + 6 ≤ n0) (hn : n0 ≤ 384) (hkn : ks ≤ 50000 ∧ ns ≤ 3000000) (hk : ∀ σ' τ', Inv σ' τ' → LJ E α β b n0 xs (ks + 0) (ns + 0) 1147 i (σ', τ')) : LJ E α β b n0 xs ks ns 1110 i (σ, τ) := by
  refine J_aload_n dL_law_1110 rfl ?_
  refine J_aload_n dL_law_1111 rfl ?_
  refine J_iload_n dL_law_1112 rfl ?_
  refine J_iconst (zI 1) dL_law_1113 rfl ?_
  refine J_iadd_z dL_law_1114 ?_
  refine J_sld (i + 1) (by omega) (by omega) (by omega) dL_law_1115 ?_
  have hs := s_findings (E := E) (α := α) (β := β) h (xs (i + 1)) (fun _ σ' τ' => LJ E α β b n0 xs (ks + 0) (ns + 0) 1147 i (σ', τ')) (fun _ σ' τ' h' => hk σ' τ' h')
  refine J_eV (y := yX0_findings) (R' := (jR 2 0 0)) [.int (xs (i + 1))] 1 0 rfl rfl q1553 q1554 q1555 q105 q1556 (by decide +kernel) xL_1 ⟨Nat.le_of_ble_eq_true rfl, Nat.le_of_ble_eq_true rfl⟩ (by show ks + 0 ≤ 603072 ∧ ns + 0 ≤ 7262314; omega) rfl (Nat.le_of_ble_eq_true rfl) dL_law_1116 (JE.weak (fun A s h => h.1) (JE_lc cX_1 (JE.of (X' := (cX E, none)) (by decide +kernel) (Nat.le_of_ble_eq_true rfl) (fun _ z => by cases z) (J_mono (fun r1 σ1 hr1 => ?_) hs))))
  obtain ⟨v, rfl, ht⟩ := hr1
  refine J_ri ?_
  refine J_aload_n dL_law_1119 rfl ?_
  refine J_aload_n dL_law_1120 rfl ?_
  refine J_iload_n dL_law_1121 rfl ?_
  refine J_iconst (zI 1) dL_law_1122 rfl ?_
  refine J_iadd_z dL_law_1123 ?_
  refine J_sld (i + 1) (by omega) (by omega) (by omega) dL_law_1124 ?_
  refine J_eV (y := yX2_findings) (R' := (jR 2 0 0)) [.int (xs (i + 1))] 1 1 rfl rfl q1721 q1722 q1723 q107 q1724 (by decide +kernel) xL_1 ⟨Nat.le_of_ble_eq_true rfl, Nat.le_of_ble_eq_true rfl⟩ (by show ks + 0 + 0 ≤ 603072 ∧ ns + 0 + 0 ≤ 7262314; omega) rfl (Nat.le_of_ble_eq_true rfl) dL_law_1125 (JE.weak (fun _ _ _ => trivial) (JE_lt xT_1 (JE.of (X' := xT) (by decide +kernel) (Nat.le_of_ble_eq_true rfl) (fun _ z => by cases z) (J_mono (fun r2 τ1 hr2 => ?_) ht))))
  obtain ⟨rfl, hl⟩ := hr2
  refine J_ri ?_
  refine J_icmp_eq (tgt := 1147) dL_law_1128 (by decide) (fun _ => ?_) (fun c9 => absurd rfl c9)
  exact hl
theorem lg_cmp_s (v : Int64) : lg_cmp v v = 0 := by
  unfold lg_cmp
  simp
theorem L_digest {E : jEnv} {α β : Nat → Nat} {b n0 i ks ns : Nat} {xs : Nat → Int32} {σ : cS} {τ : tS} (h : Inv σ τ) (hi : i + 6 ≤ n0) (hn : n0 ≤ 384) (hkn : ks ≤ 50000 ∧ ns ≤ 3000000) (hk : ∀ σ' τ', Inv σ' τ' → LJ E α β b n0 xs (ks + 0) (ns + 0) 1147 i (σ', τ')) : LJ E α β b n0 xs ks ns 1133 i (σ, τ) := by
  refine J_aload_n dL_law_1133 rfl ?_
  have hs := s_digest (E := E) (α := α) (β := β) h  (fun _ σ' τ' => LJ E α β b n0 xs (ks + 0) (ns + 0) 1147 i (σ', τ')) (fun _ σ' τ' h' => hk σ' τ' h')
  refine J_eV (y := yX0_digest) (R' := (jR 8 0 0)) [] 0 0 rfl rfl q1557 q1558 q1559 q105 q1560 (by decide +kernel) xL_1 ⟨Nat.le_of_ble_eq_true rfl, Nat.le_of_ble_eq_true rfl⟩ (by show ks + 0 ≤ 603072 ∧ ns + 0 ≤ 7262314; omega) rfl (Nat.le_of_ble_eq_true rfl) dL_law_1134 (JE.weak (fun A s h => h.1) (JE_lc cX_1 (JE.of (X' := (cX E, none)) (by decide +kernel) (Nat.le_of_ble_eq_true rfl) (fun _ z => by cases z) (J_mono (fun r1 σ1 hr1 => ?_) hs))))
  obtain ⟨v, rfl, ht⟩ := hr1
  refine J_rl ?_
  refine J_aload_n dL_law_1137 rfl ?_
  refine J_eV (y := yX2_digest) (R' := (jR 9 0 0)) [] 0 1 rfl rfl q2095 q2096 q2097 q107 q2098 (by decide +kernel) xL_1 ⟨Nat.le_of_ble_eq_true rfl, Nat.le_of_ble_eq_true rfl⟩ (by show ks + 0 + 0 ≤ 603072 ∧ ns + 0 + 0 ≤ 7262314; omega) rfl (Nat.le_of_ble_eq_true rfl) dL_law_1138 (JE.weak (fun _ _ _ => trivial) (JE_lt xT_1 (JE.of (X' := xT) (by decide +kernel) (Nat.le_of_ble_eq_true rfl) (fun _ z => by cases z) (J_mono (fun r2 τ1 hr2 => ?_) ht))))
  obtain ⟨rfl, hl⟩ := hr2
  refine J_rl ?_
  refine J_lcmp dL_law_1141 ?_
  refine J_if_eq (tgt := 1147) dL_law_1142 (by decide) (fun _ => ?_) (fun c9 => absurd (lg_cmp_s v) c9)
  exact hl
