set_option maxRecDepth 100000
/-! the twin: counted, digest -/
def tDt (rs : Nat → Int) (rd : Nat → Nat → Int32) (ts : Nat → Int) (tb : Nat → Nat → Int) (σ : tS) : Prop := (∀ r, r < 6 → σ.2.1 3 r = zI (rs r)) ∧ (∀ r i : Nat, r < 6 → (i : Int) < rs r → σ.2.1 4 (40 * r + i) = rd r i) ∧ (∀ t, t < 4 → σ.2.1 6 t = zI (ts t)) ∧ (∀ t i : Nat, t < 4 → (i : Int) < ts t → σ.2.1 7 (120 * t + i) = zI (tb t i))
theorem tDt.eq {rs : Nat → Int} {rd : Nat → Nat → Int32} {ts : Nat → Int} {tb : Nat → Nat → Int} {σ σ' : tS} (h : tDt rs rd ts tb σ) {I A : List Nat} (e : tEq I A σ σ') (h1 : 3 ∉ A) (h2 : 4 ∉ A) (h3 : 6 ∉ A) (h4 : 7 ∉ A) : tDt rs rd ts tb σ' := by
  unfold tDt
  rw [e.2.1 _ h1, e.2.1 _ h2, e.2.1 _ h3, e.2.1 _ h4]
  exact h
theorem tl_counted118 {E : jEnv} {α : Nat → Nat} {σ : tS} {Q : Option Value → tS → Prop} {many : Nat} {wide high bl : Int} {G : Nat → Nat → Int} {P : Nat → Nat → Int} {rule : Int} {dm : Nat} {H : Nat → mPl} {kc : Nat → Int} {KH : Nat → Nat → mPl} {KN : Nat → mPl} {rs : Nat → Int} {rd : Nat → Nat → Int32} {ts : Nat → Int} {tb : Nat → Nat → Int}  (hS : tSh many wide high bl G σ) (hO : shOK many wide high bl G) (hP : tPl P rule σ) (hN : plOK many P rule) (hV : plV many wide high bl G P) (hL : tLg dm H σ) (hd : dm ≤ 40) (hK : tKp kc KH KN σ) (hkc : ∀ k, k < 3 → -1 ≤ kc k ∧ kc k ≤ 40) (hDt : tDt rs rd ts tb σ) (hDo : dtOK rs ts tb) (hq : Q (some (.int (zI (mCnt many wide high bl G P rule dm rs ts kc 9)))) σ) : ∀ (n : Nat) (f : Nat), f ≤ many → many - f < n → jX2_counted E α 118 [some (.ref (α 0)), some (.int (zI 9)), some (.int (zI (mTurnN P f))), some (.int (zI (f : Nat)))] [] σ Q := by
  intro n
  induction n with
  | zero => intro f h1 hn; exact absurd hn (Nat.not_lt_zero _)
  | succ n ih =>
    intro f h1 hn
    have := hO.s
    refine J_iload_n dX2_counted_118 rfl ?_
    refine J_aload_n dX2_counted_119 rfl ?_
    refine TG_frameMany dX2_counted_120 ?_
    refine J_top (zI (many)) hS.1 ?_
    refine J_icmp_ge_z (tgt := 145) dX2_counted_123 (by decide) (by unfold zR; omega) (by unfold zR; omega) (fun c123 => ?_) (fun c123 => ?_)
    · skip
      obtain rfl : f = many := by omega
      refine J_iload_n dX2_counted_145 rfl ?_
      exact J_iret rfl dX2_counted_146 (by exact hq)
    · skip
      refine J_iload_n dX2_counted_126 rfl ?_
      refine J_aload_n dX2_counted_127 rfl ?_
      refine TG_now dX2_counted_128 ?_
      refine J_iconst (zI 4) dX2_counted_131 rfl ?_
      refine J_iload_n dX2_counted_132 rfl ?_
      refine J_imul_z dX2_counted_133 ?_
      refine J_iconst (zI 3) dX2_counted_134 rfl ?_
      refine J_iadd_z dX2_counted_135 ?_
      refine TJ_iald 23 (((4 * f) + 3)) ⟨rfl, rfl, by decide⟩ (by omega) (show ((4 * f) + 3) < 33 by omega) dX2_counted_136 ?_
      refine J_top (zI (P f 3)) (hP.1 f 3 (by omega) (by decide)) ?_
      refine J_iadd_z dX2_counted_137 ?_
      refine J_top (zI (mTurnN P (f + 1))) rfl ?_
      refine J_istore_n dX2_counted_138 rfl (by decide) _ rfl ?_
      refine J_iinc_z ((((f + 1)) : Nat) : Int) (by omega) dX2_counted_139 rfl rfl (by decide) _ rfl ?_
      refine J_goto (tgt := 118) dX2_counted_142 (by decide) ?_
      exact ih (f + 1) (by omega) (by omega)
theorem tl_counted154 {E : jEnv} {α : Nat → Nat} {σ : tS} {Q : Option Value → tS → Prop} {many : Nat} {wide high bl : Int} {G : Nat → Nat → Int} {P : Nat → Nat → Int} {rule : Int} {dm : Nat} {H : Nat → mPl} {kc : Nat → Int} {KH : Nat → Nat → mPl} {KN : Nat → mPl} {rs : Nat → Int} {rd : Nat → Nat → Int32} {ts : Nat → Int} {tb : Nat → Nat → Int}  (hS : tSh many wide high bl G σ) (hO : shOK many wide high bl G) (hP : tPl P rule σ) (hN : plOK many P rule) (hV : plV many wide high bl G P) (hL : tLg dm H σ) (hd : dm ≤ 40) (hK : tKp kc KH KN σ) (hkc : ∀ k, k < 3 → -1 ≤ kc k ∧ kc k ≤ 40) (hDt : tDt rs rd ts tb σ) (hDo : dtOK rs ts tb) (hq : Q (some (.int (zI (mCnt many wide high bl G P rule dm rs ts kc 11)))) σ) : ∀ (n : Nat) (f : Nat), f ≤ 6 → 6 - f < n → jX2_counted E α 154 [some (.ref (α 0)), some (.int (zI 11)), some (.int (zI (mThere rs f))), some (.int (zI (f : Nat)))] [] σ Q := by
  intro n
  induction n with
  | zero => intro f h1 hn; exact absurd hn (Nat.not_lt_zero _)
  | succ n ih =>
    intro f h1 hn
    have := hO.s
    refine J_iload_n dX2_counted_154 rfl ?_
    refine J_bipush (zI 6) dX2_counted_155 rfl ?_
    refine J_icmp_ge_z (tgt := 183) dX2_counted_157 (by decide) (by unfold zR; omega) (by unfold zR; omega) (fun c157 => ?_) (fun c157 => ?_)
    · skip
      obtain rfl : f = 6 := by omega
      refine J_iload_n dX2_counted_183 rfl ?_
      exact J_iret rfl dX2_counted_184 (by exact hq)
    · skip
      have := hDo.1 f (by omega)
      refine J_iload_n dX2_counted_160 rfl ?_
      refine J_aload_n dX2_counted_161 rfl ?_
      refine TG_sizes dX2_counted_162 ?_
      refine J_iload_n dX2_counted_165 rfl ?_
      refine TJ_iald 3 (f) ⟨rfl, rfl, by decide⟩ (by omega) (show f < 6 by omega) dX2_counted_166 ?_
      refine J_top (zI (rs f)) ((hDt.1 f (by omega))) ?_
      refine J_if_lt_z (tgt := 174) dX2_counted_167 (by decide) (by unfold zR; omega) (fun c167 => ?_) (fun c167 => ?_)
      · skip
        refine J_iconst (zI 0) dX2_counted_174 rfl ?_
        refine J_iadd_z dX2_counted_175 ?_
        refine J_top (zI (mThere rs (f + 1))) (congrArg zI (by simp only [mThere]; split <;> omega)) ?_
        refine J_istore_n dX2_counted_176 rfl (by decide) _ rfl ?_
        refine J_iinc_z ((((f + 1)) : Nat) : Int) (by omega) dX2_counted_177 rfl rfl (by decide) _ rfl ?_
        refine J_goto (tgt := 154) dX2_counted_180 (by decide) ?_
        exact ih (f + 1) (by omega) (by omega)
      · skip
        refine J_iconst (zI 1) dX2_counted_170 rfl ?_
        refine J_goto (tgt := 175) dX2_counted_171 (by decide) ?_
        refine J_iadd_z dX2_counted_175 ?_
        refine J_top (zI (mThere rs (f + 1))) (congrArg zI (by simp only [mThere]; split <;> omega)) ?_
        refine J_istore_n dX2_counted_176 rfl (by decide) _ rfl ?_
        refine J_iinc_z ((((f + 1)) : Nat) : Int) (by omega) dX2_counted_177 rfl rfl (by decide) _ rfl ?_
        refine J_goto (tgt := 154) dX2_counted_180 (by decide) ?_
        exact ih (f + 1) (by omega) (by omega)
theorem tl_counted187 {E : jEnv} {α : Nat → Nat} {σ : tS} {Q : Option Value → tS → Prop} {many : Nat} {wide high bl : Int} {G : Nat → Nat → Int} {P : Nat → Nat → Int} {rule : Int} {dm : Nat} {H : Nat → mPl} {kc : Nat → Int} {KH : Nat → Nat → mPl} {KN : Nat → mPl} {rs : Nat → Int} {rd : Nat → Nat → Int32} {ts : Nat → Int} {tb : Nat → Nat → Int}  (hS : tSh many wide high bl G σ) (hO : shOK many wide high bl G) (hP : tPl P rule σ) (hN : plOK many P rule) (hV : plV many wide high bl G P) (hL : tLg dm H σ) (hd : dm ≤ 40) (hK : tKp kc KH KN σ) (hkc : ∀ k, k < 3 → -1 ≤ kc k ∧ kc k ≤ 40) (hDt : tDt rs rd ts tb σ) (hDo : dtOK rs ts tb) (hq : Q (some (.int (zI (mCnt many wide high bl G P rule dm rs ts kc 12)))) σ) : ∀ (n : Nat) (f : Nat), f ≤ 4 → 4 - f < n → jX2_counted E α 187 [some (.ref (α 0)), some (.int (zI 12)), some (.int (zI (mThere ts f))), some (.int (zI (f : Nat)))] [] σ Q := by
  intro n
  induction n with
  | zero => intro f h1 hn; exact absurd hn (Nat.not_lt_zero _)
  | succ n ih =>
    intro f h1 hn
    have := hO.s
    refine J_iload_n dX2_counted_187 rfl ?_
    refine J_iconst (zI 4) dX2_counted_188 rfl ?_
    refine J_icmp_ge_z (tgt := 215) dX2_counted_189 (by decide) (by unfold zR; omega) (by unfold zR; omega) (fun c189 => ?_) (fun c189 => ?_)
    · skip
      obtain rfl : f = 4 := by omega
      refine J_iload_n dX2_counted_215 rfl ?_
      exact J_iret rfl dX2_counted_216 (by exact hq)
    · skip
      have := hDo.2.1 f (by omega)
      refine J_iload_n dX2_counted_192 rfl ?_
      refine J_aload_n dX2_counted_193 rfl ?_
      refine TG_textSizes dX2_counted_194 ?_
      refine J_iload_n dX2_counted_197 rfl ?_
      refine TJ_iald 6 (f) ⟨rfl, rfl, by decide⟩ (by omega) (show f < 4 by omega) dX2_counted_198 ?_
      refine J_top (zI (ts f)) ((hDt.2.2.1 f (by omega))) ?_
      refine J_if_lt_z (tgt := 206) dX2_counted_199 (by decide) (by unfold zR; omega) (fun c199 => ?_) (fun c199 => ?_)
      · skip
        refine J_iconst (zI 0) dX2_counted_206 rfl ?_
        refine J_iadd_z dX2_counted_207 ?_
        refine J_top (zI (mThere ts (f + 1))) (congrArg zI (by simp only [mThere]; split <;> omega)) ?_
        refine J_istore_n dX2_counted_208 rfl (by decide) _ rfl ?_
        refine J_iinc_z ((((f + 1)) : Nat) : Int) (by omega) dX2_counted_209 rfl rfl (by decide) _ rfl ?_
        refine J_goto (tgt := 187) dX2_counted_212 (by decide) ?_
        exact ih (f + 1) (by omega) (by omega)
      · skip
        refine J_iconst (zI 1) dX2_counted_202 rfl ?_
        refine J_goto (tgt := 207) dX2_counted_203 (by decide) ?_
        refine J_iadd_z dX2_counted_207 ?_
        refine J_top (zI (mThere ts (f + 1))) (congrArg zI (by simp only [mThere]; split <;> omega)) ?_
        refine J_istore_n dX2_counted_208 rfl (by decide) _ rfl ?_
        refine J_iinc_z ((((f + 1)) : Nat) : Int) (by omega) dX2_counted_209 rfl rfl (by decide) _ rfl ?_
        refine J_goto (tgt := 187) dX2_counted_212 (by decide) ?_
        exact ih (f + 1) (by omega) (by omega)
theorem tl_counted219 {E : jEnv} {α : Nat → Nat} {σ : tS} {Q : Option Value → tS → Prop} {many : Nat} {wide high bl : Int} {G : Nat → Nat → Int} {P : Nat → Nat → Int} {rule : Int} {dm : Nat} {H : Nat → mPl} {kc : Nat → Int} {KH : Nat → Nat → mPl} {KN : Nat → mPl} {rs : Nat → Int} {rd : Nat → Nat → Int32} {ts : Nat → Int} {tb : Nat → Nat → Int}  (hS : tSh many wide high bl G σ) (hO : shOK many wide high bl G) (hP : tPl P rule σ) (hN : plOK many P rule) (hV : plV many wide high bl G P) (hL : tLg dm H σ) (hd : dm ≤ 40) (hK : tKp kc KH KN σ) (hkc : ∀ k, k < 3 → -1 ≤ kc k ∧ kc k ≤ 40) (hDt : tDt rs rd ts tb σ) (hDo : dtOK rs ts tb) (hq : Q (some (.int (zI (mCnt many wide high bl G P rule dm rs ts kc 13)))) σ) : ∀ (n : Nat) (f : Nat), f ≤ 3 → 3 - f < n → jX2_counted E α 219 [some (.ref (α 0)), some (.int (zI 13)), some (.int (zI (mThere kc f))), some (.int (zI (f : Nat)))] [] σ Q := by
  intro n
  induction n with
  | zero => intro f h1 hn; exact absurd hn (Nat.not_lt_zero _)
  | succ n ih =>
    intro f h1 hn
    have := hO.s
    refine J_iload_n dX2_counted_219 rfl ?_
    refine J_iconst (zI 3) dX2_counted_220 rfl ?_
    refine J_icmp_ge_z (tgt := 247) dX2_counted_221 (by decide) (by unfold zR; omega) (by unfold zR; omega) (fun c221 => ?_) (fun c221 => ?_)
    · skip
      obtain rfl : f = 3 := by omega
      refine J_iload_n dX2_counted_247 rfl ?_
      exact J_iret rfl dX2_counted_248 (by exact hq)
    · skip
      have := hkc f (by omega)
      refine J_iload_n dX2_counted_224 rfl ?_
      refine J_aload_n dX2_counted_225 rfl ?_
      refine TG_keptMany dX2_counted_226 ?_
      refine J_iload_n dX2_counted_229 rfl ?_
      refine TJ_iald 38 (f) ⟨rfl, rfl, by decide⟩ (by omega) (show f < 3 by omega) dX2_counted_230 ?_
      refine J_top (zI (kc f)) ((hK f (by omega)).1) ?_
      refine J_if_lt_z (tgt := 238) dX2_counted_231 (by decide) (by unfold zR; omega) (fun c231 => ?_) (fun c231 => ?_)
      · skip
        refine J_iconst (zI 0) dX2_counted_238 rfl ?_
        refine J_iadd_z dX2_counted_239 ?_
        refine J_top (zI (mThere kc (f + 1))) (congrArg zI (by simp only [mThere]; split <;> omega)) ?_
        refine J_istore_n dX2_counted_240 rfl (by decide) _ rfl ?_
        refine J_iinc_z ((((f + 1)) : Nat) : Int) (by omega) dX2_counted_241 rfl rfl (by decide) _ rfl ?_
        refine J_goto (tgt := 219) dX2_counted_244 (by decide) ?_
        exact ih (f + 1) (by omega) (by omega)
      · skip
        refine J_iconst (zI 1) dX2_counted_234 rfl ?_
        refine J_goto (tgt := 239) dX2_counted_235 (by decide) ?_
        refine J_iadd_z dX2_counted_239 ?_
        refine J_top (zI (mThere kc (f + 1))) (congrArg zI (by simp only [mThere]; split <;> omega)) ?_
        refine J_istore_n dX2_counted_240 rfl (by decide) _ rfl ?_
        refine J_iinc_z ((((f + 1)) : Nat) : Int) (by omega) dX2_counted_241 rfl rfl (by decide) _ rfl ?_
        refine J_goto (tgt := 219) dX2_counted_244 (by decide) ?_
        exact ih (f + 1) (by omega) (by omega)
theorem t_counted_0 {E : jEnv} {α : Nat → Nat} {σ : tS} {Q : Option Value → tS → Prop} {many : Nat} {wide high bl : Int} {G : Nat → Nat → Int} {P : Nat → Nat → Int} {rule : Int} {dm : Nat} {H : Nat → mPl} {kc : Nat → Int} {KH : Nat → Nat → mPl} {KN : Nat → mPl} {rs : Nat → Int} {rd : Nat → Nat → Int32} {ts : Nat → Int} {tb : Nat → Nat → Int}  (hS : tSh many wide high bl G σ) (hO : shOK many wide high bl G) (hP : tPl P rule σ) (hN : plOK many P rule) (hV : plV many wide high bl G P) (hL : tLg dm H σ) (hd : dm ≤ 40) (hK : tKp kc KH KN σ) (hkc : ∀ k, k < 3 → -1 ≤ kc k ∧ kc k ≤ 40) (hDt : tDt rs rd ts tb σ) (hDo : dtOK rs ts tb) (hq : ∀ σ1, tEq [27, 32, 33, 34, 35] [26, 28, 29, 30, 31] σ σ1 → Q (some (.int (zI (mCnt many wide high bl G P rule dm rs ts kc 0)))) σ1) : jX2_counted E α 0 [some (.ref (α 0)), some (.int (zI 0)), none, none] [] σ Q := by
  refine J_iconst (zI 0) dX2_counted_0 rfl ?_
  refine J_istore_n dX2_counted_1 rfl (by decide) _ rfl ?_
  refine J_iload_n dX2_counted_2 rfl ?_
  refine J_tableIn (tgt := 68) (65) dX2_counted_3 (by decide) (by decide) rfl (by decide) ?_
  refine J_aload_n dX2_counted_68 rfl ?_
  refine TG_frameMany dX2_counted_69 ?_
  refine J_top (zI (many)) hS.1 ?_
  exact J_iret rfl dX2_counted_72 (by exact hq σ tEq.refl)
theorem t_counted_1 {E : jEnv} {α : Nat → Nat} {σ : tS} {Q : Option Value → tS → Prop} {many : Nat} {wide high bl : Int} {G : Nat → Nat → Int} {P : Nat → Nat → Int} {rule : Int} {dm : Nat} {H : Nat → mPl} {kc : Nat → Int} {KH : Nat → Nat → mPl} {KN : Nat → mPl} {rs : Nat → Int} {rd : Nat → Nat → Int32} {ts : Nat → Int} {tb : Nat → Nat → Int}  (hS : tSh many wide high bl G σ) (hO : shOK many wide high bl G) (hP : tPl P rule σ) (hN : plOK many P rule) (hV : plV many wide high bl G P) (hL : tLg dm H σ) (hd : dm ≤ 40) (hK : tKp kc KH KN σ) (hkc : ∀ k, k < 3 → -1 ≤ kc k ∧ kc k ≤ 40) (hDt : tDt rs rd ts tb σ) (hDo : dtOK rs ts tb) (hq : ∀ σ1, tEq [27, 32, 33, 34, 35] [26, 28, 29, 30, 31] σ σ1 → Q (some (.int (zI (mCnt many wide high bl G P rule dm rs ts kc 1)))) σ1) : jX2_counted E α 0 [some (.ref (α 0)), some (.int (zI 1)), none, none] [] σ Q := by
  refine J_iconst (zI 0) dX2_counted_0 rfl ?_
  refine J_istore_n dX2_counted_1 rfl (by decide) _ rfl ?_
  refine J_iload_n dX2_counted_2 rfl ?_
  refine J_tableIn (tgt := 73) (70) dX2_counted_3 (by decide) (by decide) rfl (by decide) ?_
  refine J_aload_n dX2_counted_73 rfl ?_
  refine TC_X2_setMany (by decide) (Nat.le_of_ble_eq_true rfl) dX2_counted_74 ?_
  refine t_setMany hS hO hP hN  ?_
  refine J_ri ?_
  exact J_iret rfl dX2_counted_77 (by exact hq σ tEq.refl)
theorem t_counted_2 {E : jEnv} {α : Nat → Nat} {σ : tS} {Q : Option Value → tS → Prop} {many : Nat} {wide high bl : Int} {G : Nat → Nat → Int} {P : Nat → Nat → Int} {rule : Int} {dm : Nat} {H : Nat → mPl} {kc : Nat → Int} {KH : Nat → Nat → mPl} {KN : Nat → mPl} {rs : Nat → Int} {rd : Nat → Nat → Int32} {ts : Nat → Int} {tb : Nat → Nat → Int}  (hS : tSh many wide high bl G σ) (hO : shOK many wide high bl G) (hP : tPl P rule σ) (hN : plOK many P rule) (hV : plV many wide high bl G P) (hL : tLg dm H σ) (hd : dm ≤ 40) (hK : tKp kc KH KN σ) (hkc : ∀ k, k < 3 → -1 ≤ kc k ∧ kc k ≤ 40) (hDt : tDt rs rd ts tb σ) (hDo : dtOK rs ts tb) (hq : ∀ σ1, tEq [27, 32, 33, 34, 35] [26, 28, 29, 30, 31] σ σ1 → Q (some (.int (zI (mCnt many wide high bl G P rule dm rs ts kc 2)))) σ1) : jX2_counted E α 0 [some (.ref (α 0)), some (.int (zI 2)), none, none] [] σ Q := by
  refine J_iconst (zI 0) dX2_counted_0 rfl ?_
  refine J_istore_n dX2_counted_1 rfl (by decide) _ rfl ?_
  refine J_iload_n dX2_counted_2 rfl ?_
  refine J_tableIn (tgt := 78) (75) dX2_counted_3 (by decide) (by decide) rfl (by decide) ?_
  refine J_aload_n dX2_counted_78 rfl ?_
  refine TC_X2_pageMany (by decide) (Nat.le_of_ble_eq_true rfl) dX2_counted_79 ?_
  refine t_pageMany hS hO hP hN  ?_
  refine J_ri ?_
  exact J_iret rfl dX2_counted_82 (by exact hq σ tEq.refl)
theorem t_counted_3 {E : jEnv} {α : Nat → Nat} {σ : tS} {Q : Option Value → tS → Prop} {many : Nat} {wide high bl : Int} {G : Nat → Nat → Int} {P : Nat → Nat → Int} {rule : Int} {dm : Nat} {H : Nat → mPl} {kc : Nat → Int} {KH : Nat → Nat → mPl} {KN : Nat → mPl} {rs : Nat → Int} {rd : Nat → Nat → Int32} {ts : Nat → Int} {tb : Nat → Nat → Int}  (hS : tSh many wide high bl G σ) (hO : shOK many wide high bl G) (hP : tPl P rule σ) (hN : plOK many P rule) (hV : plV many wide high bl G P) (hL : tLg dm H σ) (hd : dm ≤ 40) (hK : tKp kc KH KN σ) (hkc : ∀ k, k < 3 → -1 ≤ kc k ∧ kc k ≤ 40) (hDt : tDt rs rd ts tb σ) (hDo : dtOK rs ts tb) (hq : ∀ σ1, tEq [27, 32, 33, 34, 35] [26, 28, 29, 30, 31] σ σ1 → Q (some (.int (zI (mCnt many wide high bl G P rule dm rs ts kc 3)))) σ1) : jX2_counted E α 0 [some (.ref (α 0)), some (.int (zI 3)), none, none] [] σ Q := by
  refine J_iconst (zI 0) dX2_counted_0 rfl ?_
  refine J_istore_n dX2_counted_1 rfl (by decide) _ rfl ?_
  refine J_iload_n dX2_counted_2 rfl ?_
  refine J_tableIn (tgt := 83) (80) dX2_counted_3 (by decide) (by decide) rfl (by decide) ?_
  refine J_aload_n dX2_counted_83 rfl ?_
  refine TG_wide dX2_counted_84 ?_
  refine J_top (zI (wide)) hS.2.1 ?_
  exact J_iret rfl dX2_counted_87 (by exact hq σ tEq.refl)
theorem t_counted_4 {E : jEnv} {α : Nat → Nat} {σ : tS} {Q : Option Value → tS → Prop} {many : Nat} {wide high bl : Int} {G : Nat → Nat → Int} {P : Nat → Nat → Int} {rule : Int} {dm : Nat} {H : Nat → mPl} {kc : Nat → Int} {KH : Nat → Nat → mPl} {KN : Nat → mPl} {rs : Nat → Int} {rd : Nat → Nat → Int32} {ts : Nat → Int} {tb : Nat → Nat → Int}  (hS : tSh many wide high bl G σ) (hO : shOK many wide high bl G) (hP : tPl P rule σ) (hN : plOK many P rule) (hV : plV many wide high bl G P) (hL : tLg dm H σ) (hd : dm ≤ 40) (hK : tKp kc KH KN σ) (hkc : ∀ k, k < 3 → -1 ≤ kc k ∧ kc k ≤ 40) (hDt : tDt rs rd ts tb σ) (hDo : dtOK rs ts tb) (hq : ∀ σ1, tEq [27, 32, 33, 34, 35] [26, 28, 29, 30, 31] σ σ1 → Q (some (.int (zI (mCnt many wide high bl G P rule dm rs ts kc 4)))) σ1) : jX2_counted E α 0 [some (.ref (α 0)), some (.int (zI 4)), none, none] [] σ Q := by
  refine J_iconst (zI 0) dX2_counted_0 rfl ?_
  refine J_istore_n dX2_counted_1 rfl (by decide) _ rfl ?_
  refine J_iload_n dX2_counted_2 rfl ?_
  refine J_tableIn (tgt := 88) (85) dX2_counted_3 (by decide) (by decide) rfl (by decide) ?_
  refine J_aload_n dX2_counted_88 rfl ?_
  refine TG_high dX2_counted_89 ?_
  refine J_top (zI (high)) hS.2.2.1 ?_
  exact J_iret rfl dX2_counted_92 (by exact hq σ tEq.refl)
theorem t_counted_5 {E : jEnv} {α : Nat → Nat} {σ : tS} {Q : Option Value → tS → Prop} {many : Nat} {wide high bl : Int} {G : Nat → Nat → Int} {P : Nat → Nat → Int} {rule : Int} {dm : Nat} {H : Nat → mPl} {kc : Nat → Int} {KH : Nat → Nat → mPl} {KN : Nat → mPl} {rs : Nat → Int} {rd : Nat → Nat → Int32} {ts : Nat → Int} {tb : Nat → Nat → Int}  (hS : tSh many wide high bl G σ) (hO : shOK many wide high bl G) (hP : tPl P rule σ) (hN : plOK many P rule) (hV : plV many wide high bl G P) (hL : tLg dm H σ) (hd : dm ≤ 40) (hK : tKp kc KH KN σ) (hkc : ∀ k, k < 3 → -1 ≤ kc k ∧ kc k ≤ 40) (hDt : tDt rs rd ts tb σ) (hDo : dtOK rs ts tb) (hq : ∀ σ1, tEq [27, 32, 33, 34, 35] [26, 28, 29, 30, 31] σ σ1 → Q (some (.int (zI (mCnt many wide high bl G P rule dm rs ts kc 5)))) σ1) : jX2_counted E α 0 [some (.ref (α 0)), some (.int (zI 5)), none, none] [] σ Q := by
  refine J_iconst (zI 0) dX2_counted_0 rfl ?_
  refine J_istore_n dX2_counted_1 rfl (by decide) _ rfl ?_
  refine J_iload_n dX2_counted_2 rfl ?_
  refine J_tableIn (tgt := 93) (90) dX2_counted_3 (by decide) (by decide) rfl (by decide) ?_
  refine J_aload_n dX2_counted_93 rfl ?_
  refine TG_bleed dX2_counted_94 ?_
  refine J_top (zI (bl)) hS.2.2.2.1 ?_
  exact J_iret rfl dX2_counted_97 (by exact hq σ tEq.refl)
theorem t_counted_6 {E : jEnv} {α : Nat → Nat} {σ : tS} {Q : Option Value → tS → Prop} {many : Nat} {wide high bl : Int} {G : Nat → Nat → Int} {P : Nat → Nat → Int} {rule : Int} {dm : Nat} {H : Nat → mPl} {kc : Nat → Int} {KH : Nat → Nat → mPl} {KN : Nat → mPl} {rs : Nat → Int} {rd : Nat → Nat → Int32} {ts : Nat → Int} {tb : Nat → Nat → Int}  (hS : tSh many wide high bl G σ) (hO : shOK many wide high bl G) (hP : tPl P rule σ) (hN : plOK many P rule) (hV : plV many wide high bl G P) (hL : tLg dm H σ) (hd : dm ≤ 40) (hK : tKp kc KH KN σ) (hkc : ∀ k, k < 3 → -1 ≤ kc k ∧ kc k ≤ 40) (hDt : tDt rs rd ts tb σ) (hDo : dtOK rs ts tb) (hq : ∀ σ1, tEq [27, 32, 33, 34, 35] [26, 28, 29, 30, 31] σ σ1 → Q (some (.int (zI (mCnt many wide high bl G P rule dm rs ts kc 6)))) σ1) : jX2_counted E α 0 [some (.ref (α 0)), some (.int (zI 6)), none, none] [] σ Q := by
  refine J_iconst (zI 0) dX2_counted_0 rfl ?_
  refine J_istore_n dX2_counted_1 rfl (by decide) _ rfl ?_
  refine J_iload_n dX2_counted_2 rfl ?_
  refine J_tableIn (tgt := 98) (95) dX2_counted_3 (by decide) (by decide) rfl (by decide) ?_
  refine J_aload_n dX2_counted_98 rfl ?_
  refine TG_now dX2_counted_99 ?_
  refine J_bipush (zI 32) dX2_counted_102 rfl ?_
  refine TJ_iald 23 (32) ⟨rfl, rfl, by decide⟩ (by omega) (show 32 < 33 by omega) dX2_counted_104 ?_
  refine J_top (zI (rule)) (hP.2) ?_
  exact J_iret rfl dX2_counted_105 (by exact hq σ tEq.refl)
theorem t_counted_7 {E : jEnv} {α : Nat → Nat} {σ : tS} {Q : Option Value → tS → Prop} {many : Nat} {wide high bl : Int} {G : Nat → Nat → Int} {P : Nat → Nat → Int} {rule : Int} {dm : Nat} {H : Nat → mPl} {kc : Nat → Int} {KH : Nat → Nat → mPl} {KN : Nat → mPl} {rs : Nat → Int} {rd : Nat → Nat → Int32} {ts : Nat → Int} {tb : Nat → Nat → Int}  (hS : tSh many wide high bl G σ) (hO : shOK many wide high bl G) (hP : tPl P rule σ) (hN : plOK many P rule) (hV : plV many wide high bl G P) (hL : tLg dm H σ) (hd : dm ≤ 40) (hK : tKp kc KH KN σ) (hkc : ∀ k, k < 3 → -1 ≤ kc k ∧ kc k ≤ 40) (hDt : tDt rs rd ts tb σ) (hDo : dtOK rs ts tb) (hq : ∀ σ1, tEq [27, 32, 33, 34, 35] [26, 28, 29, 30, 31] σ σ1 → Q (some (.int (zI (mCnt many wide high bl G P rule dm rs ts kc 7)))) σ1) : jX2_counted E α 0 [some (.ref (α 0)), some (.int (zI 7)), none, none] [] σ Q := by
  refine J_iconst (zI 0) dX2_counted_0 rfl ?_
  refine J_istore_n dX2_counted_1 rfl (by decide) _ rfl ?_
  refine J_iload_n dX2_counted_2 rfl ?_
  refine J_tableIn (tgt := 106) (103) dX2_counted_3 (by decide) (by decide) rfl (by decide) ?_
  refine J_aload_n dX2_counted_106 rfl ?_
  refine TC_X2_allTaken (by decide) (Nat.le_of_ble_eq_true rfl) dX2_counted_107 ?_
  refine t_allTaken hS hO hP hN  ?_
  refine J_ri ?_
  exact J_iret rfl dX2_counted_110 (by exact hq σ tEq.refl)
theorem t_counted_8 {E : jEnv} {α : Nat → Nat} {σ : tS} {Q : Option Value → tS → Prop} {many : Nat} {wide high bl : Int} {G : Nat → Nat → Int} {P : Nat → Nat → Int} {rule : Int} {dm : Nat} {H : Nat → mPl} {kc : Nat → Int} {KH : Nat → Nat → mPl} {KN : Nat → mPl} {rs : Nat → Int} {rd : Nat → Nat → Int32} {ts : Nat → Int} {tb : Nat → Nat → Int}  (hS : tSh many wide high bl G σ) (hO : shOK many wide high bl G) (hP : tPl P rule σ) (hN : plOK many P rule) (hV : plV many wide high bl G P) (hL : tLg dm H σ) (hd : dm ≤ 40) (hK : tKp kc KH KN σ) (hkc : ∀ k, k < 3 → -1 ≤ kc k ∧ kc k ≤ 40) (hDt : tDt rs rd ts tb σ) (hDo : dtOK rs ts tb) (hq : ∀ σ1, tEq [27, 32, 33, 34, 35] [26, 28, 29, 30, 31] σ σ1 → Q (some (.int (zI (mCnt many wide high bl G P rule dm rs ts kc 8)))) σ1) : jX2_counted E α 0 [some (.ref (α 0)), some (.int (zI 8)), none, none] [] σ Q := by
  refine J_iconst (zI 0) dX2_counted_0 rfl ?_
  refine J_istore_n dX2_counted_1 rfl (by decide) _ rfl ?_
  refine J_iload_n dX2_counted_2 rfl ?_
  refine J_tableIn (tgt := 111) (108) dX2_counted_3 (by decide) (by decide) rfl (by decide) ?_
  refine J_aload_n dX2_counted_111 rfl ?_
  refine TC_X2_allFree (by decide) (Nat.le_of_ble_eq_true rfl) dX2_counted_112 ?_
  refine t_allFree hS hO hP hN hV (fun σ1 e1 => ?_)
  refine J_ri ?_
  exact J_iret rfl dX2_counted_115 (by exact hq σ1 e1)
theorem t_counted_9 {E : jEnv} {α : Nat → Nat} {σ : tS} {Q : Option Value → tS → Prop} {many : Nat} {wide high bl : Int} {G : Nat → Nat → Int} {P : Nat → Nat → Int} {rule : Int} {dm : Nat} {H : Nat → mPl} {kc : Nat → Int} {KH : Nat → Nat → mPl} {KN : Nat → mPl} {rs : Nat → Int} {rd : Nat → Nat → Int32} {ts : Nat → Int} {tb : Nat → Nat → Int}  (hS : tSh many wide high bl G σ) (hO : shOK many wide high bl G) (hP : tPl P rule σ) (hN : plOK many P rule) (hV : plV many wide high bl G P) (hL : tLg dm H σ) (hd : dm ≤ 40) (hK : tKp kc KH KN σ) (hkc : ∀ k, k < 3 → -1 ≤ kc k ∧ kc k ≤ 40) (hDt : tDt rs rd ts tb σ) (hDo : dtOK rs ts tb) (hq : ∀ σ1, tEq [27, 32, 33, 34, 35] [26, 28, 29, 30, 31] σ σ1 → Q (some (.int (zI (mCnt many wide high bl G P rule dm rs ts kc 9)))) σ1) : jX2_counted E α 0 [some (.ref (α 0)), some (.int (zI 9)), none, none] [] σ Q := by
  refine J_iconst (zI 0) dX2_counted_0 rfl ?_
  refine J_istore_n dX2_counted_1 rfl (by decide) _ rfl ?_
  refine J_iload_n dX2_counted_2 rfl ?_
  refine J_tableIn (tgt := 116) (113) dX2_counted_3 (by decide) (by decide) rfl (by decide) ?_
  refine J_iconst (zI 0) dX2_counted_116 rfl ?_
  refine J_istore_n dX2_counted_117 rfl (by decide) _ rfl ?_
  exact tl_counted118 hS hO hP hN hV hL hd hK hkc hDt hDo (hq σ tEq.refl) _ 0 (by omega) (Nat.lt_succ_self _)
theorem t_counted_10 {E : jEnv} {α : Nat → Nat} {σ : tS} {Q : Option Value → tS → Prop} {many : Nat} {wide high bl : Int} {G : Nat → Nat → Int} {P : Nat → Nat → Int} {rule : Int} {dm : Nat} {H : Nat → mPl} {kc : Nat → Int} {KH : Nat → Nat → mPl} {KN : Nat → mPl} {rs : Nat → Int} {rd : Nat → Nat → Int32} {ts : Nat → Int} {tb : Nat → Nat → Int}  (hS : tSh many wide high bl G σ) (hO : shOK many wide high bl G) (hP : tPl P rule σ) (hN : plOK many P rule) (hV : plV many wide high bl G P) (hL : tLg dm H σ) (hd : dm ≤ 40) (hK : tKp kc KH KN σ) (hkc : ∀ k, k < 3 → -1 ≤ kc k ∧ kc k ≤ 40) (hDt : tDt rs rd ts tb σ) (hDo : dtOK rs ts tb) (hq : ∀ σ1, tEq [27, 32, 33, 34, 35] [26, 28, 29, 30, 31] σ σ1 → Q (some (.int (zI (mCnt many wide high bl G P rule dm rs ts kc 10)))) σ1) : jX2_counted E α 0 [some (.ref (α 0)), some (.int (zI 10)), none, none] [] σ Q := by
  refine J_iconst (zI 0) dX2_counted_0 rfl ?_
  refine J_istore_n dX2_counted_1 rfl (by decide) _ rfl ?_
  refine J_iload_n dX2_counted_2 rfl ?_
  refine J_tableIn (tgt := 147) (144) dX2_counted_3 (by decide) (by decide) rfl (by decide) ?_
  refine J_aload_n dX2_counted_147 rfl ?_
  refine TG_deedMany dX2_counted_148 ?_
  refine J_top (zI (dm)) hL.1 ?_
  exact J_iret rfl dX2_counted_151 (by exact hq σ tEq.refl)
theorem t_counted_11 {E : jEnv} {α : Nat → Nat} {σ : tS} {Q : Option Value → tS → Prop} {many : Nat} {wide high bl : Int} {G : Nat → Nat → Int} {P : Nat → Nat → Int} {rule : Int} {dm : Nat} {H : Nat → mPl} {kc : Nat → Int} {KH : Nat → Nat → mPl} {KN : Nat → mPl} {rs : Nat → Int} {rd : Nat → Nat → Int32} {ts : Nat → Int} {tb : Nat → Nat → Int}  (hS : tSh many wide high bl G σ) (hO : shOK many wide high bl G) (hP : tPl P rule σ) (hN : plOK many P rule) (hV : plV many wide high bl G P) (hL : tLg dm H σ) (hd : dm ≤ 40) (hK : tKp kc KH KN σ) (hkc : ∀ k, k < 3 → -1 ≤ kc k ∧ kc k ≤ 40) (hDt : tDt rs rd ts tb σ) (hDo : dtOK rs ts tb) (hq : ∀ σ1, tEq [27, 32, 33, 34, 35] [26, 28, 29, 30, 31] σ σ1 → Q (some (.int (zI (mCnt many wide high bl G P rule dm rs ts kc 11)))) σ1) : jX2_counted E α 0 [some (.ref (α 0)), some (.int (zI 11)), none, none] [] σ Q := by
  refine J_iconst (zI 0) dX2_counted_0 rfl ?_
  refine J_istore_n dX2_counted_1 rfl (by decide) _ rfl ?_
  refine J_iload_n dX2_counted_2 rfl ?_
  refine J_tableIn (tgt := 152) (149) dX2_counted_3 (by decide) (by decide) rfl (by decide) ?_
  refine J_iconst (zI 0) dX2_counted_152 rfl ?_
  refine J_istore_n dX2_counted_153 rfl (by decide) _ rfl ?_
  exact tl_counted154 hS hO hP hN hV hL hd hK hkc hDt hDo (hq σ tEq.refl) _ 0 (by omega) (Nat.lt_succ_self _)
theorem t_counted_12 {E : jEnv} {α : Nat → Nat} {σ : tS} {Q : Option Value → tS → Prop} {many : Nat} {wide high bl : Int} {G : Nat → Nat → Int} {P : Nat → Nat → Int} {rule : Int} {dm : Nat} {H : Nat → mPl} {kc : Nat → Int} {KH : Nat → Nat → mPl} {KN : Nat → mPl} {rs : Nat → Int} {rd : Nat → Nat → Int32} {ts : Nat → Int} {tb : Nat → Nat → Int}  (hS : tSh many wide high bl G σ) (hO : shOK many wide high bl G) (hP : tPl P rule σ) (hN : plOK many P rule) (hV : plV many wide high bl G P) (hL : tLg dm H σ) (hd : dm ≤ 40) (hK : tKp kc KH KN σ) (hkc : ∀ k, k < 3 → -1 ≤ kc k ∧ kc k ≤ 40) (hDt : tDt rs rd ts tb σ) (hDo : dtOK rs ts tb) (hq : ∀ σ1, tEq [27, 32, 33, 34, 35] [26, 28, 29, 30, 31] σ σ1 → Q (some (.int (zI (mCnt many wide high bl G P rule dm rs ts kc 12)))) σ1) : jX2_counted E α 0 [some (.ref (α 0)), some (.int (zI 12)), none, none] [] σ Q := by
  refine J_iconst (zI 0) dX2_counted_0 rfl ?_
  refine J_istore_n dX2_counted_1 rfl (by decide) _ rfl ?_
  refine J_iload_n dX2_counted_2 rfl ?_
  refine J_tableIn (tgt := 185) (182) dX2_counted_3 (by decide) (by decide) rfl (by decide) ?_
  refine J_iconst (zI 0) dX2_counted_185 rfl ?_
  refine J_istore_n dX2_counted_186 rfl (by decide) _ rfl ?_
  exact tl_counted187 hS hO hP hN hV hL hd hK hkc hDt hDo (hq σ tEq.refl) _ 0 (by omega) (Nat.lt_succ_self _)
theorem t_counted_13 {E : jEnv} {α : Nat → Nat} {σ : tS} {Q : Option Value → tS → Prop} {many : Nat} {wide high bl : Int} {G : Nat → Nat → Int} {P : Nat → Nat → Int} {rule : Int} {dm : Nat} {H : Nat → mPl} {kc : Nat → Int} {KH : Nat → Nat → mPl} {KN : Nat → mPl} {rs : Nat → Int} {rd : Nat → Nat → Int32} {ts : Nat → Int} {tb : Nat → Nat → Int}  (hS : tSh many wide high bl G σ) (hO : shOK many wide high bl G) (hP : tPl P rule σ) (hN : plOK many P rule) (hV : plV many wide high bl G P) (hL : tLg dm H σ) (hd : dm ≤ 40) (hK : tKp kc KH KN σ) (hkc : ∀ k, k < 3 → -1 ≤ kc k ∧ kc k ≤ 40) (hDt : tDt rs rd ts tb σ) (hDo : dtOK rs ts tb) (hq : ∀ σ1, tEq [27, 32, 33, 34, 35] [26, 28, 29, 30, 31] σ σ1 → Q (some (.int (zI (mCnt many wide high bl G P rule dm rs ts kc 13)))) σ1) : jX2_counted E α 0 [some (.ref (α 0)), some (.int (zI 13)), none, none] [] σ Q := by
  refine J_iconst (zI 0) dX2_counted_0 rfl ?_
  refine J_istore_n dX2_counted_1 rfl (by decide) _ rfl ?_
  refine J_iload_n dX2_counted_2 rfl ?_
  refine J_tableOut (tgt := 217) dX2_counted_3 (by decide) (by decide) ?_
  refine J_iconst (zI 0) dX2_counted_217 rfl ?_
  refine J_istore_n dX2_counted_218 rfl (by decide) _ rfl ?_
  exact tl_counted219 hS hO hP hN hV hL hd hK hkc hDt hDo (hq σ tEq.refl) _ 0 (by omega) (Nat.lt_succ_self _)
theorem t_counted {E : jEnv} {α : Nat → Nat} {σ : tS} {Q : Option Value → tS → Prop} {many : Nat} {wide high bl : Int} {G : Nat → Nat → Int} {P : Nat → Nat → Int} {rule : Int} {dm : Nat} {H : Nat → mPl} {kc : Nat → Int} {KH : Nat → Nat → mPl} {KN : Nat → mPl} {rs : Nat → Int} {rd : Nat → Nat → Int32} {ts : Nat → Int} {tb : Nat → Nat → Int} {k : Nat} (hS : tSh many wide high bl G σ) (hO : shOK many wide high bl G) (hP : tPl P rule σ) (hN : plOK many P rule) (hV : plV many wide high bl G P) (hL : tLg dm H σ) (hd : dm ≤ 40) (hK : tKp kc KH KN σ) (hkc : ∀ k, k < 3 → -1 ≤ kc k ∧ kc k ≤ 40) (hDt : tDt rs rd ts tb σ) (hDo : dtOK rs ts tb) (hk : k < 14) (hq : ∀ σ1, tEq [27, 32, 33, 34, 35] [26, 28, 29, 30, 31] σ σ1 → Q (some (.int (zI (mCnt many wide high bl G P rule dm rs ts kc k)))) σ1) : jX2_counted E α 0 [some (.ref (α 0)), some (.int (zI (k : Nat))), none, none] [] σ Q := by
  match k, hk with
  | 0, _ => exact t_counted_0 hS hO hP hN hV hL hd hK hkc hDt hDo hq
  | 1, _ => exact t_counted_1 hS hO hP hN hV hL hd hK hkc hDt hDo hq
  | 2, _ => exact t_counted_2 hS hO hP hN hV hL hd hK hkc hDt hDo hq
  | 3, _ => exact t_counted_3 hS hO hP hN hV hL hd hK hkc hDt hDo hq
  | 4, _ => exact t_counted_4 hS hO hP hN hV hL hd hK hkc hDt hDo hq
  | 5, _ => exact t_counted_5 hS hO hP hN hV hL hd hK hkc hDt hDo hq
  | 6, _ => exact t_counted_6 hS hO hP hN hV hL hd hK hkc hDt hDo hq
  | 7, _ => exact t_counted_7 hS hO hP hN hV hL hd hK hkc hDt hDo hq
  | 8, _ => exact t_counted_8 hS hO hP hN hV hL hd hK hkc hDt hDo hq
  | 9, _ => exact t_counted_9 hS hO hP hN hV hL hd hK hkc hDt hDo hq
  | 10, _ => exact t_counted_10 hS hO hP hN hV hL hd hK hkc hDt hDo hq
  | 11, _ => exact t_counted_11 hS hO hP hN hV hL hd hK hkc hDt hDo hq
  | 12, _ => exact t_counted_12 hS hO hP hN hV hL hd hK hkc hDt hDo hq
  | 13, _ => exact t_counted_13 hS hO hP hN hV hL hd hK hkc hDt hDo hq
theorem t_count_bad {E : jEnv} {α : Nat → Nat} {σ : tS} {Q : Option Value → tS → Prop} {v : Int} (rv : zR v) (hv : ¬ (0 ≤ v ∧ v ≤ 13)) (hq : Q (some (.int (zI (-1)))) σ) : jX2_count E α 0 [some (.ref (α 0)), some (.int (zI (v)))] [] σ Q := by
  refine J_iload_n dX2_count_0 rfl ?_
  refine J_iconst (zI 0) dX2_count_1 rfl ?_
  refine J_bipush (zI 13) dX2_count_2 rfl ?_
  refine TC_X2_in (by decide) (Nat.le_of_ble_eq_true rfl) dX2_count_4 ?_
  refine t_in (by unfold zR at *; omega) (by unfold zR at *; omega) (by unfold zR at *; omega) (fun b4 => ?_) (fun b4 => ?_)
  · exfalso; omega
  · refine J_ri ?_
    refine J_if_eq_y (tgt := 18) dX2_count_7 (by decide) (by decide) ?_
    refine J_iconst (zI (-1)) dX2_count_18 rfl ?_
    exact J_iret rfl dX2_count_19 (by exact hq)
theorem t_count {E : jEnv} {α : Nat → Nat} {σ : tS} {Q : Option Value → tS → Prop} {many : Nat} {wide high bl : Int} {G : Nat → Nat → Int} {P : Nat → Nat → Int} {rule : Int} {dm : Nat} {H : Nat → mPl} {kc : Nat → Int} {KH : Nat → Nat → mPl} {KN : Nat → mPl} {rs : Nat → Int} {rd : Nat → Nat → Int32} {ts : Nat → Int} {tb : Nat → Nat → Int} {k : Nat} (hS : tSh many wide high bl G σ) (hO : shOK many wide high bl G) (hP : tPl P rule σ) (hN : plOK many P rule) (hV : plV many wide high bl G P) (hL : tLg dm H σ) (hd : dm ≤ 40) (hK : tKp kc KH KN σ) (hkc : ∀ k, k < 3 → -1 ≤ kc k ∧ kc k ≤ 40) (hDt : tDt rs rd ts tb σ) (hDo : dtOK rs ts tb) (hk : k < 14) (hq : ∀ σ1, tEq [27, 32, 33, 34, 35] [26, 28, 29, 30, 31] σ σ1 → Q (some (.int (zI (mCnt many wide high bl G P rule dm rs ts kc k)))) σ1) : jX2_count E α 0 [some (.ref (α 0)), some (.int (zI (k : Nat)))] [] σ Q := by
  refine J_iload_n dX2_count_0 rfl ?_
  refine J_iconst (zI 0) dX2_count_1 rfl ?_
  refine J_bipush (zI 13) dX2_count_2 rfl ?_
  refine TC_X2_in (by decide) (Nat.le_of_ble_eq_true rfl) dX2_count_4 ?_
  refine t_in (by unfold zR; omega) (by unfold zR; omega) (by unfold zR; omega) (fun b4 => ?_) (fun b4 => ?_)
  · refine J_ri ?_
    refine J_if_eq_n (tgt := 18) dX2_count_7 (by decide) (by decide) ?_
    refine J_aload_n dX2_count_10 rfl ?_
    refine J_iload_n dX2_count_11 rfl ?_
    refine TC_X2_counted (by decide) (Nat.le_of_ble_eq_true rfl) dX2_count_12 ?_
    refine t_counted hS hO hP hN hV hL hd hK hkc hDt hDo (by omega) (fun σ1 e1 => ?_)
    refine J_ri ?_
    refine J_goto (tgt := 19) dX2_count_15 (by decide) ?_
    exact J_iret rfl dX2_count_19 (by exact hq σ1 e1)
  · exfalso; omega
theorem t_adds {E : jEnv} {α : Nat → Nat} {σ : tS} {Q : Option Value → tS → Prop} {v : Int64} (hq : Q none (setL σ (31 * σ.2.2 + v))) : jX2_adds E α 0 [some (.ref (α 0)), some (.long (v)), none] [] σ Q := by
  refine J_aload_n dX2_adds_0 rfl ?_
  refine J_ldc2 31 q2104 dX2_adds_1 ?_
  refine J_aload_n dX2_adds_4 rfl ?_
  refine TG_h dX2_adds_5 ?_
  refine J_lmul dX2_adds_8 ?_
  refine J_lload_n dX2_adds_9 rfl ?_
  refine J_ladd dX2_adds_10 ?_
  refine TP_h dX2_adds_11 ?_
  exact J_vret rfl dX2_adds_14 (by exact hq)
/-- but for the digest's field -/
def tEqL (I A : List Nat) (σ σ' : tS) : Prop := (∀ k, k ∉ I → σ'.1 k = σ.1 k) ∧ (∀ j, j ∉ A → σ'.2.1 j = σ.2.1 j)
theorem tEqL.eq {I A : List Nat} {σ σ' : tS} (h : tEqL I A σ σ') : tEq I A σ (setL σ' σ.2.2) := ⟨h.1, h.2, rfl⟩
theorem tEqL.refl {I A : List Nat} {σ : tS} : tEqL I A σ σ := ⟨fun _ _ => rfl, fun _ _ => rfl⟩
theorem tEqL.L {I A : List Nat} {σ σ' : tS} (h : tEqL I A σ σ') (v : Int64) : tEqL I A σ (setL σ' v) := h
theorem tEqL.trans {I A : List Nat} {σ σ' σ'' : tS} (h : tEqL I A σ σ') (g : tEq I A σ' σ'') : tEqL I A σ σ'' := ⟨fun k hk => (g.1 k hk).trans (h.1 k hk), fun k hk => (g.2.1 k hk).trans (h.2 k hk)⟩
noncomputable def dg1 (c : Nat → Int) : Nat → Int64
  | 0 => 17
  | n + 1 => 31 * dg1 c n + (zI (c n)).toInt64
def dgT (h : Int64) (g : Nat → Int32) : Nat → Int64
  | 0 => h
  | n + 1 => 31 * dgT h g n + (g n).toInt64
def dg2 (h : Int64) (bl : Int) (G P : Nat → Nat → Int) : Nat → Int64
  | 0 => h
  | f + 1 => if 0 ≤ P f 0 then dgT (dgT (dg2 h bl G P f) (fun k => zI (mTell bl G f k)) 5) (fun k => zI (P f k)) 4 else 31 * dgT (dg2 h bl G P f) (fun k => zI (mTell bl G f k)) 5 + (-1)
def dg4 (h : Int64) (rs : Nat → Int) (rd : Nat → Nat → Int32) : Nat → Int64
  | 0 => h
  | r + 1 => dgT (31 * dg4 h rs rd r + (zI (rs r)).toInt64) (rd r) (rs r).toNat
noncomputable def dgA (c : Nat → Int) (many : Nat) (bl : Int) (G P : Nat → Nat → Int) (kc rs : Nat → Int) (rd : Nat → Nat → Int32) (ts : Nat → Int) (tb : Nat → Nat → Int) : Int64 := dg4 (dg4 (dgT (dg2 (dg1 c 14) bl G P many) (fun k => zI (kc k)) 3) rs rd 6) ts (fun t i => zI (tb t i)) 4
