set_option maxRecDepth 100000
/-! the component: takes, would, best, lots -/
def bc1 (x : Int32) : Int32 := x - (((x).toUInt32 >>> ((zI 1).toUInt32 &&& Int32.toUInt32 31)).toInt32 &&& zI 1431655765)
def bc2 (x : Int32) : Int32 := (x &&& zI 858993459) + (((x).toUInt32 >>> ((zI 2).toUInt32 &&& Int32.toUInt32 31)).toInt32 &&& zI 858993459)
def bc3 (x : Int32) : Int32 := (x + ((x).toUInt32 >>> ((zI 4).toUInt32 &&& Int32.toUInt32 31)).toInt32) &&& zI 252645135
def bc4 (x : Int32) : Int32 := x + ((x).toUInt32 >>> ((zI 8).toUInt32 &&& Int32.toUInt32 31)).toInt32
def bc5 (x : Int32) : Int32 := x + ((x).toUInt32 >>> ((zI 16).toUInt32 &&& Int32.toUInt32 31)).toInt32
theorem bc_ok : ∀ m, m < 256 → bc5 (bc4 (bc3 (bc2 (bc1 (nI m))))) &&& zI 63 = zI (cntB m 8 : Nat) := by decide +kernel
theorem s_bitCount {E : jEnv} {St : Type} {w : St → jW} {σ : St} {Q : Option Value → St → Prop} {m : Nat} (hm : m < 256) (hq : Q (some (.int (zI (cntB m 8 : Nat)))) σ) : J E w (cX E, none) cJ17_bitCount 1 (some .int) RJ17 (jR 1 0 0) 0 0 0 [some (.int (nI m))] [] σ Q := by
  refine J_iload_n dJ17_bitCount_0 rfl ?_
  refine J_iload_n dJ17_bitCount_1 rfl ?_
  refine J_iconst (zI 1) dJ17_bitCount_2 rfl ?_
  refine J_iushr dJ17_bitCount_3 ?_
  refine J_ldcw (zI 1431655765) q1500 dJ17_bitCount_4 ?_
  refine J_iand dJ17_bitCount_7 ?_
  refine J_isub dJ17_bitCount_8 ?_
  refine J_top (bc1 (nI m)) rfl ?_
  refine J_istore_n dJ17_bitCount_9 rfl (by decide) _ rfl ?_
  refine J_iload_n dJ17_bitCount_10 rfl ?_
  refine J_ldcw (zI 858993459) q1501 dJ17_bitCount_11 ?_
  refine J_iand dJ17_bitCount_14 ?_
  refine J_iload_n dJ17_bitCount_15 rfl ?_
  refine J_iconst (zI 2) dJ17_bitCount_16 rfl ?_
  refine J_iushr dJ17_bitCount_17 ?_
  refine J_ldcw (zI 858993459) q1501 dJ17_bitCount_18 ?_
  refine J_iand dJ17_bitCount_21 ?_
  refine J_iadd dJ17_bitCount_22 ?_
  refine J_top (bc2 (bc1 (nI m))) rfl ?_
  refine J_istore_n dJ17_bitCount_23 rfl (by decide) _ rfl ?_
  refine J_iload_n dJ17_bitCount_24 rfl ?_
  refine J_iload_n dJ17_bitCount_25 rfl ?_
  refine J_iconst (zI 4) dJ17_bitCount_26 rfl ?_
  refine J_iushr dJ17_bitCount_27 ?_
  refine J_iadd dJ17_bitCount_28 ?_
  refine J_ldcw (zI 252645135) q1502 dJ17_bitCount_29 ?_
  refine J_iand dJ17_bitCount_32 ?_
  refine J_top (bc3 (bc2 (bc1 (nI m)))) rfl ?_
  refine J_istore_n dJ17_bitCount_33 rfl (by decide) _ rfl ?_
  refine J_iload_n dJ17_bitCount_34 rfl ?_
  refine J_iload_n dJ17_bitCount_35 rfl ?_
  refine J_bipush (zI 8) dJ17_bitCount_36 rfl ?_
  refine J_iushr dJ17_bitCount_38 ?_
  refine J_iadd dJ17_bitCount_39 ?_
  refine J_top (bc4 (bc3 (bc2 (bc1 (nI m))))) rfl ?_
  refine J_istore_n dJ17_bitCount_40 rfl (by decide) _ rfl ?_
  refine J_iload_n dJ17_bitCount_41 rfl ?_
  refine J_iload_n dJ17_bitCount_42 rfl ?_
  refine J_bipush (zI 16) dJ17_bitCount_43 rfl ?_
  refine J_iushr dJ17_bitCount_45 ?_
  refine J_iadd dJ17_bitCount_46 ?_
  refine J_top (bc5 (bc4 (bc3 (bc2 (bc1 (nI m)))))) rfl ?_
  refine J_istore_n dJ17_bitCount_47 rfl (by decide) _ rfl ?_
  refine J_iload_n dJ17_bitCount_48 rfl ?_
  refine J_bipush (zI 63) dJ17_bitCount_49 rfl ?_
  refine J_iand dJ17_bitCount_51 ?_
  refine J_top (zI (cntB m 8 : Nat)) (bc_ok m hm) ?_
  exact J_iret rfl dJ17_bitCount_52 (by exact hq)
section V
variable {E : jEnv} {St : Type} {w : St → jW} {o : Option MethodName} {cc : ByteArray} {mL : Nat} {ret : Option FieldType} {own : String} {R : Room} {k n pc : Nat} {L : List (Option Value)} {st : List Value} {σ : St} {Q : Option Value → St → Prop}
theorem PX0_bitCount {m : Nat} (hm : m < 256) (hR : 2 ≤ R.frames ∧ 96 ≤ R.locals) (hcs : k ≤ R.cells ∧ n ≤ R.slots) (hst : (st.map fun v => v.category).sum ≤ 8) (d : decode cc pc = .ok (.invokestatic 493, 3)) (kk : J E w (cX E, o) cc mL ret RX0 R k n (pc + 3) L (.int (zI (cntB m 8 : Nat)) :: st) σ Q) : J E w (cX E, o) cc mL ret RX0 R k n (pc) L (.int (nI m) :: st) σ Q := J_eS (y := yJ17_bitCount) (R' := (jR 1 0 0)) [.int (nI m)] 1 q1497 q1498 q134 q1499 (by decide +kernel) cX_1 (show 1 + 1 ≤ R.frames ∧ 8 + (1 + 11) + 48 * 1 ≤ R.locals by omega) (show k + 0 ≤ R.cells ∧ n + 0 ≤ R.slots by omega) rfl hst d (JE.of (X' := (cX E, none)) (by decide +kernel) (Nat.le_of_ble_eq_true rfl) (fun _ z => by cases z) (s_bitCount hm (J_ri kk)))
end V
theorem mBest_ne {bl : Int} {G : Nat → Nat → Int} {rule : Int} {f : Nat} {l : List rct} {k : Nat} : (mBest bl G rule f l (k + 1)).1 ≠ -9 ↔ (mBest bl G rule f l k).1 ≠ -9 ∨ (mNX bl G f 0 ≤ (rGet l k).2.2.1 ∧ mNY bl G f 0 ≤ (rGet l k).2.2.2) ∨ (¬ (G f 0 = 1 ∨ G f 0 = 3) ∧ mNX bl G f 1 ≤ (rGet l k).2.2.1 ∧ mNY bl G f 1 ≤ (rGet l k).2.2.2) := by
  have key : ∀ (t : Int) (b : rct), (mTry bl G rule f (rGet l k) k t b).1 ≠ -9 ↔ b.1 ≠ -9 ∨ (mNX bl G f t ≤ (rGet l k).2.2.1 ∧ mNY bl G f t ≤ (rGet l k).2.2.2) := by
    intro t b
    unfold mTry
    split
    · rename_i z
      constructor
      · intro _; exact Or.inr ⟨z.1, z.2.1⟩
      · intro _; show ((k : Nat) : Int) ≠ -9; omega
    · rename_i z
      constructor
      · intro h; exact Or.inl h
      · intro h
        rcases h with h | h
        · exact h
        · intro e; exact z ⟨h.1, h.2, Or.inl e⟩
  show (if G f 0 = 1 ∨ G f 0 = 3 then mTry bl G rule f (rGet l k) k 0 (mBest bl G rule f l k) else mTry bl G rule f (rGet l k) k 1 (mTry bl G rule f (rGet l k) k 0 (mBest bl G rule f l k))).1 ≠ -9 ↔ _
  by_cases z : G f 0 = 1 ∨ G f 0 = 3
  · rw [if_pos z, key]
    constructor
    · intro h; rcases h with h | h; exact Or.inl h; exact Or.inr (Or.inl h)
    · intro h; rcases h with h | h | h; exact Or.inl h; exact Or.inr h; exact absurd z h.1
  · rw [if_neg z, key, key]
    constructor
    · intro h; rcases h with (h | h) | h; exact Or.inl h; exact Or.inr (Or.inl h); exact Or.inr (Or.inr ⟨z, h⟩)
    · intro h; rcases h with h | h | h; exact Or.inl (Or.inl h); exact Or.inl (Or.inr h); exact Or.inr h.2
/-- the frames that k of the free ones have room for -/
def tkI (bl : Int) (G P : Nat → Nat → Int) (l : List rct) (many k f S : Nat) : Prop := S < 256 ∧ ∀ i, S.testBit i = true ↔ i < many ∧ P i 0 = -1 ∧ (mBest bl G 0 i l (if i < f then k + 1 else k)).1 ≠ -9
theorem mTk_tb {bl : Int} {G P : Nat → Nat → Int} {l : List rct} : ∀ n i, (mTk bl G P l n).testBit i = true ↔ i < n ∧ P i 0 = -1 ∧ (mBest bl G 0 i l l.length).1 ≠ -9
  | 0, i => by simp [mTk]
  | n + 1, i => by
    show (if P n 0 = -1 ∧ (mBest bl G 0 n l l.length).1 ≠ -9 then mTk bl G P l n ||| 2 ^ n else mTk bl G P l n).testBit i = true ↔ _
    by_cases z : P n 0 = -1 ∧ (mBest bl G 0 n l l.length).1 ≠ -9
    · rw [if_pos z, mask_tb, Bool.or_eq_true, mTk_tb n i, decide_eq_true_eq]
      constructor
      · intro h; rcases h with h | h
        · exact ⟨by omega, h.2⟩
        · subst h; exact ⟨by omega, z⟩
      · intro h
        by_cases y : i = n
        · exact Or.inr y.symm
        · exact Or.inl ⟨by omega, h.2⟩
    · rw [if_neg z, mTk_tb n i]
      constructor
      · intro h; exact ⟨by omega, h.2⟩
      · intro h
        by_cases y : i = n
        · subst y; exact absurd h.2 z
        · exact ⟨by omega, h.2⟩
theorem tkI_y {bl : Int} {G P : Nat → Nat → Int} {l : List rct} {many k f S : Nat} (h : tkI bl G P l many k f S) (hf : f < many) (hm : many ≤ 8) (h0 : P f 0 = -1) (hr : (mNX bl G f 0 ≤ (rGet l k).2.2.1 ∧ mNY bl G f 0 ≤ (rGet l k).2.2.2) ∨ (¬ (G f 0 = 1 ∨ G f 0 = 3) ∧ mNX bl G f 1 ≤ (rGet l k).2.2.1 ∧ mNY bl G f 1 ≤ (rGet l k).2.2.2)) : tkI bl G P l many k (f + 1) (S ||| 2 ^ f) := by
  refine ⟨mask_lt S h.1 f (by omega), fun i => ?_⟩
  rw [mask_tb, Bool.or_eq_true, h.2 i, decide_eq_true_eq]
  by_cases z : i = f
  · subst z
    rw [if_neg (by omega), if_pos (by omega), mBest_ne]
    exact ⟨fun _ => ⟨hf, h0, Or.inr hr⟩, fun _ => Or.inr rfl⟩
  · have e : (i < f ↔ i < f + 1) := by omega
    simp only [e]
    exact ⟨fun h => by rcases h with h | h; exact h; exact absurd h.symm z, fun h => Or.inl h⟩
theorem tkI_n {bl : Int} {G P : Nat → Nat → Int} {l : List rct} {many k f S : Nat} (h : tkI bl G P l many k f S) (hr : P f 0 ≠ -1 ∨ ¬ ((mNX bl G f 0 ≤ (rGet l k).2.2.1 ∧ mNY bl G f 0 ≤ (rGet l k).2.2.2) ∨ (¬ (G f 0 = 1 ∨ G f 0 = 3) ∧ mNX bl G f 1 ≤ (rGet l k).2.2.1 ∧ mNY bl G f 1 ≤ (rGet l k).2.2.2))) : tkI bl G P l many k (f + 1) S := by
  refine ⟨h.1, fun i => ?_⟩
  rw [h.2 i]
  by_cases z : i = f
  · subst z
    rw [if_neg (by omega), if_pos (by omega), mBest_ne]
    constructor
    · intro a; exact ⟨a.1, a.2.1, Or.inl a.2.2⟩
    · intro a
      rcases hr with hr | hr
      · exact absurd a.2.1 hr
      · rcases a.2.2 with b | b
        · exact ⟨a.1, a.2.1, b⟩
        · exact absurd b hr
  · have e : (i < f ↔ i < f + 1) := by omega
    simp only [e]
theorem tkI_next {bl : Int} {G P : Nat → Nat → Int} {l : List rct} {many k S : Nat} (h : tkI bl G P l many k many S) : tkI bl G P l many (k + 1) 0 S := by
  refine ⟨h.1, fun i => ?_⟩
  rw [h.2 i, if_neg (Nat.not_lt_zero i)]
  constructor
  · intro a; rw [if_pos a.1] at a; exact a
  · intro a; rw [if_pos a.1]; exact a
theorem tkI_end {bl : Int} {G P : Nat → Nat → Int} {l : List rct} {many S : Nat} (h : tkI bl G P l many l.length 0 S) : S = mTk bl G P l many := by
  apply Nat.eq_of_testBit_eq
  intro i
  rw [Bool.eq_iff_iff, h.2 i, mTk_tb, if_neg (Nat.not_lt_zero i)]
theorem tkI_0 {bl : Int} {G P : Nat → Nat → Int} {l : List rct} {many : Nat} : tkI bl G P l many 0 0 0 := ⟨by omega, fun i => by simp [mBest]⟩

theorem cl_takes54 {E : jEnv} {α : Nat → Nat} {σ : cS} {Q : Option Value → cS → Prop} {many : Nat} {wide high bl : Int} {G : Nat → Nat → Int} {ad : Nat → Nat} {c : Nat → Nat → Int} {P : Nat → Nat → Int} {rule : Int} {v : Int} {l : List rct} {k : Nat}  (hS : cSh many wide high bl G ad c σ) (hO : shOK many wide high bl G) (hP : cPl many P c) (hN : plOK many P rule) (hl : cFl l σ) (hlB : ∀ r ∈ l, rB r) (hk : k < l.length) (hx : ∀ S, tkI bl G P l many k many S → jX0_takes E α 123 [some (.ref (α 0)), some (.int (zI (v))), some (.int (zI (mMost l (k + 1)))), some (.int (nI S)), some (.int (zI (k : Nat))), none] [] σ Q)  : ∀ (n : Nat) (f S : Nat), f ≤ many → tkI bl G P l many k f S → many - f < n → jX0_takes E α 54 [some (.ref (α 0)), some (.int (zI (v))), some (.int (zI (mMost l (k + 1)))), some (.int (nI S)), some (.int (zI (k : Nat))), some (.int (zI (f : Nat)))] [] σ Q := by
  intro n
  induction n with
  | zero => intro f S h1 h2 hn; exact absurd hn (Nat.not_lt_zero _)
  | succ n ih =>
    intro f S h1 h2 hn
    have hO8 := hO.s
    have hS8 := h2.1
    have hrB := hlB _ (getD_mem (l := l) (i := k) hk)
    refine J_iload dX0_takes_54 rfl ?_
    refine J_aload_n dX0_takes_56 rfl ?_
    refine CG_many dX0_takes_57 ?_
    refine J_top (zI (many)) hS.1 ?_
    refine J_icmp_ge_z (tgt := 123) dX0_takes_60 (by decide) (by unfold zR; omega) (by unfold zR; omega) (fun c60 => ?_) (fun c60 => ?_)
    · skip
      obtain rfl : f = many := by omega
      refine J_fg (L' := [some (.ref (α 0)), some (.int (zI (v))), some (.int (zI (mMost l (k + 1)))), some (.int (nI S)), some (.int (zI (k : Nat))), none]) (by repeat' constructor) ?_
      exact hx S h2
    · skip
      have hf : f < many := by omega
      refine J_iload_n dX0_takes_63 rfl ?_
      refine J_aload_n dX0_takes_64 rfl ?_
      refine J_iload dX0_takes_65 rfl ?_
      refine CC_X0_isSet (by decide) (by decide) (Nat.le_of_ble_eq_true rfl) dX0_takes_67 ?_
      refine c_isSet hS hO hP hN hf (fun b67 => ?_) (fun b67 => ?_)
      · refine J_ri ?_
        refine J_if_ne_y (tgt := 114) dX0_takes_70 (by decide) (by decide) ?_
        refine J_iconst (zI 0) dX0_takes_114 rfl ?_
        refine J_ior dX0_takes_115 ?_
        refine J_top (nI S) (by rw [show zI 0 = (0 : Int32) from rfl, Int32.or_zero]) ?_
        refine J_istore_n dX0_takes_116 rfl (by decide) _ rfl ?_
        refine J_iinc_z ((((f + 1)) : Nat) : Int) (by omega) dX0_takes_117 rfl rfl (by decide) _ rfl ?_
        refine J_goto (tgt := 54) dX0_takes_120 (by decide) ?_
        exact ih (f + 1) _ (by omega) (tkI_n h2 (by omega)) (by omega)
      · refine J_ri ?_
        refine J_if_ne_n (tgt := 114) dX0_takes_70 (by decide) (by decide) ?_
        refine J_aload_n dX0_takes_73 rfl ?_
        refine J_aload_n dX0_takes_74 rfl ?_
        refine CG_frames dX0_takes_75 ?_
        refine J_iload dX0_takes_78 rfl ?_
        refine CA_fr (hS.2.2.2.2 _ hf) (by omega) (by have := hO.1; omega) dX0_takes_80 ?_
        refine J_iload dX0_takes_81 rfl ?_
        refine J_iconst (zI 0) dX0_takes_83 rfl ?_
        refine CC_X0_hasRoom (by decide) (by decide) (Nat.le_of_ble_eq_true rfl) dX0_takes_84 ?_
        refine c_hasRoom (t := 0) (r := rGet l k) hS hO hf (by omega) hl hk rfl hrB  (fun b84 => ?_) (fun b84 => ?_)
        · refine J_ri ?_
          refine J_if_ne_y (tgt := 107) dX0_takes_87 (by decide) (by decide) ?_
          refine J_iconst (zI 1) dX0_takes_107 rfl ?_
          refine J_iload dX0_takes_108 rfl ?_
          refine J_ishl dX0_takes_110 ?_
          refine J_goto (tgt := 115) dX0_takes_111 (by decide) ?_
          refine J_ior dX0_takes_115 ?_
          refine J_top (nI (S ||| 2 ^ f)) (mask_or S hS8 f (by omega)) ?_
          refine J_istore_n dX0_takes_116 rfl (by decide) _ rfl ?_
          refine J_iinc_z ((((f + 1)) : Nat) : Int) (by omega) dX0_takes_117 rfl rfl (by decide) _ rfl ?_
          refine J_goto (tgt := 54) dX0_takes_120 (by decide) ?_
          exact ih (f + 1) _ (by omega) (tkI_y h2 hf (by omega) (by omega) (by omega)) (by omega)
        · refine J_ri ?_
          refine J_if_ne_n (tgt := 107) dX0_takes_87 (by decide) (by decide) ?_
          refine J_aload_n dX0_takes_90 rfl ?_
          refine J_aload_n dX0_takes_91 rfl ?_
          refine CG_frames dX0_takes_92 ?_
          refine J_iload dX0_takes_95 rfl ?_
          refine CA_fr (hS.2.2.2.2 _ hf) (by omega) (by have := hO.1; omega) dX0_takes_97 ?_
          refine J_iload dX0_takes_98 rfl ?_
          refine J_iconst (zI 1) dX0_takes_100 rfl ?_
          refine CC_X0_hasRoom (by decide) (by decide) (Nat.le_of_ble_eq_true rfl) dX0_takes_101 ?_
          refine c_hasRoom (t := 1) (r := rGet l k) hS hO hf (by omega) hl hk rfl hrB  (fun b101 => ?_) (fun b101 => ?_)
          · refine J_ri ?_
            refine J_if_eq_n (tgt := 114) dX0_takes_104 (by decide) (by decide) ?_
            refine J_iconst (zI 1) dX0_takes_107 rfl ?_
            refine J_iload dX0_takes_108 rfl ?_
            refine J_ishl dX0_takes_110 ?_
            refine J_goto (tgt := 115) dX0_takes_111 (by decide) ?_
            refine J_ior dX0_takes_115 ?_
            refine J_top (nI (S ||| 2 ^ f)) (mask_or S hS8 f (by omega)) ?_
            refine J_istore_n dX0_takes_116 rfl (by decide) _ rfl ?_
            refine J_iinc_z ((((f + 1)) : Nat) : Int) (by omega) dX0_takes_117 rfl rfl (by decide) _ rfl ?_
            refine J_goto (tgt := 54) dX0_takes_120 (by decide) ?_
            exact ih (f + 1) _ (by omega) (tkI_y h2 hf (by omega) (by omega) (by omega)) (by omega)
          · refine J_ri ?_
            refine J_if_eq_y (tgt := 114) dX0_takes_104 (by decide) (by decide) ?_
            refine J_iconst (zI 0) dX0_takes_114 rfl ?_
            refine J_ior dX0_takes_115 ?_
            refine J_top (nI S) (by rw [show zI 0 = (0 : Int32) from rfl, Int32.or_zero]) ?_
            refine J_istore_n dX0_takes_116 rfl (by decide) _ rfl ?_
            refine J_iinc_z ((((f + 1)) : Nat) : Int) (by omega) dX0_takes_117 rfl rfl (by decide) _ rfl ?_
            refine J_goto (tgt := 54) dX0_takes_120 (by decide) ?_
            exact ih (f + 1) _ (by omega) (tkI_n h2 (by omega)) (by omega)
theorem cl_takes22 {E : jEnv} {α : Nat → Nat} {σ : cS} {Q : Option Value → cS → Prop} {many : Nat} {wide high bl : Int} {G : Nat → Nat → Int} {ad : Nat → Nat} {c : Nat → Nat → Int} {P : Nat → Nat → Int} {rule : Int} {v : Int} {l : List rct}  (hS : cSh many wide high bl G ad c σ) (hO : shOK many wide high bl G) (hP : cPl many P c) (hN : plOK many P rule) (hl : cFl l σ) (hlB : ∀ r ∈ l, rB r) (hq : Q (some (.int (nI (mTk bl G P l many)))) (cI σ 2 (zI (mMost l l.length))))  : ∀ (n : Nat) (k S : Nat), k ≤ l.length → tkI bl G P l many k 0 S → l.length - k < n → jX0_takes E α 22 [some (.ref (α 0)), some (.int (zI (v))), some (.int (zI (mMost l k))), some (.int (nI S)), some (.int (zI (k : Nat))), none] [] σ Q := by
  intro n
  induction n with
  | zero => intro k S h1 h2 hn; exact absurd hn (Nat.not_lt_zero _)
  | succ n ih =>
    intro k S h1 h2 hn
    have hl0 := hl
    have hlen := hl.2.1
    have hmb := mMost_b (l := l) (fun r hr => by have := hlB r hr; unfold rB at this; unfold rOK; omega) k h1
    refine J_iload dX0_takes_22 rfl ?_
    refine J_aload_n dX0_takes_24 rfl ?_
    refine CG_freeMany dX0_takes_25 ?_
    refine J_top (zI (l.length)) hl.1 ?_
    refine J_icmp_ge_z (tgt := 129) dX0_takes_28 (by decide) (by unfold zR; omega) (by unfold zR; omega) (fun c28 => ?_) (fun c28 => ?_)
    · skip
      obtain rfl : k = l.length := by omega
      refine J_aload_n dX0_takes_129 rfl ?_
      refine J_iload_n dX0_takes_130 rfl ?_
      refine J_iload_n dX0_takes_131 rfl ?_
      refine CC_X0_ask (by decide) (by decide) (Nat.le_of_ble_eq_true rfl) dX0_takes_132 ?_
      refine c_ask  ?_
      refine J_ri ?_
      exact J_iret rfl dX0_takes_135 (by rw [← tkI_end h2] at hq; exact hq)
    · skip
      obtain ⟨hF0, hl5, b, hb, hbl⟩ := hl
      have hk : k < l.length := by omega
      have hrB : rB (rGet l k) := hlB _ (getD_mem (l := l) (i := k) hk)
      unfold rB at hrB
      have hmu := mul_b (a := (rGet l k).2.2.1) (b := (rGet l k).2.2.2) (c := 16) (d := 16) (by omega) (by omega)
      refine J_iload_n dX0_takes_31 rfl ?_
      refine J_aload_n dX0_takes_32 rfl ?_
      refine CG_freeW dX0_takes_33 ?_
      refine J_iload dX0_takes_36 rfl ?_
      refine CJ_iald 23 (k) ⟨rfl, by decide, by decide, by decide⟩ (by omega) (show k < 512 by omega) dX0_takes_38 ?_
      refine J_top (zI ((rGet l k).2.2.1)) (((hb k (by omega)).2.2.1.trans (congrArg zI (by rw [hbl k hk])))) ?_
      refine J_aload_n dX0_takes_39 rfl ?_
      refine CG_freeH dX0_takes_40 ?_
      refine J_iload dX0_takes_43 rfl ?_
      refine CJ_iald 24 (k) ⟨rfl, by decide, by decide, by decide⟩ (by omega) (show k < 512 by omega) dX0_takes_45 ?_
      refine J_top (zI ((rGet l k).2.2.2)) (((hb k (by omega)).2.2.2.trans (congrArg zI (by rw [hbl k hk])))) ?_
      refine J_imul_z dX0_takes_46 ?_
      refine PX0_max (by unfold zR; omega) (by unfold zR; omega) (by decide) (by exact ⟨Nat.le_refl _, Nat.le_refl _⟩) (Nat.le_of_ble_eq_true rfl) dX0_takes_47 ?_
      refine J_top (zI (mMost l (k + 1))) (congrArg zI rfl) ?_
      refine J_istore_n dX0_takes_50 rfl (by decide) _ rfl ?_
      refine J_iconst (zI 0) dX0_takes_51 rfl ?_
      refine J_istore dX0_takes_52 rfl (by decide) _ rfl ?_
      refine J_fg (L' := [some (.ref (α 0)), some (.int (zI (v))), some (.int (zI (mMost l (k + 1)))), some (.int (nI S)), some (.int (zI (k : Nat))), some (.int (zI ((0 : Nat))))]) (by repeat' constructor) ?_
      refine cl_takes54 hS hO hP hN hl0 hlB hk (fun S2 h2b => ?_) _ 0 S (by omega) h2 (Nat.lt_succ_self _)
      refine J_iinc_z (((k + 1 : Nat)) : Int) (by omega) dX0_takes_123 rfl rfl (by decide) _ rfl ?_
      refine J_goto (tgt := 22) dX0_takes_126 (by decide) ?_
      exact ih (k + 1) S2 (by omega) (tkI_next h2b) (by omega)
theorem c_takes_bad {E : jEnv} {α : Nat → Nat} {σ : cS} {Q : Option Value → cS → Prop} {many : Nat} {wide high bl : Int} {G : Nat → Nat → Int} {ad : Nat → Nat} {c : Nat → Nat → Int} {P : Nat → Nat → Int} {rule : Int} {v : Int} (hS : cSh many wide high bl G ad c σ) (hO : shOK many wide high bl G) (hP : cPl many P c) (hN : plOK many P rule) (rv : zR v) (hv : ¬ (0 ≤ v ∧ v < pgM P many)) (hq : Q (some (.int (zI (-1)))) σ) : jX0_takes E α 0 [some (.ref (α 0)), some (.int (zI (v))), none, none, none, none] [] σ Q := by
  refine J_aload_n dX0_takes_0 rfl ?_
  refine J_iload_n dX0_takes_1 rfl ?_
  refine CC_X0_isPage (by decide) (by decide) (Nat.le_of_ble_eq_true rfl) dX0_takes_2 ?_
  refine c_isPage hS hO hP hN (by unfold zR at *; omega) (fun b2 => ?_) (fun b2 => ?_)
  · exfalso; omega
  · refine J_ri ?_
    refine J_if_ne_n (tgt := 10) dX0_takes_5 (by decide) (by decide) ?_
    refine J_iconst (zI (-1)) dX0_takes_8 rfl ?_
    exact J_iret rfl dX0_takes_9 (by exact hq)
theorem c_takes {E : jEnv} {α : Nat → Nat} {σ : cS} {Q : Option Value → cS → Prop} {many : Nat} {wide high bl : Int} {G : Nat → Nat → Int} {ad : Nat → Nat} {c : Nat → Nat → Int} {P : Nat → Nat → Int} {rule : Int} {v : Int} (hS : cSh many wide high bl G ad c σ) (hO : shOK many wide high bl G) (hP : cPl many P c) (hN : plOK many P rule) (hV : plV many wide high bl G P) (hv : 0 ≤ v ∧ v < pgM P many) (hq : ∀ σ', cQ [2, 20] [21, 22, 23, 24, 25] σ σ' → σ'.i 2 = zI (mMost (frL wide high (gO bl G P v many)) (frL wide high (gO bl G P v many)).length) → Q (some (.int (nI (mTk bl G P (frL wide high (gO bl G P v many)) many)))) σ') : jX0_takes E α 0 [some (.ref (α 0)), some (.int (zI (v))), none, none, none, none] [] σ Q := by
  have hO8 := hO.s
  have hpb := pgM_b hN many (Nat.le_refl _)
  refine J_aload_n dX0_takes_0 rfl ?_
  refine J_iload_n dX0_takes_1 rfl ?_
  refine CC_X0_isPage (by decide) (by decide) (Nat.le_of_ble_eq_true rfl) dX0_takes_2 ?_
  refine c_isPage hS hO hP hN (by unfold zR at *; omega) (fun b2 => ?_) (fun b2 => ?_)
  · refine J_ri ?_
    refine J_if_ne_y (tgt := 10) dX0_takes_5 (by decide) (by decide) ?_
    refine J_aload_n dX0_takes_10 rfl ?_
    refine J_iload_n dX0_takes_11 rfl ?_
    refine CC_X0_setFree (by decide) (by decide) (Nat.le_of_ble_eq_true rfl) dX0_takes_12 ?_
    have hm0 : 0 < many := by
      rcases Nat.eq_zero_or_pos many with z | z
      · subst z; simp [pgM] at hv; omega
      · exact z
    refine c_setFree hS hO hP hN hV hm0 (by omega) (fun σ1 l1 e1 => ?_)
    have hS := hS.up e1 (by decide) (by decide) (by decide) (by decide)
    refine J_rv ?_
    refine J_iconst (zI 0) dX0_takes_15 rfl ?_
    refine J_istore_n dX0_takes_16 rfl (by decide) _ rfl ?_
    refine J_iconst (zI 0) dX0_takes_17 rfl ?_
    refine J_istore_n dX0_takes_18 rfl (by decide) _ rfl ?_
    refine J_iconst (zI 0) dX0_takes_19 rfl ?_
    refine J_istore dX0_takes_20 rfl (by decide) _ rfl ?_
    refine J_fg (L' := [some (.ref (α 0)), some (.int (zI (v))), some (.int (zI (mMost (frL wide high (gO bl G P v many)) 0))), some (.int (nI 0)), some (.int (zI ((0 : Nat)))), none]) (by repeat' constructor) ?_
    exact cl_takes22 (l := (frL wide high (gO bl G P v many))) hS hO hP hN l1 (fun r hr => mx_B (((frL_ok (by omega) (by omega) _).2.1 r).mp hr) (by omega) (by omega)) (hq _ ((e1.mono (by decide) (by decide)).sI (by decide)) rfl) _ 0 0 (by omega) tkI_0 (Nat.lt_succ_self _)
  · exfalso; omega
/-- what would be, told by three fields -/
def cWd (bl : Int) (G P : Nat → Nat → Int) (many : Nat) (σ : cS) : Prop := σ.i 34 = nI (mMiss P many) ∧ σ.i 35 = zI (pgM P many) ∧ (pgM P many ≠ 0 → σ.i 36 = zI (mLast bl G P many))
theorem cRow_eq {many o : Nat} {a b : Nat → Int32} {p : mPl} (h : cRow many a o p) (e : b = a) : cRow many b o p := e ▸ h
theorem c_tries2 {E : jEnv} {α : Nat → Nat} {σ : cS} {Q : Option Value → cS → Prop} {many : Nat} {wide high bl : Int} {G : Nat → Nat → Int} {ad : Nat → Nat} {c : Nat → Nat → Int} {P : Nat → Nat → Int} {rule : Int} {r2 o : Int} (hS : cSh many wide high bl G ad c σ) (hO : shOK many wide high bl G) (hP : cPl many P c) (hN : plOK many P rule) (hR : cRl rule σ) (hd0 : σ.d 0 = none) (h2 : 0 ≤ r2 ∧ r2 ≤ 3) (ho : 0 ≤ o ∧ o ≤ 2) (hq : ∀ σ' c', cP [20, 26, 27, 28, 29, 34, 35, 36] [21, 22, 23, 24, 25, 33] σ σ' → cSh many wide high bl G ad c' σ' → cPl many P c' → cRl rule σ' → cWd bl G (mAll many wide high bl G r2 o many).1 many σ' → Q none σ')  : jX0_tries_2 E α 0 [some (.ref (α 0)), some (.int (zI (r2))), some (.int (zI (o)))] [] σ Q := by
  have hO8 := hO.s
  have hmA := mAll_R (o := o) hO h2 many (Nat.le_refl _)
  have hpb : 0 ≤ pgM (mAll many wide high bl G r2 o many).1 many ∧ pgM (mAll many wide high bl G r2 o many).1 many ≤ 8 := pgM_b hmA.1 many (Nat.le_refl _)
  refine J_aload_n dX0_tries_2_0 rfl ?_
  refine J_aload_n dX0_tries_2_1 rfl ?_
  refine CG_aside dX0_tries_2_2 ?_
  refine J_iconst (zI 0) dX0_tries_2_5 rfl ?_
  refine CC_X0_write_2 (by decide) (by decide) (Nat.le_of_ble_eq_true rfl) dX0_tries_2_6 ?_
  refine c_write33 hS hO hP hN hR (fun σ1 e1 w1 => ?_)
  have hS := hS.up e1 (by decide) (by decide) (by decide) (by decide)
  refine J_rv ?_
  refine J_aload_n dX0_tries_2_9 rfl ?_
  refine J_iload_n dX0_tries_2_10 rfl ?_
  refine J_top (zI ((r2.toNat : Nat) : Int)) (congrArg zI (by omega)) ?_
  refine CC_X0_newRule (by decide) (by decide) (Nat.le_of_ble_eq_true rfl) dX0_tries_2_11 ?_
  refine c_newRule (ru := r2.toNat) (by omega) (fun a => ?_)
  refine J_ra ?_
  refine CP_rule (ru := r2.toNat) rfl dX0_tries_2_14 ?_
  refine J_w (cRu_new (by rw [cP_d e1.1]; exact hd0)) ?_
  have hR2 : cRl r2 (cRu σ1 (a, r2.toNat)) := ⟨show r2.toNat < 4 by omega, by show r2 = ((r2.toNat : Nat) : Int); omega⟩
  refine J_aload_n dX0_tries_2_17 rfl ?_
  refine J_aload_n dX0_tries_2_18 rfl ?_
  refine J_iload_n dX0_tries_2_19 rfl ?_
  refine CC_X0_setsAll (by decide) (by decide) (Nat.le_of_ble_eq_true rfl) dX0_tries_2_20 ?_
  refine c_setsAll (rule := r2) (show cSh many wide high bl G ad c (cRu σ1 (a, r2.toNat)) from hS) hO hP ⟨hN.1, h2⟩ ho hR2 (fun σ2 c2 e2 er2 s2 p2 => ?_)
  refine J_ri ?_
  refine CP_wouldNot dX0_tries_2_23 ?_
  refine J_aload_n dX0_tries_2_26 rfl ?_
  refine J_aload_n dX0_tries_2_27 rfl ?_
  refine CC_X0_pageMany (by decide) (by decide) (Nat.le_of_ble_eq_true rfl) dX0_tries_2_28 ?_
  refine c_pageMany (P := (mAll many wide high bl G r2 o many).1) (rule := r2) (show cSh many wide high bl G ad c2 (cI σ2 34 (nI (mNot many wide high bl G r2 o many))) from s2) hO p2 hmA.1 ?_
  refine J_ri ?_
  refine CP_wouldPages dX0_tries_2_31 ?_
  refine J_aload_n dX0_tries_2_34 rfl ?_
  refine J_aload_n dX0_tries_2_35 rfl ?_
  refine J_aload_n dX0_tries_2_36 rfl ?_
  refine CG_wouldPages dX0_tries_2_37 ?_
  refine J_top (zI (pgM (mAll many wide high bl G r2 o many).1 many)) rfl ?_
  refine J_iconst (zI 1) dX0_tries_2_40 rfl ?_
  refine J_isub_z dX0_tries_2_41 ?_
  have s3 : cSh many wide high bl G ad c2 (cI (cI σ2 34 (nI (mNot many wide high bl G r2 o many))) 35 (zI (pgM (mAll many wide high bl G r2 o many).1 many))) := s2
  by_cases hz0 : pgM (mAll many wide high bl G r2 o many).1 many = 0
  · skip
    refine J_top (zI (-1)) (congrArg zI (by omega)) ?_
    refine CC_X0_usedOf (by decide) (by decide) (Nat.le_of_ble_eq_true rfl) dX0_tries_2_42 ?_
    refine c_usedOfm s3 hO p2 hmA.1 ?_
    refine J_ri ?_
    refine CP_wouldLast dX0_tries_2_45 ?_
    refine J_aload_n dX0_tries_2_48 rfl ?_
    refine J_aload_n dX0_tries_2_49 rfl ?_
    refine CG_aside dX0_tries_2_50 ?_
    refine J_iconst (zI 0) dX0_tries_2_53 rfl ?_
    refine CC_X0_readBack (by decide) (by decide) (Nat.le_of_ble_eq_true rfl) dX0_tries_2_54 ?_
    refine c_readBack33 (p := (P, rule)) (σ := cI (cI (cI σ2 34 (nI (mNot many wide high bl G r2 o many))) 35 (zI (pgM (mAll many wide high bl G r2 o many).1 many))) 36 _) s2 hO (by show σ2.d 0 = none; rw [cP_d e2]; show σ1.d 0 = none; rw [cP_d e1.1]; exact hd0) (cRow_eq (wRo_row (by omega) hP) ((e2.2.1 33 (by decide)).trans w1)) hN.2 (fun σ4 c4 e4 s4 p4 r4 => ?_)
    refine J_rv ?_
    exact J_vret rfl dX0_tries_2_57 (by exact hq σ4 c4 ((((((e1.1.mono (by decide) (by decide)).trans (show cP [20, 26, 27, 28, 29, 34, 35, 36] [21, 22, 23, 24, 25, 33] σ1 (cRu σ1 (a, r2.toNat)) from cP.refl)).trans (e2.mono (by decide) (by decide))).sI (by decide)).sI (by decide)).sI (by decide) |>.trans (e4.mono (by decide) (by decide))) s4 p4 r4 ⟨(e4.1 34 (by decide)).trans (congrArg nI (mNot_end (by omega))), e4.1 35 (by decide), fun z => (e4.1 36 (by decide)).trans (congrArg zI (by first | exact absurd hz0 z | exact (if_neg z).symm))⟩)
  · skip
    refine CC_X0_usedOf (by decide) (by decide) (Nat.le_of_ble_eq_true rfl) dX0_tries_2_42 ?_
    refine c_usedOf (v := pgM (mAll many wide high bl G r2 o many).1 many - 1) s3 hO p2 hmA.1 (by omega) ?_
    refine J_ri ?_
    refine CP_wouldLast dX0_tries_2_45 ?_
    refine J_aload_n dX0_tries_2_48 rfl ?_
    refine J_aload_n dX0_tries_2_49 rfl ?_
    refine CG_aside dX0_tries_2_50 ?_
    refine J_iconst (zI 0) dX0_tries_2_53 rfl ?_
    refine CC_X0_readBack (by decide) (by decide) (Nat.le_of_ble_eq_true rfl) dX0_tries_2_54 ?_
    refine c_readBack33 (p := (P, rule)) (σ := cI (cI (cI σ2 34 (nI (mNot many wide high bl G r2 o many))) 35 (zI (pgM (mAll many wide high bl G r2 o many).1 many))) 36 _) s2 hO (by show σ2.d 0 = none; rw [cP_d e2]; show σ1.d 0 = none; rw [cP_d e1.1]; exact hd0) (cRow_eq (wRo_row (by omega) hP) ((e2.2.1 33 (by decide)).trans w1)) hN.2 (fun σ4 c4 e4 s4 p4 r4 => ?_)
    refine J_rv ?_
    exact J_vret rfl dX0_tries_2_57 (by exact hq σ4 c4 ((((((e1.1.mono (by decide) (by decide)).trans (show cP [20, 26, 27, 28, 29, 34, 35, 36] [21, 22, 23, 24, 25, 33] σ1 (cRu σ1 (a, r2.toNat)) from cP.refl)).trans (e2.mono (by decide) (by decide))).sI (by decide)).sI (by decide)).sI (by decide) |>.trans (e4.mono (by decide) (by decide))) s4 p4 r4 ⟨(e4.1 34 (by decide)).trans (congrArg nI (mNot_end (by omega))), e4.1 35 (by decide), fun z => (e4.1 36 (by decide)).trans (congrArg zI (by first | exact absurd hz0 z | exact (if_neg z).symm))⟩)
theorem c_would_bad {E : jEnv} {α : Nat → Nat} {σ : cS} {Q : Option Value → cS → Prop} {many : Nat} {wide high bl : Int} {G : Nat → Nat → Int} {ad : Nat → Nat} {c : Nat → Nat → Int} {v u : Int} (hS : cSh many wide high bl G ad c σ) (hO : shOK many wide high bl G) (rv : zR v) (ru : zR u) (hv : ¬ (0 ≤ v ∧ v ≤ 3) ∨ ¬ (0 ≤ u ∧ u ≤ 2) ∨ many = 0) (hq : Q (some (.int (zI (-1)))) σ) : jX0_would E α 0 [some (.ref (α 0)), some (.int (zI (v))), some (.int (zI (u)))] [] σ Q := by
  have hO8 := hO.s
  refine J_iload_n dX0_would_0 rfl ?_
  refine J_iconst (zI 0) dX0_would_1 rfl ?_
  refine J_iconst (zI 3) dX0_would_2 rfl ?_
  refine PX0_isIn (by unfold zR at *; omega) (by unfold zR at *; omega) (by unfold zR at *; omega) (by decide) (by decide) (Nat.le_of_ble_eq_true rfl) dX0_would_3 (fun b3 => ?_) (fun b3 => ?_)
  · skip
    refine J_if_eq_n (tgt := 25) dX0_would_6 (by decide) (by decide) ?_
    refine J_iload_n dX0_would_9 rfl ?_
    refine J_iconst (zI 0) dX0_would_10 rfl ?_
    refine J_iconst (zI 2) dX0_would_11 rfl ?_
    refine PX0_isIn (by unfold zR at *; omega) (by unfold zR at *; omega) (by unfold zR at *; omega) (by decide) (by decide) (Nat.le_of_ble_eq_true rfl) dX0_would_12 (fun b12 => ?_) (fun b12 => ?_)
    · skip
      refine J_if_eq_n (tgt := 25) dX0_would_15 (by decide) (by decide) ?_
      refine J_aload_n dX0_would_18 rfl ?_
      refine CG_many dX0_would_19 ?_
      refine J_top (zI (many)) hS.1 ?_
      refine J_if_ne_z (tgt := 27) dX0_would_22 (by decide) (by unfold zR at *; omega) (fun c22 => ?_) (fun c22 => ?_)
      · exfalso; omega
      · skip
        refine J_iconst (zI (-1)) dX0_would_25 rfl ?_
        exact J_iret rfl dX0_would_26 (by exact hq)
    · skip
      refine J_if_eq_y (tgt := 25) dX0_would_15 (by decide) (by decide) ?_
      refine J_iconst (zI (-1)) dX0_would_25 rfl ?_
      exact J_iret rfl dX0_would_26 (by exact hq)
  · skip
    refine J_if_eq_y (tgt := 25) dX0_would_6 (by decide) (by decide) ?_
    refine J_iconst (zI (-1)) dX0_would_25 rfl ?_
    exact J_iret rfl dX0_would_26 (by exact hq)
theorem c_would {E : jEnv} {α : Nat → Nat} {σ : cS} {Q : Option Value → cS → Prop} {many : Nat} {wide high bl : Int} {G : Nat → Nat → Int} {ad : Nat → Nat} {c : Nat → Nat → Int} {P : Nat → Nat → Int} {rule : Int} {r2 o : Int} (hS : cSh many wide high bl G ad c σ) (hO : shOK many wide high bl G) (hP : cPl many P c) (hN : plOK many P rule) (hR : cRl rule σ) (hd0 : σ.d 0 = none) (h2 : 0 ≤ r2 ∧ r2 ≤ 3) (ho : 0 ≤ o ∧ o ≤ 2) (hm : 0 < many) (hq : ∀ σ' c', cP [2, 20, 26, 27, 28, 29, 34, 35, 36] [21, 22, 23, 24, 25, 33] σ σ' → cSh many wide high bl G ad c' σ' → cPl many P c' → cRl rule σ' → σ'.i 2 = nI (mMiss (mAll many wide high bl G r2 o many).1 many) → Q (some (.int (zI (pgM (mAll many wide high bl G r2 o many).1 many)))) σ') : jX0_would E α 0 [some (.ref (α 0)), some (.int (zI (r2))), some (.int (zI (o)))] [] σ Q := by
  have hO8 := hO.s
  refine J_iload_n dX0_would_0 rfl ?_
  refine J_iconst (zI 0) dX0_would_1 rfl ?_
  refine J_iconst (zI 3) dX0_would_2 rfl ?_
  refine PX0_isIn (by unfold zR; omega) (by unfold zR; omega) (by unfold zR; omega) (by decide) (by decide) (Nat.le_of_ble_eq_true rfl) dX0_would_3 (fun b3 => ?_) (fun b3 => ?_)
  · skip
    refine J_if_eq_n (tgt := 25) dX0_would_6 (by decide) (by decide) ?_
    refine J_iload_n dX0_would_9 rfl ?_
    refine J_iconst (zI 0) dX0_would_10 rfl ?_
    refine J_iconst (zI 2) dX0_would_11 rfl ?_
    refine PX0_isIn (by unfold zR; omega) (by unfold zR; omega) (by unfold zR; omega) (by decide) (by decide) (Nat.le_of_ble_eq_true rfl) dX0_would_12 (fun b12 => ?_) (fun b12 => ?_)
    · skip
      refine J_if_eq_n (tgt := 25) dX0_would_15 (by decide) (by decide) ?_
      refine J_aload_n dX0_would_18 rfl ?_
      refine CG_many dX0_would_19 ?_
      refine J_top (zI (many)) hS.1 ?_
      refine J_if_ne_z (tgt := 27) dX0_would_22 (by decide) (by unfold zR; omega) (fun c22 => ?_) (fun c22 => ?_)
      · skip
        refine J_aload_n dX0_would_27 rfl ?_
        refine J_iload_n dX0_would_28 rfl ?_
        refine J_iload_n dX0_would_29 rfl ?_
        refine CC_X0_tries_2 (by decide) (by decide) (Nat.le_of_ble_eq_true rfl) dX0_would_30 ?_
        refine c_tries2 hS hO hP hN hR hd0 h2 ho (fun σ1 c1 e1 s1 p1 r1 W1 => ?_)
        refine J_rv ?_
        refine J_aload_n dX0_would_33 rfl ?_
        refine J_aload_n dX0_would_34 rfl ?_
        refine CG_wouldNot dX0_would_35 ?_
        refine J_top (nI (mMiss (mAll many wide high bl G r2 o many).1 many)) W1.1 ?_
        refine J_aload_n dX0_would_38 rfl ?_
        refine CG_wouldPages dX0_would_39 ?_
        refine J_top (zI (pgM (mAll many wide high bl G r2 o many).1 many)) W1.2.1 ?_
        refine CC_X0_ask (by decide) (by decide) (Nat.le_of_ble_eq_true rfl) dX0_would_42 ?_
        refine c_ask  ?_
        refine J_ri ?_
        exact J_iret rfl dX0_would_45 (by exact hq _ c1 ((e1.mono (by decide) (by decide)).sI (by decide)) s1 p1 r1 rfl)
      · exfalso; omega
    · exfalso; omega
  · exfalso; omega
theorem c_best_no {E : jEnv} {α : Nat → Nat} {σ : cS} {Q : Option Value → cS → Prop} {many : Nat} {wide high bl : Int} {G : Nat → Nat → Int} {ad : Nat → Nat} {c : Nat → Nat → Int}  (hS : cSh many wide high bl G ad c σ) (hO : shOK many wide high bl G) (hm : many = 0) (hq : Q (some (.int (zI (-4)))) σ) : jX0_best E α 0 [some (.ref (α 0)), none, none, none, none, none, none] [] σ Q := by
  have hO8 := hO.s
  refine J_aload_n dX0_best_0 rfl ?_
  refine CG_many dX0_best_1 ?_
  refine J_top (zI (many)) hS.1 ?_
  refine J_if_ne_z (tgt := 10) dX0_best_4 (by decide) (by unfold zR; omega) (fun c4 => ?_) (fun c4 => ?_)
  · exfalso; omega
  · skip
    refine J_bipush (zI (-4)) dX0_best_7 rfl ?_
    exact J_iret rfl dX0_best_9 (by exact hq)
/-- the least so far -/
def fwB (b : Int × mC) : Int := if b.1 = -9 then 1048576 else mBy b.2
theorem fwB_iff {many : Nat} {wide high bl : Int} {G : Nat → Nat → Int} (hO : shOK many wide high bl G) {c : Nat} (hc : c < 12) : mBy (mCand many wide high bl G c) < fwB (mBst many wide high bl G c) ↔ (mBst many wide high bl G c).1 = -9 ∨ bLess (mCand many wide high bl G c) (mBst many wide high bl G c).2 := by
  have a := mCand_b hO hc
  have a2 := mCand_l hO hc
  have b := mBst_b hO c (by omega)
  have b2 := mBst_l hO c (by omega)
  unfold fwB
  by_cases z : (mBst many wide high bl G c).1 = -9
  · rw [if_pos z]
    exact ⟨fun _ => Or.inl z, fun _ => by unfold mBy; omega⟩
  · rw [if_neg z, mBy_iff (by omega) (by omega) (by omega) (by omega)]
    exact ⟨fun h => Or.inr h, fun h => by rcases h with h | h; exact absurd h z; exact h⟩
theorem fwB_b {many : Nat} {wide high bl : Int} {G : Nat → Nat → Int} (hO : shOK many wide high bl G) {c : Nat} (hc : c ≤ 12) : 0 ≤ fwB (mBst many wide high bl G c) ∧ fwB (mBst many wide high bl G c) ≤ 1048576 := by
  have b := mBst_b hO c hc
  have b2 := mBst_l hO c hc
  unfold fwB
  split
  · omega
  · unfold mBy; omega
theorem cl_best44 {E : jEnv} {α : Nat → Nat} {σ : cS} {Q : Option Value → cS → Prop} {many : Nat} {wide high bl : Int} {G : Nat → Nat → Int} {r o : Nat}  (hO : shOK many wide high bl G) (hr : r < 4) (ho : o < 3) (hW : cWd bl G (mAll many wide high bl G r o many).1 many σ) (hx : J E (wC E α) (cX E, none) cX0_best 7 (some .int) RX0 (jR 10 24 0) (2 * (3 * r + o) + 2) (0) 104 [some (.ref (α 0)), some (.int (zI ((mBst many wide high bl G (3 * r + o + 1)).1))), some (.int (zI (fwB (mBst many wide high bl G (3 * r + o + 1))))), some (.int (zI ((mBst many wide high bl G (3 * r + o + 1)).2.2.1))), some (.int (zI (r : Nat))), some (.int (zI (o : Nat))), none] [] σ Q)  : J E (wC E α) (cX E, none) cX0_best 7 (some .int) RX0 (jR 10 24 0) (2 * (3 * r + o) + 2) (0) 44 [some (.ref (α 0)), some (.int (zI ((mBst many wide high bl G (3 * r + o)).1))), some (.int (zI (fwB (mBst many wide high bl G (3 * r + o))))), some (.int (zI ((mBst many wide high bl G (3 * r + o)).2.2.1))), some (.int (zI (r : Nat))), some (.int (zI (o : Nat))), none] [] σ Q := by
  have hbb := mBst_b hO (3 * r + o) (by omega)
  have hfb := fwB_b hO (c := 3 * r + o) (by omega)
  have hc := mCand_e (many := many) (wide := wide) (high := high) (bl := bl) (G := G) (r := r) ho
  have hcb := mCand_b hO (c := 3 * r + o) (by omega)
  have hcl := mCand_l hO (c := 3 * r + o) (by omega)
  have hfi := fwB_iff hO (c := 3 * r + o) (by omega)
  rw [hc] at hcb hcl
  simp only at hcb hcl
  have hml := mMiss_lt (mAll many wide high bl G r o many).1 many hO.1
  refine J_aload_n dX0_best_44 rfl ?_
  refine CG_wouldNot dX0_best_45 ?_
  refine J_top (nI (mMiss (mAll many wide high bl G r o many).1 many)) hW.1 ?_
  refine PX0_bitCount hml (by decide) (show _ ≤ 24 ∧ _ ≤ 0 by omega) (Nat.le_of_ble_eq_true rfl) dX0_best_48 ?_
  refine J_bipush (zI 100) dX0_best_51 rfl ?_
  refine J_imul_z dX0_best_53 ?_
  refine J_aload_n dX0_best_54 rfl ?_
  refine CG_wouldPages dX0_best_55 ?_
  refine J_top (zI (pgM (mAll many wide high bl G r o many).1 many)) hW.2.1 ?_
  refine J_iadd_z dX0_best_58 ?_
  refine J_sipush (zI 1000) dX0_best_59 rfl ?_
  refine J_imul_z dX0_best_62 ?_
  refine J_aload_n dX0_best_63 rfl ?_
  refine CG_wouldPages dX0_best_64 ?_
  refine J_top (zI (pgM (mAll many wide high bl G r o many).1 many)) hW.2.1 ?_
  refine J_if_ne_z (tgt := 74) dX0_best_67 (by decide) (by unfold zR; omega) (fun c67 => ?_) (fun c67 => ?_)
  · skip
    refine J_aload_n dX0_best_74 rfl ?_
    refine CG_wouldLast dX0_best_75 ?_
    refine J_top (zI (mLast bl G (mAll many wide high bl G r o many).1 many)) (hW.2.2 c67) ?_
    refine J_iadd_z dX0_best_78 ?_
    refine J_top (zI (mBy (mCand many wide high bl G (3 * r + o)))) (congrArg zI (by first | (unfold mBy; rw [hc]; done) | (unfold mBy; rw [hc]; simp only; omega) | (unfold mBy; rw [hc]; unfold mLast; rw [if_pos (by omega)]; done) | (unfold mBy; rw [hc]; simp only; unfold mLast; rw [if_pos (by omega)]; omega))) ?_
    refine J_istore dX0_best_79 rfl (by decide) _ rfl ?_
    have hmy : 0 ≤ mBy (mCand many wide high bl G (3 * r + o)) ∧ mBy (mCand many wide high bl G (3 * r + o)) ≤ 1000000 := by unfold mBy; rw [hc]; simp only; omega
    refine J_iload dX0_best_81 rfl ?_
    refine J_iload_n dX0_best_83 rfl ?_
    refine J_icmp_ge_z (tgt := 104) dX0_best_84 (by decide) (by unfold zR; omega) (by unfold zR; omega) (fun c84 => ?_) (fun c84 => ?_)
    · skip
      refine J_fg (L' := [some (.ref (α 0)), some (.int (zI ((mBst many wide high bl G (3 * r + o)).1))), some (.int (zI (fwB (mBst many wide high bl G (3 * r + o))))), some (.int (zI ((mBst many wide high bl G (3 * r + o)).2.2.1))), some (.int (zI (r : Nat))), some (.int (zI (o : Nat))), none]) (by repeat' constructor) ?_
      rw [mBst_n (c := 3 * r + o) (by rw [← hfi]; omega)] at hx
      exact hx
    · skip
      refine J_iload dX0_best_87 rfl ?_
      refine J_istore_n dX0_best_89 rfl (by decide) _ rfl ?_
      refine J_bipush (zI 10) dX0_best_90 rfl ?_
      refine J_iload dX0_best_92 rfl ?_
      refine J_imul_z dX0_best_94 ?_
      refine J_iload dX0_best_95 rfl ?_
      refine J_iadd_z dX0_best_97 ?_
      refine J_istore_n dX0_best_98 rfl (by decide) _ rfl ?_
      refine J_aload_n dX0_best_99 rfl ?_
      refine CG_wouldPages dX0_best_100 ?_
      refine J_top (zI (pgM (mAll many wide high bl G r o many).1 many)) hW.2.1 ?_
      refine J_istore_n dX0_best_103 rfl (by decide) _ rfl ?_
      have hy := mBst_y (c := 3 * r + o) (hfi.mp c84)
      have hfy : fwB (mBst many wide high bl G (3 * r + o + 1)) = mBy (mCand many wide high bl G (3 * r + o)) := by rw [hy]; unfold fwB; rw [if_neg (by show ¬ (10 * _ + _ : Int) = -9; omega)]
      rw [hfy, hy, show (3 * r + o) / 3 = r by omega, show (3 * r + o) % 3 = o by omega] at hx
      refine J_fg (by rw [hc]; repeat' constructor) hx
  · skip
    refine J_iconst (zI 0) dX0_best_70 rfl ?_
    refine J_goto (tgt := 78) dX0_best_71 (by decide) ?_
    refine J_iadd_z dX0_best_78 ?_
    refine J_top (zI (mBy (mCand many wide high bl G (3 * r + o)))) (congrArg zI (by first | (unfold mBy; rw [hc]; done) | (unfold mBy; rw [hc]; simp only; omega) | (unfold mBy; rw [hc]; unfold mLast; rw [if_pos (by omega)]; done) | (unfold mBy; rw [hc]; simp only; unfold mLast; rw [if_pos (by omega)]; omega))) ?_
    refine J_istore dX0_best_79 rfl (by decide) _ rfl ?_
    have hmy : 0 ≤ mBy (mCand many wide high bl G (3 * r + o)) ∧ mBy (mCand many wide high bl G (3 * r + o)) ≤ 1000000 := by unfold mBy; rw [hc]; simp only; omega
    refine J_iload dX0_best_81 rfl ?_
    refine J_iload_n dX0_best_83 rfl ?_
    refine J_icmp_ge_z (tgt := 104) dX0_best_84 (by decide) (by unfold zR; omega) (by unfold zR; omega) (fun c84 => ?_) (fun c84 => ?_)
    · skip
      refine J_fg (L' := [some (.ref (α 0)), some (.int (zI ((mBst many wide high bl G (3 * r + o)).1))), some (.int (zI (fwB (mBst many wide high bl G (3 * r + o))))), some (.int (zI ((mBst many wide high bl G (3 * r + o)).2.2.1))), some (.int (zI (r : Nat))), some (.int (zI (o : Nat))), none]) (by repeat' constructor) ?_
      rw [mBst_n (c := 3 * r + o) (by rw [← hfi]; omega)] at hx
      exact hx
    · skip
      refine J_iload dX0_best_87 rfl ?_
      refine J_istore_n dX0_best_89 rfl (by decide) _ rfl ?_
      refine J_bipush (zI 10) dX0_best_90 rfl ?_
      refine J_iload dX0_best_92 rfl ?_
      refine J_imul_z dX0_best_94 ?_
      refine J_iload dX0_best_95 rfl ?_
      refine J_iadd_z dX0_best_97 ?_
      refine J_istore_n dX0_best_98 rfl (by decide) _ rfl ?_
      refine J_aload_n dX0_best_99 rfl ?_
      refine CG_wouldPages dX0_best_100 ?_
      refine J_top (zI (pgM (mAll many wide high bl G r o many).1 many)) hW.2.1 ?_
      refine J_istore_n dX0_best_103 rfl (by decide) _ rfl ?_
      have hy := mBst_y (c := 3 * r + o) (hfi.mp c84)
      have hfy : fwB (mBst many wide high bl G (3 * r + o + 1)) = mBy (mCand many wide high bl G (3 * r + o)) := by rw [hy]; unfold fwB; rw [if_neg (by show ¬ (10 * _ + _ : Int) = -9; omega)]
      rw [hfy, hy, show (3 * r + o) / 3 = r by omega, show (3 * r + o) % 3 = o by omega] at hx
      refine J_fg (by rw [hc]; repeat' constructor) hx
theorem cl_best30 {E : jEnv} {α : Nat → Nat} {σ : cS} {Q : Option Value → cS → Prop} {many : Nat} {wide high bl : Int} {G : Nat → Nat → Int} {ad : Nat → Nat} {c : Nat → Nat → Int} {P : Nat → Nat → Int} {rule : Int} {r : Nat}  (hS : cSh many wide high bl G ad c σ) (hO : shOK many wide high bl G) (hP : cPl many P c) (hN : plOK many P rule) (hR : cRl rule σ) (hd0 : σ.d 0 = none) (hr : r < 4) (hx : ∀ σ' c', cP [20, 26, 27, 28, 29, 34, 35, 36] [21, 22, 23, 24, 25, 33] σ σ' → cSh many wide high bl G ad c' σ' → cPl many P c' → cRl rule σ' → J E (wC E α) (cX E, none) cX0_best 7 (some .int) RX0 (jR 10 24 0) (2 * (3 * (r + 1))) (0) 21 [some (.ref (α 0)), some (.int (zI ((mBst many wide high bl G (3 * (r + 1))).1))), some (.int (zI (fwB (mBst many wide high bl G (3 * (r + 1)))))), some (.int (zI ((mBst many wide high bl G (3 * (r + 1))).2.2.1))), some (.int (zI ((r + 1 : Nat)))), none, none] [] σ' Q)  : ∀ (n : Nat) (o : Nat) (σ1 : cS) (cc : Nat → Nat → Int), o ≤ 3 → cP [20, 26, 27, 28, 29, 34, 35, 36] [21, 22, 23, 24, 25, 33] σ σ1 → cSh many wide high bl G ad cc σ1 → cPl many P cc → cRl rule σ1 → 3 - o < n → J E (wC E α) (cX E, none) cX0_best 7 (some .int) RX0 (jR 10 24 0) (2 * (3 * r + o)) (0) 30 [some (.ref (α 0)), some (.int (zI ((mBst many wide high bl G (3 * r + o)).1))), some (.int (zI (fwB (mBst many wide high bl G (3 * r + o))))), some (.int (zI ((mBst many wide high bl G (3 * r + o)).2.2.1))), some (.int (zI (r : Nat))), some (.int (zI (o : Nat))), none] [] σ1 Q := by
  intro n
  induction n with
  | zero => intro o σ1 cc h1 h2 h3 h4 h5 hn; exact absurd hn (Nat.not_lt_zero _)
  | succ n ih =>
    intro o σ1 cc h1 h2 h3 h4 h5 hn
    refine J_iload dX0_best_30 rfl ?_
    refine J_iconst (zI 3) dX0_best_32 rfl ?_
    refine J_icmp_ge_z (tgt := 110) dX0_best_33 (by decide) (by unfold zR; omega) (by unfold zR; omega) (fun c33 => ?_) (fun c33 => ?_)
    · skip
      obtain rfl : o = 3 := by omega
      rw [show 3 * r + 3 = 3 * (r + 1) by omega]
      refine J_fg (L' := [some (.ref (α 0)), some (.int (zI ((mBst many wide high bl G (3 * (r + 1))).1))), some (.int (zI (fwB (mBst many wide high bl G (3 * (r + 1)))))), some (.int (zI ((mBst many wide high bl G (3 * (r + 1))).2.2.1))), some (.int (zI (r : Nat))), none, none]) (by repeat' constructor) ?_
      refine J_iinc_z ((((r + 1)) : Nat) : Int) (by omega) dX0_best_110 rfl rfl (by decide) _ rfl ?_
      refine J_goto (tgt := 21) dX0_best_113 (by decide) ?_
      exact hx σ1 cc h2 h3 h4 h5
    · skip
      refine J_aload_n dX0_best_36 rfl ?_
      refine J_iload dX0_best_37 rfl ?_
      refine J_iload dX0_best_39 rfl ?_
      refine CC_X0_tries_2 (by decide) (show _ + 2 ≤ 24 ∧ 0 + 0 ≤ 0 by omega) (Nat.le_of_ble_eq_true rfl) dX0_best_41 ?_
      refine c_tries2 h3 hO h4 hN h5 (by rw [cP_d h2]; exact hd0) (by omega) (by omega) (fun σ2 c2 e2 s2 p2 r2 W2 => ?_)
      refine J_rv ?_
      refine cl_best44 hO hr (by omega) W2 ?_
      refine J_iinc_z ((((o + 1)) : Nat) : Int) (by omega) dX0_best_104 rfl rfl (by decide) _ rfl ?_
      refine J_goto (tgt := 30) dX0_best_107 (by decide) ?_
      refine J_kn (k' := 2 * (3 * r + (o + 1))) (n' := 0) (by omega) rfl ?_
      exact ih (o + 1) σ2 c2 (by omega) (h2.trans e2) s2 p2 r2 (by omega)
theorem cl_best21 {E : jEnv} {α : Nat → Nat} {σ : cS} {Q : Option Value → cS → Prop} {many : Nat} {wide high bl : Int} {G : Nat → Nat → Int} {ad : Nat → Nat} {c : Nat → Nat → Int} {P : Nat → Nat → Int} {rule : Int}  (hS : cSh many wide high bl G ad c σ) (hO : shOK many wide high bl G) (hP : cPl many P c) (hN : plOK many P rule) (hR : cRl rule σ) (hd0 : σ.d 0 = none) (hq : ∀ σ' c', cP [2, 20, 26, 27, 28, 29, 34, 35, 36] [21, 22, 23, 24, 25, 33] σ σ' → cSh many wide high bl G ad c' σ' → cPl many P c' → cRl rule σ' → σ'.i 2 = zI (mBst many wide high bl G 12).2.2.1 → Q (some (.int (zI (mBst many wide high bl G 12).1))) σ')  : ∀ (n : Nat) (r : Nat) (σ1 : cS) (cc : Nat → Nat → Int), r ≤ 4 → cP [20, 26, 27, 28, 29, 34, 35, 36] [21, 22, 23, 24, 25, 33] σ σ1 → cSh many wide high bl G ad cc σ1 → cPl many P cc → cRl rule σ1 → 4 - r < n → J E (wC E α) (cX E, none) cX0_best 7 (some .int) RX0 (jR 10 24 0) (2 * (3 * r)) (0) 21 [some (.ref (α 0)), some (.int (zI ((mBst many wide high bl G (3 * r)).1))), some (.int (zI (fwB (mBst many wide high bl G (3 * r))))), some (.int (zI ((mBst many wide high bl G (3 * r)).2.2.1))), some (.int (zI (r : Nat))), none, none] [] σ1 Q := by
  intro n
  induction n with
  | zero => intro r σ1 cc h1 h2 h3 h4 h5 hn; exact absurd hn (Nat.not_lt_zero _)
  | succ n ih =>
    intro r σ1 cc h1 h2 h3 h4 h5 hn
    refine J_iload dX0_best_21 rfl ?_
    refine J_iconst (zI 4) dX0_best_23 rfl ?_
    refine J_icmp_ge_z (tgt := 116) dX0_best_24 (by decide) (by unfold zR; omega) (by unfold zR; omega) (fun c24 => ?_) (fun c24 => ?_)
    · skip
      obtain rfl : r = 4 := by omega
      refine J_aload_n dX0_best_116 rfl ?_
      refine J_iload_n dX0_best_117 rfl ?_
      refine J_iload_n dX0_best_118 rfl ?_
      refine CC_X0_ask (by decide) (show _ ≤ 24 ∧ 0 + 0 ≤ 0 by omega) (Nat.le_of_ble_eq_true rfl) dX0_best_119 ?_
      refine c_ask  ?_
      refine J_ri ?_
      exact J_iret rfl dX0_best_122 (by exact hq _ cc ((h2.mono (by decide) (by decide)).sI (by decide)) h3 h4 h5 rfl)
    · skip
      refine J_iconst (zI 0) dX0_best_27 rfl ?_
      refine J_istore dX0_best_28 rfl (by decide) _ rfl ?_
      refine J_fg (L' := [some (.ref (α 0)), some (.int (zI ((mBst many wide high bl G (3 * r + 0)).1))), some (.int (zI (fwB (mBst many wide high bl G (3 * r + 0))))), some (.int (zI ((mBst many wide high bl G (3 * r + 0)).2.2.1))), some (.int (zI (r : Nat))), some (.int (zI ((0 : Nat)))), none]) (by repeat' constructor) ?_
      refine J_kn (k' := 2 * (3 * r + 0)) (n' := 0) rfl rfl ?_
      exact cl_best30 h3 hO h4 hN h5 (by rw [cP_d h2]; exact hd0) (by omega) (fun σ2 c2 e2 s2 p2 r2 => ih (r + 1) σ2 c2 (by omega) (h2.trans e2) s2 p2 r2 (by omega)) _ 0 σ1 cc (by omega) cP.refl h3 h4 h5 (Nat.lt_succ_self _)
theorem c_best {E : jEnv} {α : Nat → Nat} {σ : cS} {Q : Option Value → cS → Prop} {many : Nat} {wide high bl : Int} {G : Nat → Nat → Int} {ad : Nat → Nat} {c : Nat → Nat → Int} {P : Nat → Nat → Int} {rule : Int}  (hS : cSh many wide high bl G ad c σ) (hO : shOK many wide high bl G) (hP : cPl many P c) (hN : plOK many P rule) (hR : cRl rule σ) (hd0 : σ.d 0 = none) (hm : 0 < many) (hq : ∀ σ' c', cP [2, 20, 26, 27, 28, 29, 34, 35, 36] [21, 22, 23, 24, 25, 33] σ σ' → cSh many wide high bl G ad c' σ' → cPl many P c' → cRl rule σ' → σ'.i 2 = zI (mBst many wide high bl G 12).2.2.1 → Q (some (.int (zI (mBst many wide high bl G 12).1))) σ')  : jX0_best E α 0 [some (.ref (α 0)), none, none, none, none, none, none] [] σ Q := by
  have hO8 := hO.s
  refine J_aload_n dX0_best_0 rfl ?_
  refine CG_many dX0_best_1 ?_
  refine J_top (zI (many)) hS.1 ?_
  refine J_if_ne_z (tgt := 10) dX0_best_4 (by decide) (by unfold zR; omega) (fun c4 => ?_) (fun c4 => ?_)
  · skip
    refine J_bipush (zI (-9)) dX0_best_10 rfl ?_
    refine J_istore_n dX0_best_12 rfl (by decide) _ rfl ?_
    refine J_ldc (zI 1048576) q758 dX0_best_13 ?_
    refine J_istore_n dX0_best_15 rfl (by decide) _ rfl ?_
    refine J_iconst (zI 0) dX0_best_16 rfl ?_
    refine J_istore_n dX0_best_17 rfl (by decide) _ rfl ?_
    refine J_iconst (zI 0) dX0_best_18 rfl ?_
    refine J_istore dX0_best_19 rfl (by decide) _ rfl ?_
    refine J_fg (L' := [some (.ref (α 0)), some (.int (zI ((mBst many wide high bl G (3 * 0)).1))), some (.int (zI (fwB (mBst many wide high bl G (3 * 0))))), some (.int (zI ((mBst many wide high bl G (3 * 0)).2.2.1))), some (.int (zI ((0 : Nat)))), none, none]) (by repeat' constructor) ?_
    exact cl_best21 hS hO hP hN hR hd0 hq _ 0 σ c (by omega) cP.refl hS hP hR (Nat.lt_succ_self _)
  · exfalso; omega
theorem c_drawn {E : jEnv} {α : Nat → Nat} {σ : cS} {Q : Option Value → cS → Prop} {many : Nat} {wide high bl : Int} {G : Nat → Nat → Int} {ad : Nat → Nat} {c : Nat → Nat → Int} {P : Nat → Nat → Int} {rule : Int} {v : Nat} (hS : cSh many wide high bl G ad c σ) (hO : shOK many wide high bl G) (hP : cPl many P c) (hN : plOK many P rule) (hV : plV many wide high bl G P) (hm : 0 < many) (hR : cRl rule σ) (hd0 : σ.d 0 = none) (hq : ∀ σ' c', cP [20, 26, 27, 28, 29] [21, 22, 23, 24, 25] σ σ' → cSh many wide high bl G ad c' σ' → cPl many (mDraw many wide high bl G v (P, rule)).1 c' → cRl (mDraw many wide high bl G v (P, rule)).2 σ' → Q none σ') : jX0_drawn E α 0 [some (.ref (α 0)), some (.int (zI ((v / 8 % many) : Nat))), some (.int (zI ((v % 8) : Nat))), some (.int (zI ((v / 64 % 4) : Nat)))] [] σ Q := by
  have hO8 := hO.s
  have hf : (v / 8 % many) < many := Nat.mod_lt _ hm
  refine J_iload_n dX0_drawn_0 rfl ?_
  refine J_if_ne_z (tgt := 15) dX0_drawn_1 (by decide) (by unfold zR; omega) (fun c1 => ?_) (fun c1 => ?_)
  · skip
    refine J_iload_n dX0_drawn_15 rfl ?_
    refine J_iconst (zI 5) dX0_drawn_16 rfl ?_
    refine J_icmp_ge_z (tgt := 42) dX0_drawn_17 (by decide) (by unfold zR; omega) (by unfold zR; omega) (fun c17 => ?_) (fun c17 => ?_)
    · skip
      refine J_aload_n dX0_drawn_42 rfl ?_
      refine J_iload_n dX0_drawn_43 rfl ?_
      refine CC_X0_lifts (by decide) (by decide) (Nat.le_of_ble_eq_true rfl) dX0_drawn_44 ?_
      refine c_lifts hS hO hf ?_
      refine J_rv ?_
      exact J_vret rfl dX0_drawn_47 (by exact hq _ _ (cP.sF cP.refl) (hS.put _ _) (by rw [mDraw_l (by omega) (by omega)]; exact cPl_lift hP (fun g hg => updC_n hg) (by rw [updC_s]; exact ⟨rfl, rfl⟩)) (by rw [mDraw_l (by omega) (by omega)]; exact hR))
    · skip
      refine J_aload_n dX0_drawn_20 rfl ?_
      refine J_iload_n dX0_drawn_21 rfl ?_
      refine CC_X0_isSet (by decide) (by decide) (Nat.le_of_ble_eq_true rfl) dX0_drawn_22 ?_
      refine c_isSet hS hO hP hN hf (fun b22 => ?_) (fun b22 => ?_)
      · refine J_ri ?_
        refine J_if_ne_y (tgt := 47) dX0_drawn_25 (by decide) (by decide) ?_
        exact J_vret rfl dX0_drawn_47 (by exact hq _ c cP.refl hS (by rw [mDraw_a (by omega) (by omega) (show 0 ≤ P _ 0 by omega)]; exact hP) (by rw [mDraw_a (by omega) (by omega) (show 0 ≤ P _ 0 by omega)]; exact hR))
      · refine J_ri ?_
        refine J_if_ne_n (tgt := 47) dX0_drawn_25 (by decide) (by decide) ?_
        refine J_aload_n dX0_drawn_28 rfl ?_
        refine J_aload_n dX0_drawn_29 rfl ?_
        refine CG_frames dX0_drawn_30 ?_
        refine J_iload_n dX0_drawn_33 rfl ?_
        refine CA_fr (hS.2.2.2.2 _ hf) (by omega) (by have := hO.1; omega) dX0_drawn_34 ?_
        refine CC_X0_sets (by decide) (by decide) (Nat.le_of_ble_eq_true rfl) dX0_drawn_35 ?_
        refine c_sets hS hO hP hN hV hf hR  (fun hp σ1 e1 => ?_) (fun p σ1 c1 hp e1 er s1 pl1 g1 g2 => ?_)
        · refine J_ri ?_
          refine J_pop dX0_drawn_38 rfl ?_
          refine J_goto (tgt := 47) dX0_drawn_39 (by decide) ?_
          exact J_vret rfl dX0_drawn_47 (by exact hq _ c e1.1 (hS.up e1 (by decide) (by decide) (by decide) (by decide)) (by rw [mDraw_s (by omega) (by omega) (show ¬ 0 ≤ P _ 0 by omega), mPut_n hp]; exact hP) (by rw [mDraw_s (by omega) (by omega) (show ¬ 0 ≤ P _ 0 by omega)]; exact hR.up e1.2.2))
        · refine J_ri ?_
          refine J_pop dX0_drawn_38 rfl ?_
          refine J_goto (tgt := 47) dX0_drawn_39 (by decide) ?_
          exact J_vret rfl dX0_drawn_47 (by exact hq _ c1 e1 s1 (by rw [mDraw_s (by omega) (by omega) (show ¬ 0 ≤ P _ 0 by omega)]; exact pl1) (by rw [mDraw_s (by omega) (by omega) (show ¬ 0 ≤ P _ 0 by omega)]; exact hR.up er))
  · skip
    refine J_aload_n dX0_drawn_4 rfl ?_
    refine J_iload_n dX0_drawn_5 rfl ?_
    refine CC_X0_newRule (by decide) (by decide) (Nat.le_of_ble_eq_true rfl) dX0_drawn_6 ?_
    refine c_newRule (ru := v / 64 % 4) (by omega) (fun a => ?_)
    refine J_ra ?_
    refine CP_rule (ru := v / 64 % 4) rfl dX0_drawn_9 ?_
    refine J_w (cRu_new hd0) ?_
    refine J_goto (tgt := 47) dX0_drawn_12 (by decide) ?_
    exact J_vret rfl dX0_drawn_47 (by exact hq _ c cP.refl hS (by rw [mDraw_r (by omega)]; exact hP) (by rw [mDraw_r (by omega)]; exact ⟨show v / 64 % 4 < 4 by omega, rfl⟩))
theorem c_lots_bad {E : jEnv} {α : Nat → Nat} {σ : cS} {Q : Option Value → cS → Prop} {v u : Int} (rv : zR v) (ru : zR u) (hv : ¬ (1 ≤ v ∧ v ≤ 20) ∨ ¬ (1 ≤ u ∧ u ≤ 2147483646)) (hq : Q (some (.int (zI (-1)))) σ) : jX0_lots E α 0 [some (.ref (α 0)), some (.int (zI (v))), some (.int (zI (u))), none, none, none] [] σ Q := by
  refine J_iload_n dX0_lots_0 rfl ?_
  refine J_iconst (zI 1) dX0_lots_1 rfl ?_
  refine J_bipush (zI 20) dX0_lots_2 rfl ?_
  refine PX0_isIn (by unfold zR at *; omega) (by unfold zR at *; omega) (by unfold zR at *; omega) (by decide) (by decide) (Nat.le_of_ble_eq_true rfl) dX0_lots_4 (fun b4 => ?_) (fun b4 => ?_)
  · skip
    refine J_if_eq_n (tgt := 21) dX0_lots_7 (by decide) (by decide) ?_
    refine J_iload_n dX0_lots_10 rfl ?_
    refine J_iconst (zI 1) dX0_lots_11 rfl ?_
    refine J_ldcw (zI 2147483646) q1507 dX0_lots_12 ?_
    refine PX0_isIn (by unfold zR at *; omega) (by unfold zR at *; omega) (by unfold zR at *; omega) (by decide) (by decide) (Nat.le_of_ble_eq_true rfl) dX0_lots_15 (fun b15 => ?_) (fun b15 => ?_)
    · exfalso; omega
    · skip
      refine J_if_ne_n (tgt := 23) dX0_lots_18 (by decide) (by decide) ?_
      refine J_iconst (zI (-1)) dX0_lots_21 rfl ?_
      exact J_iret rfl dX0_lots_22 (by exact hq)
  · skip
    refine J_if_eq_y (tgt := 21) dX0_lots_7 (by decide) (by decide) ?_
    refine J_iconst (zI (-1)) dX0_lots_21 rfl ?_
    exact J_iret rfl dX0_lots_22 (by exact hq)
theorem c_lots_no {E : jEnv} {α : Nat → Nat} {σ : cS} {Q : Option Value → cS → Prop} {many : Nat} {wide high bl : Int} {G : Nat → Nat → Int} {ad : Nat → Nat} {c : Nat → Nat → Int} {v u : Int} (hS : cSh many wide high bl G ad c σ) (hO : shOK many wide high bl G) (hv : 1 ≤ v ∧ v ≤ 20) (hu : 1 ≤ u ∧ u ≤ 2147483646) (hm : many = 0) (hq : Q (some (.int (zI (-4)))) σ) : jX0_lots E α 0 [some (.ref (α 0)), some (.int (zI (v))), some (.int (zI (u))), none, none, none] [] σ Q := by
  have hO8 := hO.s
  refine J_iload_n dX0_lots_0 rfl ?_
  refine J_iconst (zI 1) dX0_lots_1 rfl ?_
  refine J_bipush (zI 20) dX0_lots_2 rfl ?_
  refine PX0_isIn (by unfold zR; omega) (by unfold zR; omega) (by unfold zR; omega) (by decide) (by decide) (Nat.le_of_ble_eq_true rfl) dX0_lots_4 (fun b4 => ?_) (fun b4 => ?_)
  · skip
    refine J_if_eq_n (tgt := 21) dX0_lots_7 (by decide) (by decide) ?_
    refine J_iload_n dX0_lots_10 rfl ?_
    refine J_iconst (zI 1) dX0_lots_11 rfl ?_
    refine J_ldcw (zI 2147483646) q1507 dX0_lots_12 ?_
    refine PX0_isIn (by unfold zR; omega) (by unfold zR; omega) (by unfold zR; omega) (by decide) (by decide) (Nat.le_of_ble_eq_true rfl) dX0_lots_15 (fun b15 => ?_) (fun b15 => ?_)
    · skip
      refine J_if_ne_y (tgt := 23) dX0_lots_18 (by decide) (by decide) ?_
      refine J_aload_n dX0_lots_23 rfl ?_
      refine CG_many dX0_lots_24 ?_
      refine J_top (zI (many)) hS.1 ?_
      refine J_if_ne_z (tgt := 33) dX0_lots_27 (by decide) (by unfold zR; omega) (fun c27 => ?_) (fun c27 => ?_)
      · exfalso; omega
      · skip
        refine J_bipush (zI (-4)) dX0_lots_30 rfl ?_
        exact J_iret rfl dX0_lots_32 (by exact hq)
    · exfalso; omega
  · exfalso; omega
theorem c_lots_full {E : jEnv} {α : Nat → Nat} {σ : cS} {Q : Option Value → cS → Prop} {many : Nat} {wide high bl : Int} {G : Nat → Nat → Int} {ad : Nat → Nat} {c : Nat → Nat → Int} {dm : Nat} {H : Nat → mPl} {v u : Int} (hS : cSh many wide high bl G ad c σ) (hO : shOK many wide high bl G) (hL : cLg many dm H σ) (hd : dm ≤ 40) (hv : 1 ≤ v ∧ v ≤ 20) (hu : 1 ≤ u ∧ u ≤ 2147483646) (hm : 0 < many) (hf : 40 < (dm : Int) + v) (hq : Q (some (.int (zI (-2)))) σ) : jX0_lots E α 0 [some (.ref (α 0)), some (.int (zI (v))), some (.int (zI (u))), none, none, none] [] σ Q := by
  have hO8 := hO.s
  refine J_iload_n dX0_lots_0 rfl ?_
  refine J_iconst (zI 1) dX0_lots_1 rfl ?_
  refine J_bipush (zI 20) dX0_lots_2 rfl ?_
  refine PX0_isIn (by unfold zR; omega) (by unfold zR; omega) (by unfold zR; omega) (by decide) (by decide) (Nat.le_of_ble_eq_true rfl) dX0_lots_4 (fun b4 => ?_) (fun b4 => ?_)
  · skip
    refine J_if_eq_n (tgt := 21) dX0_lots_7 (by decide) (by decide) ?_
    refine J_iload_n dX0_lots_10 rfl ?_
    refine J_iconst (zI 1) dX0_lots_11 rfl ?_
    refine J_ldcw (zI 2147483646) q1507 dX0_lots_12 ?_
    refine PX0_isIn (by unfold zR; omega) (by unfold zR; omega) (by unfold zR; omega) (by decide) (by decide) (Nat.le_of_ble_eq_true rfl) dX0_lots_15 (fun b15 => ?_) (fun b15 => ?_)
    · skip
      refine J_if_ne_y (tgt := 23) dX0_lots_18 (by decide) (by decide) ?_
      refine J_aload_n dX0_lots_23 rfl ?_
      refine CG_many dX0_lots_24 ?_
      refine J_top (zI (many)) hS.1 ?_
      refine J_if_ne_z (tgt := 33) dX0_lots_27 (by decide) (by unfold zR; omega) (fun c27 => ?_) (fun c27 => ?_)
      · skip
        refine J_aload_n dX0_lots_33 rfl ?_
        refine CG_deedMany dX0_lots_34 ?_
        refine J_top (zI (dm)) hL.1 ?_
        refine J_iload_n dX0_lots_37 rfl ?_
        refine J_iadd_z dX0_lots_38 ?_
        refine J_bipush (zI 40) dX0_lots_39 rfl ?_
        refine J_icmp_le_z (tgt := 47) dX0_lots_41 (by decide) (by unfold zR; omega) (by unfold zR; omega) (fun c41 => ?_) (fun c41 => ?_)
        · exfalso; omega
        · skip
          refine J_bipush (zI (-2)) dX0_lots_44 rfl ?_
          exact J_iret rfl dX0_lots_46 (by exact hq)
      · exfalso; omega
    · exfalso; omega
  · exfalso; omega
theorem cl_lots53 {E : jEnv} {α : Nat → Nat} {σ : cS} {Q : Option Value → cS → Prop} {many : Nat} {wide high bl : Int} {G : Nat → Nat → Int} {ad : Nat → Nat} {c : Nat → Nat → Int} {dm : Nat} {H : Nat → mPl} {p0 : mPl} {n0 s : Nat}  (hS : cSh many wide high bl G ad c σ) (hO : shOK many wide high bl G) (hd0 : σ.d 0 = none) (hm : 0 < many) (hp0 : plR many wide high bl G p0) (hn0 : 1 ≤ n0 ∧ n0 ≤ 20) (hs : 1 ≤ s ∧ s ≤ 2147483646) (hd : dm + n0 ≤ 40) (hq : ∀ σ' c', cP [20, 26, 27, 28, 29, 30] [21, 22, 23, 24, 25, 31] σ σ' → cSh many wide high bl G ad c' σ' → cPl many (mLots many wide high bl G s p0 n0).1 c' → cRl (mLots many wide high bl G s p0 n0).2 σ' → cLg many (dm + n0) (mLotsH many wide high bl G s p0 dm H) σ' → Q (some (.int (zI (mSetN (mLots many wide high bl G s p0 n0).1 many)))) σ')  : ∀ (n : Nat) (k : Nat) (P : Nat → Nat → Int) (rule : Int) (σ1 : cS) (cc : Nat → Nat → Int), (mLots many wide high bl G s p0 k) = (P, rule) → k ≤ n0 → cP [20, 26, 27, 28, 29, 30] [21, 22, 23, 24, 25, 31] σ σ1 → cSh many wide high bl G ad cc σ1 → cPl many P cc → cRl rule σ1 → cLg many (dm + k) (mLotsH many wide high bl G s p0 dm H) σ1 → n0 - k < n → J E (wC E α) (cX E, none) cX0_lots 6 (some .int) RX0 (jR 9 20 0) (k) (0) 53 [some (.ref (α 0)), some (.int (zI (n0 : Nat))), some (.int (zI (s : Nat))), some (.long (lN (mLcg s k))), none, some (.int (zI (k : Nat)))] [] σ1 Q := by
  intro n
  induction n with
  | zero => intro k P rule σ1 cc h1 h2 h3 h4 h5 h6 h7 hn; exact absurd hn (Nat.not_lt_zero _)
  | succ n ih =>
    intro k P rule σ1 cc h1 h2 h3 h4 h5 h6 h7 hn
    have hO8 := hO.s
    have hRR := mLots_ok (s := s) hO hm hp0 k
    rw [h1] at hRR
    have hN : plOK many P rule := hRR.1
    have hV : plV many wide high bl G P := hRR.2
    have hS := h4
    have hP := h5
    have hv0 := mLcg_b (s := s) (by omega) k
    have hv1 := mLcg_b (s := s) (by omega) (k + 1)
    refine J_iload dX0_lots_53 rfl ?_
    refine J_iload_n dX0_lots_55 rfl ?_
    refine J_icmp_ge_z (tgt := 111) dX0_lots_56 (by decide) (by unfold zR; omega) (by unfold zR; omega) (fun c56 => ?_) (fun c56 => ?_)
    · skip
      obtain rfl : k = n0 := by omega
      refine J_aload_n dX0_lots_111 rfl ?_
      rw [h1] at hq
      refine CC_X0_setMany (by decide) (show _ ≤ 20 ∧ 0 + 0 ≤ 0 by omega) (Nat.le_of_ble_eq_true rfl) dX0_lots_112 ?_
      refine c_setMany hS hO hP hN  ?_
      refine J_ri ?_
      exact J_iret rfl dX0_lots_115 (by exact hq σ1 cc h3 h4 h5 h6 h7)
    · skip
      refine J_ldc2 (48271) q1508 dX0_lots_59 ?_
      refine J_lload_n dX0_lots_62 rfl ?_
      refine J_lmul dX0_lots_63 ?_
      refine J_topl (lN (48271 * mLcg s k)) (by rw [Int64.mul_comm]; exact l_mul rfl) ?_
      refine J_ldc2 (2147483647) q1509 dX0_lots_64 ?_
      refine J_lrem dX0_lots_67 (by decide) ?_
      refine J_topl (lN (mLcg s (k + 1))) (l_rem (b := 2147483647) rfl (by omega) (by omega) (by omega)) ?_
      refine J_lstore_n dX0_lots_68 rfl (by decide) _ rfl ?_
      refine J_aload_n dX0_lots_69 rfl ?_
      refine CC_X0_note (by decide) (show _ ≤ 20 ∧ 0 + 0 ≤ 0 by omega) (Nat.le_of_ble_eq_true rfl) dX0_lots_70 ?_
      refine c_note hS hO hP hN h7 (by omega) h6 (fun σ9 e9 L9 => ?_)
      rw [mLotsH_u h1] at L9
      have hS := hS.up e9 (by decide) (by decide) (by decide) (by decide)
      refine J_rv ?_
      refine J_aload_n dX0_lots_73 rfl ?_
      refine J_lload_n dX0_lots_74 rfl ?_
      refine J_ldc2 (8) q1510 dX0_lots_75 ?_
      refine J_ldiv dX0_lots_78 (by decide) ?_
      refine J_topl (lN ((mLcg s (k + 1)) / 8)) (l_div (b := 8) rfl (by omega) (by omega) (by omega)) ?_
      refine J_aload_n dX0_lots_79 rfl ?_
      refine CG_many dX0_lots_80 ?_
      refine J_top (zI (many)) hS.1 ?_
      refine J_i2l dX0_lots_83 ?_
      refine J_topl (lN many) (l_of (by omega)) ?_
      refine J_lrem dX0_lots_84 (l_ne (by omega) hm) ?_
      refine J_topl (lN ((mLcg s (k + 1)) / 8 % many)) (l_rem rfl (by omega) hm (by omega)) ?_
      refine J_l2i dX0_lots_85 ?_
      refine J_top (zI (((mLcg s (k + 1)) / 8 % many) : Nat)) (l_i _) ?_
      refine J_lload_n dX0_lots_86 rfl ?_
      refine J_ldc2 (8) q1510 dX0_lots_87 ?_
      refine J_lrem dX0_lots_90 (by decide) ?_
      refine J_topl (lN ((mLcg s (k + 1)) % 8)) (l_rem (b := 8) rfl (by omega) (by omega) (by omega)) ?_
      refine J_l2i dX0_lots_91 ?_
      refine J_top (zI (((mLcg s (k + 1)) % 8 : Nat) : Int)) (l_i _) ?_
      refine J_lload_n dX0_lots_92 rfl ?_
      refine J_ldc2 (64) q1511 dX0_lots_93 ?_
      refine J_ldiv dX0_lots_96 (by decide) ?_
      refine J_topl (lN ((mLcg s (k + 1)) / 64)) (l_div (b := 64) rfl (by omega) (by omega) (by omega)) ?_
      refine J_ldc2 (4) q1512 dX0_lots_97 ?_
      refine J_lrem dX0_lots_100 (by decide) ?_
      refine J_topl (lN ((mLcg s (k + 1)) / 64 % 4)) (l_rem (b := 4) rfl (by omega) (by omega) (by omega)) ?_
      refine J_l2i dX0_lots_101 ?_
      refine J_top (zI (((mLcg s (k + 1)) / 64 % 4 : Nat) : Int)) (l_i _) ?_
      refine CC_X0_drawn (by decide) (show _ ≤ 20 ∧ 0 + 0 ≤ 0 by omega) (Nat.le_of_ble_eq_true rfl) dX0_lots_102 ?_
      refine c_drawn (v := (mLcg s (k + 1))) hS hO hP hN hV hm (h6.up e9.2.2) (by rw [cP_d e9.1, cP_d h3]; exact hd0) (fun σ8 c8 e8 s8 p8 r8 => ?_)
      refine J_rv ?_
      refine J_iinc_z ((((k + 1)) : Nat) : Int) (by omega) dX0_lots_105 rfl rfl (by decide) _ rfl ?_
      refine J_goto (tgt := 53) dX0_lots_108 (by decide) ?_
      refine J_fg (L' := [some (.ref (α 0)), some (.int (zI (n0 : Nat))), some (.int (zI (s : Nat))), some (.long (lN (mLcg s (k + 1)))), none, some (.int (zI ((k + 1 : Nat))))]) (by repeat' constructor) ?_
      refine ih (k + 1) _ _ _ c8 (by show mDraw many wide high bl G _ (mLots many wide high bl G s p0 k) = _; rw [h1]) (by omega) ((h3.trans (e9.1.mono (by decide) (by decide))).trans (e8.mono (by decide) (by decide))) s8 p8 r8 (L9.up e8 (by decide) (by decide)) (by omega)
theorem c_lots {E : jEnv} {α : Nat → Nat} {σ : cS} {Q : Option Value → cS → Prop} {many : Nat} {wide high bl : Int} {G : Nat → Nat → Int} {ad : Nat → Nat} {c : Nat → Nat → Int} {P : Nat → Nat → Int} {rule : Int} {dm : Nat} {H : Nat → mPl} {n0 s : Nat} (hS : cSh many wide high bl G ad c σ) (hO : shOK many wide high bl G) (hP : cPl many P c) (hN : plOK many P rule) (hV : plV many wide high bl G P) (hL : cLg many dm H σ) (hd : dm ≤ 40) (hR : cRl rule σ) (hd0 : σ.d 0 = none) (hn0 : 1 ≤ n0 ∧ n0 ≤ 20) (hs : 1 ≤ s ∧ s ≤ 2147483646) (hm : 0 < many) (hdn : dm + n0 ≤ 40) (hq : ∀ σ' c', cP [20, 26, 27, 28, 29, 30] [21, 22, 23, 24, 25, 31] σ σ' → cSh many wide high bl G ad c' σ' → cPl many (mLots many wide high bl G s (P, rule) n0).1 c' → cRl (mLots many wide high bl G s (P, rule) n0).2 σ' → cLg many (dm + n0) (mLotsH many wide high bl G s (P, rule) dm H) σ' → Q (some (.int (zI (mSetN (mLots many wide high bl G s (P, rule) n0).1 many)))) σ') : jX0_lots E α 0 [some (.ref (α 0)), some (.int (zI (n0 : Nat))), some (.int (zI (s : Nat))), none, none, none] [] σ Q := by
  have hO8 := hO.s
  refine J_iload_n dX0_lots_0 rfl ?_
  refine J_iconst (zI 1) dX0_lots_1 rfl ?_
  refine J_bipush (zI 20) dX0_lots_2 rfl ?_
  refine PX0_isIn (by unfold zR; omega) (by unfold zR; omega) (by unfold zR; omega) (by decide) (by decide) (Nat.le_of_ble_eq_true rfl) dX0_lots_4 (fun b4 => ?_) (fun b4 => ?_)
  · skip
    refine J_if_eq_n (tgt := 21) dX0_lots_7 (by decide) (by decide) ?_
    refine J_iload_n dX0_lots_10 rfl ?_
    refine J_iconst (zI 1) dX0_lots_11 rfl ?_
    refine J_ldcw (zI 2147483646) q1507 dX0_lots_12 ?_
    refine PX0_isIn (by unfold zR; omega) (by unfold zR; omega) (by unfold zR; omega) (by decide) (by decide) (Nat.le_of_ble_eq_true rfl) dX0_lots_15 (fun b15 => ?_) (fun b15 => ?_)
    · skip
      refine J_if_ne_y (tgt := 23) dX0_lots_18 (by decide) (by decide) ?_
      refine J_aload_n dX0_lots_23 rfl ?_
      refine CG_many dX0_lots_24 ?_
      refine J_top (zI (many)) hS.1 ?_
      refine J_if_ne_z (tgt := 33) dX0_lots_27 (by decide) (by unfold zR; omega) (fun c27 => ?_) (fun c27 => ?_)
      · skip
        refine J_aload_n dX0_lots_33 rfl ?_
        refine CG_deedMany dX0_lots_34 ?_
        refine J_top (zI (dm)) hL.1 ?_
        refine J_iload_n dX0_lots_37 rfl ?_
        refine J_iadd_z dX0_lots_38 ?_
        refine J_bipush (zI 40) dX0_lots_39 rfl ?_
        refine J_icmp_le_z (tgt := 47) dX0_lots_41 (by decide) (by unfold zR; omega) (by unfold zR; omega) (fun c41 => ?_) (fun c41 => ?_)
        · skip
          refine J_iload_n dX0_lots_47 rfl ?_
          refine J_i2l dX0_lots_48 ?_
          refine J_topl (lN s) (l_of (by omega)) ?_
          refine J_lstore_n dX0_lots_49 rfl (by decide) _ rfl ?_
          refine J_iconst (zI 0) dX0_lots_50 rfl ?_
          refine J_istore dX0_lots_51 rfl (by decide) _ rfl ?_
          refine J_fg (L' := [some (.ref (α 0)), some (.int (zI (n0 : Nat))), some (.int (zI (s : Nat))), some (.long (lN (mLcg s 0))), none, some (.int (zI ((0 : Nat))))]) (by repeat' constructor) ?_
          exact cl_lots53 (p0 := (P, rule)) hS hO hd0 hm ⟨hN, hV⟩ hn0 hs hdn hq _ 0 P rule σ c rfl (by omega) cP.refl hS hP hR ⟨hL.1, fun d h2 => (by unfold mLotsH; rw [if_pos (show d < dm from h2)]; exact hL.2 d h2)⟩ (Nat.lt_succ_self _)
        · exfalso; omega
      · exfalso; omega
    · exfalso; omega
  · exfalso; omega
