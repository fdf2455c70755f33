/-! plain words: a sheet written out -/
set_option maxRecDepth 100000
def mNo (v : Int) : List Int := if 9 < v then [32, 48 + v / 10, 48 + v % 10] else [32, 48 + v % 10]
def mKw (k : Int) : List Int := if k = 0 then [102, 114, 97, 109, 101] else if k = 1 then [105, 99, 111, 110] else if k = 2 then [98, 111, 114, 100, 101, 114] else [108, 111, 103, 111]
/-- the numbers of a frame ahead of the k-th -/
def mNos (g : Nat → Int) : Nat → List Int
  | 0 => []
  | 1 => []
  | k + 2 => mNos g (k + 1) ++ mNo (g (k + 1))
def mOutL (G : Nat → Nat → Int) : Nat → List Int
  | 0 => []
  | f + 1 => mOutL G f ++ (mKw (G f 0) ++ mNos (G f) 7 ++ [59])
def mOut (many : Nat) (wide high bl : Int) (G : Nat → Nat → Int) : List Int := [112, 97, 103, 101] ++ mNo wide ++ mNo high ++ [59] ++ (if 0 < bl then [98, 108, 101, 101, 100] ++ mNo bl ++ [59] else []) ++ mOutL G many
theorem mNo_l (v : Int) : (mNo v).length ≤ 3 := by
  unfold mNo
  split <;> simp
theorem mKw_l (v : Int) : (mKw v).length ≤ 6 := by
  unfold mKw
  repeat' split
  all_goals simp
theorem mNos_l (g : Nat → Int) : ∀ k, (mNos g k).length ≤ 3 * k
  | 0 => by simp [mNos]
  | 1 => by simp [mNos]
  | k + 2 => by
    have h1 := mNos_l g (k + 1)
    have h2 := mNo_l (g (k + 1))
    simp only [mNos, List.length_append]
    omega
theorem mOutL_l (G : Nat → Nat → Int) : ∀ n, (mOutL G n).length ≤ 30 * n
  | 0 => by simp [mOutL]
  | n + 1 => by
    have h1 := mOutL_l G n
    have h2 := mKw_l (G n 0)
    have h3 := mNos_l (G n) 7
    simp only [mOutL, List.length_append, List.length_cons, List.length_nil]
    omega
