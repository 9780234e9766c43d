/-! pure words: sets of days as naturals -/
theorem nx_and (a b : Nat) : nI a &&& nI b = nI (a &&& b) := by
  apply Int32.toBitVec_inj.1
  show BitVec.ofNat 32 a &&& BitVec.ofNat 32 b = BitVec.ofNat 32 (a &&& b)
  apply BitVec.eq_of_getLsbD_eq
  intro i hi
  simp [hi]
theorem nx_or (a b : Nat) : nI a ||| nI b = nI (a ||| b) := by
  apply Int32.toBitVec_inj.1
  show BitVec.ofNat 32 a ||| BitVec.ofNat 32 b = BitVec.ofNat 32 (a ||| b)
  apply BitVec.eq_of_getLsbD_eq
  intro i hi
  simp [hi]
def laN (k st : Nat) : Nat := if k = 0 then st else if k = 1 then st - 1 else (st - 1) / 2
theorem laN_lt {k st : Nat} (h : st < 6) : laN k st < 6 := by
  unfold laN
  split
  · exact h
  · split <;> omega
theorem pLasts_nI : ∀ k, k < 3 → ∀ st, st < 6 → pLasts (nI k) (nI st) = nI (laN k st) := by decide +kernel
def popc (z : Nat) : Nat := z % 2 + z / 2 % 2 + z / 4 % 2 + z / 8 % 2 + z / 16 % 2 + z / 32 % 2
theorem pBits_nI : ∀ z, z < 64 → pBits (nI z) = nI (popc z) := by decide +kernel
theorem popc_le (z : Nat) : popc z ≤ 6 := by unfold popc; omega
theorem shl1 : ∀ i, i < 16 → (1 : Int32) <<< (nI i &&& 31) = nI (2 ^ i) := by decide +kernel
theorem pBit_nI : ∀ e, e < 64 → ∀ k, k < 16 → pBit (nI e) (nI k) = e.testBit k := by decide +kernel
def yst (dd s : Nat) : Nat := s ||| ((s * 2) &&& (2 ^ dd - 1))
/-- what is yellow: e meals, spread on la days, of dd -/
def yel (dd : Nat) : Nat → Nat → Nat
  | 0, e => e
  | la + 1, e => yst dd (yel dd la e)
theorem yst_lt {dd s : Nat} (h : s < 2 ^ dd) : yst dd s < 2 ^ dd := by
  unfold yst
  refine Nat.or_lt_two_pow h ?_
  have h1 : (s * 2) &&& (2 ^ dd - 1) ≤ 2 ^ dd - 1 := Nat.and_le_right
  have h2 : 0 < 2 ^ dd := Nat.two_pow_pos dd
  omega
theorem yel_lt {dd e : Nat} (la : Nat) (h : e < 2 ^ dd) : yel dd la e < 2 ^ dd := by
  induction la with
  | zero => exact h
  | succ la ih => exact yst_lt ih
def yIn (b : Bool) (d : Nat) : Nat → Nat → Nat
  | 0, acc => acc
  | k + 1, acc => yIn b d k acc ||| (if b = false then 0 else 2 ^ (d + k))
def yOut (dd la e : Nat) : Nat → Nat
  | 0 => 0
  | d + 1 => yIn (e.testBit d) d (min (dd - d) (la + 1)) (yOut dd la e d)
theorem yOut_eq : ∀ dd, dd < 7 → ∀ la, la < 6 → ∀ e, e < 2 ^ dd → yOut dd la e dd = yel dd la e := by decide +kernel
/-- days that are fasts -/
def fN (looks : Nat → Int32) (sour no : Int32) : Nat → Nat
  | 0 => 0
  | i + 1 => fN looks sour no i ||| (if looks i < sour then 0 else if nI i = no then 0 else 2 ^ i)
theorem fN_lt (looks : Nat → Int32) (sour no : Int32) (i : Nat) : fN looks sour no i < 2 ^ i := by
  induction i with
  | zero => exact (show 0 < 1 by decide)
  | succ i ih =>
    have h2 : 2 ^ i < 2 ^ (i + 1) := Nat.pow_lt_pow_right (by decide) (Nat.lt_succ_self i)
    refine Nat.or_lt_two_pow (Nat.lt_trans ih h2) ?_
    split
    · exact Nat.two_pow_pos _
    · split
      · exact Nat.two_pow_pos _
      · exact h2
theorem pow6 {dd : Nat} (h : dd ≤ 6) : 2 ^ dd ≤ 64 := Nat.pow_le_pow_right (n := 2) (by decide) h
/-- rows of E: kind, stay, spoons, need of each -/
def fou (E : Nat → Nat → Nat) (dd F a e : Nat) : Nat := yel dd (laN (E 0 a) (E 1 a)) e &&& F
def fin (E : Nat → Nat → Nat) (dd F a e : Nat) : Nat := E 2 a * popc (fou E dd F a e)
theorem fou_lt {E : Nat → Nat → Nat} {dd F a e : Nat} (hd : dd ≤ 6) (he : e < 2 ^ dd) : fou E dd F a e < 64 :=
  Nat.lt_of_le_of_lt Nat.and_le_left (Nat.lt_of_lt_of_le (yel_lt _ he) (pow6 hd))
theorem fin_lt {E : Nat → Nat → Nat} {dd F a e : Nat} (h : E 2 a < 10) : fin E dd F a e ≤ 54 :=
  Nat.mul_le_mul (Nat.le_of_lt_succ h) (popc_le _)
/-- none as the number -9 -/
def oI (o : Option Nat) : Int32 := match o with
  | none => -9
  | some b => nI b
def bstep (E : Nat → Nat → Nat) (dd F a : Nat) (o : Option Nat) (e : Nat) : Option Nat :=
  if popc e < E 3 a then o else match o with
  | none => some e
  | some b => if fin E dd F a e < fin E dd F a b ∨ (fin E dd F a e = fin E dd F a b ∧ popc e < popc b) then some e else some b
/-- the best of the first n sets -/
def bst (E : Nat → Nat → Nat) (dd F a : Nat) : Nat → Option Nat
  | 0 => none
  | n + 1 => bstep E dd F a (bst E dd F a n) n
theorem bst_lt {E : Nat → Nat → Nat} {dd F a : Nat} : ∀ n b, bst E dd F a n = some b → b < n := by
  intro n
  induction n with
  | zero => intro b h; cases h
  | succ n ih =>
    intro b h
    simp only [bst, bstep] at h
    split at h
    · exact Nat.lt_succ_of_lt (ih b h)
    · split at h
      · injection h with h; omega
      · rename_i b0 hb0
        split at h
        · injection h with h; omega
        · injection h with h
          have := ih b0 hb0
          omega
def vstep (E : Nat → Nat → Nat) (dd F : Nat) (o : Option Nat) (a : Nat) : Option Nat := match o with
  | none => none
  | some x => match bst E dd F a (2 ^ dd) with
    | none => none
    | some b => some (x + fin E dd F a b)
/-- the fines of all who eat at their best -/
def vil (E : Nat → Nat → Nat) (dd F : Nat) : Nat → Option Nat
  | 0 => some 0
  | a + 1 => vstep E dd F (vil E dd F a) a
/-! what the Model's numbers hold -/
def mDay (τ : Nat → Nat → Int32) (dd : Nat) : Prop := dd ≤ 6 ∧ τ 2 0 = nI dd
def mEat (τ : Nat → Nat → Int32) (n : Nat) (E : Nat → Nat → Nat) : Prop := n ≤ 4 ∧ τ 4 0 = nI n ∧ ∀ a, a < n → (τ 5 a = nI (E 0 a) ∧ E 0 a < 3) ∧ (τ 6 a = nI (E 1 a) ∧ E 1 a < 6) ∧ (τ 7 a = nI (E 2 a) ∧ E 2 a < 10) ∧ (τ 8 a = nI (E 3 a) ∧ E 3 a < 7)
theorem mEat.lt {τ : Nat → Nat → Int32} {n : Nat} {E : Nat → Nat → Nat} (h : mEat τ n E) {a : Nat} (ha : a < n) : a < 4 := Nat.lt_of_lt_of_le ha h.1
theorem mEat.la {τ : Nat → Nat → Int32} {n : Nat} {E : Nat → Nat → Nat} (h : mEat τ n E) {a : Nat} (ha : a < n) : laN (E 0 a) (E 1 a) < 6 := laN_lt (h.2.2 a ha).2.1.2
theorem nI_toInt64 {n : Nat} (h : n < 2 ^ 31) : (nI n).toInt64 = lN n := nI_l h
/-- an index below n -/
theorem pIn_ix {x : Int32} {n : Nat} (hn : n < 2 ^ 31) (h : pIn x.toInt64 0 ((nI n).toInt64 - 1) = true) : ∃ j, j < n ∧ x = nI j := by
  simp only [pIn, Bool.and_eq_true, decide_eq_true_eq] at h
  obtain ⟨h1, h2⟩ := h
  have e1 : x.toInt64.toInt = x.toInt := Int32.toInt_toInt64 x
  have e2 : ((nI n).toInt64 - 1).toInt = (n : Int) - 1 := by
    rw [nI_l hn]
    have h3 : (lN n).toInt = n := lN_toInt hn
    rw [Int64.toInt_sub, h3]
    show ((n : Int) - 1).bmod (2 ^ 64) = _
    rw [Int.bmod_eq_of_le (by omega) (by omega)]
  rw [i64_le] at h1 h2
  rw [e1] at h1 h2
  rw [e2] at h2
  have h0 : (0 : Int64).toInt = 0 := by decide
  rw [h0] at h1
  obtain ⟨j, hj, rfl⟩ := nI_of (x := x) (by rw [Int32.lt_iff_toInt_lt, Int32.toInt_zero]; omega)
  rw [nI_toInt hj] at h2
  exact ⟨j, by omega, rfl⟩
theorem pIn_nI {j n : Nat} (hj : j < n) (hn : n < 2 ^ 31) : pIn (nI j).toInt64 0 ((nI n).toInt64 - 1) = true := by
  have e1 : (nI j).toInt64.toInt = j := by rw [nI_l (by omega)]; exact lN_toInt (by omega)
  have e2 : ((nI n).toInt64 - 1).toInt = (n : Int) - 1 := by
    rw [nI_l hn]
    have h3 : (lN n).toInt = n := lN_toInt hn
    rw [Int64.toInt_sub, h3]
    show ((n : Int) - 1).bmod (2 ^ 64) = _
    rw [Int.bmod_eq_of_le (by omega) (by omega)]
  have h0 : (0 : Int64).toInt = 0 := by decide
  simp only [pIn, Bool.and_eq_true, decide_eq_true_eq, i64_le, e1, e2, h0]
  omega
theorem i64_nlt {x y : Int64} (h : x ≤ y) : ¬ y < x := by rw [i64_lt]; rw [i64_le] at h; omega
theorem i64_nle {x y : Int64} (h : ¬ x ≤ y) : y < x := by rw [i64_lt]; rw [i64_le] at h; omega
theorem fN_step {looks : Nat → Int32} {sour no : Int32} {i : Nat} (hi : i < 6) : nI (fN looks sour no i) ||| (if looks i < sour then (0 : Int32) else if nI i = no then 0 else (1 : Int32) <<< (nI i &&& 31)) = nI (fN looks sour no (i + 1)) := by
  simp only [fN]
  rw [← nx_or]
  congr 1
  split
  · rfl
  · split
    · rfl
    · exact shl1 i (by omega)
theorem yIn_step {e i k acc : Nat} (he : e < 64) (hi : i < 6) (hk : i + k < 6) : nI (yIn (e.testBit i) i k acc) ||| (if pBit (nI e) (nI i) = false then (0 : Int32) else (1 : Int32) <<< (nI (i + k) &&& 31)) = nI (yIn (e.testBit i) i (k + 1) acc) := by
  simp only [yIn]
  rw [← nx_or, pBit_nI e he i (by omega)]
  congr 1
  split
  · rfl
  · exact shl1 _ (by omega)
theorem bst_skip {E : Nat → Nat → Nat} {dd F a i : Nat} (h : popc i < E 3 a) : bst E dd F a (i + 1) = bst E dd F a i := by
  simp only [bst, bstep]; rw [if_pos h]
theorem bst_none {E : Nat → Nat → Nat} {dd F a i : Nat} (h : E 3 a ≤ popc i) (h0 : bst E dd F a i = none) : bst E dd F a (i + 1) = some i := by
  simp only [bst, bstep]; rw [if_neg (Nat.not_lt.mpr h), h0]
theorem bst_some {E : Nat → Nat → Nat} {dd F a i b : Nat} (h : E 3 a ≤ popc i) (h0 : bst E dd F a i = some b) (h1 : fin E dd F a i < fin E dd F a b ∨ (fin E dd F a i = fin E dd F a b ∧ popc i < popc b)) : bst E dd F a (i + 1) = some i := by
  simp only [bst, bstep]; rw [if_neg (Nat.not_lt.mpr h), h0]; simp only []; rw [if_pos h1]
theorem bst_keep {E : Nat → Nat → Nat} {dd F a i b : Nat} (h : E 3 a ≤ popc i) (h0 : bst E dd F a i = some b) (h1 : ¬ (fin E dd F a i < fin E dd F a b ∨ (fin E dd F a i = fin E dd F a b ∧ popc i < popc b))) : bst E dd F a (i + 1) = some b := by
  simp only [bst, bstep]; rw [if_neg (Nat.not_lt.mpr h), h0]; simp only []; rw [if_neg h1]
theorem less_gt {x y : Nat} (hx : x ≤ 54) (hy : y ≤ 54) (h : 0 < nI x - nI y) : y < x := by
  rw [Int32.lt_iff_toInt_lt, Int32.toInt_zero, pk_sub_toInt (by omega) (by omega)] at h; omega
theorem less_eq {x y : Nat} (hx : x ≤ 54) (hy : y ≤ 54) (h : nI x - nI y = 0) : y = x := by
  have := congrArg Int32.toInt h
  rw [pk_sub_toInt (by omega) (by omega), Int32.toInt_zero] at this; omega
theorem less_le {x y : Nat} (hx : x ≤ 54) (hy : y ≤ 54) (h : ¬ 0 < nI x - nI y) : x ≤ y := by
  rw [Int32.lt_iff_toInt_lt, Int32.toInt_zero, pk_sub_toInt (by omega) (by omega)] at h; omega
theorem less_ne {x y : Nat} (hx : x ≤ 54) (hy : y ≤ 54) (h : ¬ nI x - nI y = 0) : y ≠ x := fun q => h (by rw [q, Int32.sub_self])
theorem bst_nor {x y u v : Nat} (hx : x ≤ 54) (hy : y ≤ 54) (h : ¬ 0 < nI x - nI y) (h2 : (¬ nI x - nI y = 0) ∨ u ≤ v) : ¬ (y < x ∨ (y = x ∧ v < u)) := by
  have h1 := less_le hx hy h
  rcases h2 with h2 | h2
  · have := less_ne hx hy h2
    omega
  · omega
theorem vil_some {E : Nat → Nat → Nat} {dd F i x b : Nat} (h : vil E dd F i = some x) (h2 : bst E dd F i (2 ^ dd) = some b) : vil E dd F (i + 1) = some (x + fin E dd F i b) := by
  simp only [vil, vstep]; rw [h]; simp only []; rw [h2]
theorem vil_no {E : Nat → Nat → Nat} {dd F i x : Nat} (h : vil E dd F i = some x) (h2 : bst E dd F i (2 ^ dd) = none) : vil E dd F (i + 1) = none := by
  simp only [vil, vstep]; rw [h]; simp only []; rw [h2]
theorem vil_none {E : Nat → Nat → Nat} {dd F i n : Nat} (h : vil E dd F i = none) (hn : i ≤ n) : vil E dd F n = none := by
  induction n with
  | zero => rw [← Nat.le_zero.mp hn]; exact h
  | succ n ih =>
    rcases Nat.lt_or_ge n i with q | q
    · rw [← show i = n + 1 by omega]; exact h
    · simp only [vil, vstep]; rw [ih q]
theorem gcd_step (x y : Nat) : Nat.gcd x y = Nat.gcd y (x % y) := by
  rw [Nat.gcd_comm x y, Nat.gcd_rec, Nat.gcd_comm]
theorem lN_ne0 {y : Nat} (h : ¬ lN y = 0) (hy : y < 1000) : ¬ lN y = 0 := h
theorem lN_0 {y : Nat} (h : lN y = 0) : (lN y).toInt = 0 := by rw [h]; rfl
theorem lrem_nI {x y : Nat} (h : ¬ lN y = 0) (hx : x < 1000) (hy : y < 1000) : lN x - lN x / lN y * lN y = lN (x % y) :=
  pk_lRem (by omega) (by rcases Nat.eq_zero_or_pos y with q | q; exact absurd (by rw [q]; rfl) h; exact q) (by omega)
theorem gcd_ne0 {x y u k : Nat} (hg : Nat.gcd x y = Nat.gcd u k) (hk : 0 < k) (hx : x < 1000) (hz : lN y = 0) (hy : y < 1000) : ¬ lN x = 0 := fun h => by
  have h1 := congrArg Int64.toInt h
  have h2 := congrArg Int64.toInt hz
  rw [lN_toInt (by omega)] at h1 h2
  have e1 : x = 0 := by
    have : (0 : Int64).toInt = 0 := by decide
    omega
  have e2 : y = 0 := by
    have : (0 : Int64).toInt = 0 := by decide
    omega
  rw [e1, e2] at hg
  have := Nat.gcd_pos_of_pos_right u hk
  rw [← hg] at this
  exact absurd this (by decide)
theorem share_end {x y u k : Nat} (hg : Nat.gcd x y = Nat.gcd u k) (h : (lN y).toInt = 0) (hy : y < 1000) : lN (Nat.gcd u k) = lN x := by
  rw [lN_toInt (by omega)] at h
  rw [← hg, show y = 0 by omega, Nat.gcd_zero_right]
theorem lN_pos {y : Nat} (h : ¬ lN y = 0) : 0 < y := by
  rcases Nat.eq_zero_or_pos y with q | q
  · exact absurd (by rw [q]; rfl) h
  · exact q
