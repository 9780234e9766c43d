/-! pure words for both sides -/
def LOSTv : Int64 := -9223372036854775808
def pBit (set k : Int32) : Bool := decide ((set >>> (k &&& 31)) &&& 1 = 1)
def pbl : Nat → Int32 → Int32 → Int32
  | 0, _, n => n
  | f + 1, r, n => if 0 < r then pbl f (r >>> ((1 : Int32) &&& 31)) (n + (r &&& 1)) else n
/-- how many bits -/
def pBits (set : Int32) : Int32 := pbl 31 set 0
theorem sh1_toInt (r : Int32) : (r >>> ((1 : Int32) &&& 31)).toInt = r.toInt / 2 := by
  rw [pk_shr r ((1 : Int32) &&& 31) 1 (by decide), Int.shiftRight_eq_div_pow]
  rfl
theorem toInt_pos {r : Int32} : 0 < r ↔ 0 < r.toInt := by rw [Int32.lt_iff_toInt_lt, Int32.toInt_zero]
theorem i32_nle {x y : Int32} : ¬ x ≤ y ↔ y < x := by rw [Int32.le_iff_toInt_le, Int32.lt_iff_toInt_lt]; omega
theorem i32_nlt {x y : Int32} : ¬ x < y ↔ y ≤ x := by rw [Int32.le_iff_toInt_le, Int32.lt_iff_toInt_lt]; omega
theorem pbl_stop {f : Nat} {r n : Int32} (h : r ≤ 0) : pbl f r n = n := by
  cases f
  · rfl
  · simp only [pbl]; rw [if_neg (i32_nlt.mpr h)]
theorem bits_dec {n : Nat} {r : Int32} (h : ¬ r ≤ 0) (hr : r.toInt < 2 ^ n) : n - 1 < n := by
  cases n with
  | zero =>
    have := toInt_pos.mp (i32_nle.mp h)
    omega
  | succ n => omega
theorem bits_step {n : Nat} {r k R : Int32} (h : ¬ r ≤ 0) (hr : r.toInt < 2 ^ n) (hk : pbl n r k = R) : (r >>> ((1 : Int32) &&& 31)).toInt < 2 ^ (n - 1) ∧ pbl (n - 1) (r >>> ((1 : Int32) &&& 31)) (k + (r &&& 1)) = R := by
  cases n with
  | zero =>
    have := toInt_pos.mp (i32_nle.mp h)
    omega
  | succ n =>
    refine ⟨?_, ?_⟩
    · rw [sh1_toInt]
      have : (2 : Int) ^ (n + 1) = 2 ^ n * 2 := Int.pow_succ 2 n
      rw [Nat.add_sub_cancel]
      omega
    · simp only [pbl] at hk
      rw [if_pos (i32_nle.mp h)] at hk
      exact hk
theorem pBit_t {a b : Int32} (h : (a >>> (b &&& 31)) &&& 1 = 1) : pBit a b = true := decide_eq_true h
theorem pBit_f {a b : Int32} (h : ¬ (a >>> (b &&& 31)) &&& 1 = 1) : pBit a b = false := decide_eq_false h
/-- the quotient by the greatest common divisor -/
def pShare (u w : Nat) (which : Int32) : Int64 := (if which = 0 then lN u else lN w) / lN (Nat.gcd u w)
def pSly (stay : Int32) : Int32 := if stay ≤ 0 then 0 else stay - 1
def pLasts (kind stay : Int32) : Int32 := if kind = 0 then stay else if kind = 1 then pSly stay else pSly stay / 2
def pBeyond (i : Int32) (n : Int64) (all : Int32) : Bool := decide (i < 0) || (decide (n < 0) || decide (all.toInt64 < i.toInt64 + n))
/-- days that are fasts: those that look as sour, but one -/
def pFasts (looks : Nat → Int32) (sour no : Int32) : Nat → Int32
  | 0 => 0
  | i + 1 => pFasts looks sour no i ||| (if looks i < sour then (0 : Int32) else if nI i = no then 0 else 1 <<< (nI i &&& 31))
theorem i64_lt {x y : Int64} : x < y ↔ x.toInt < y.toInt := Int64.lt_iff_toInt_lt
theorem i64_le {x y : Int64} : x ≤ y ↔ x.toInt ≤ y.toInt := Int64.le_iff_toInt_le
theorem pIn_f1 {v lo hi : Int64} (h : v < lo) : pIn v lo hi = false := by
  have : ¬ lo ≤ v := by rw [i64_le]; rw [i64_lt] at h; omega
  simp [pIn, this]
theorem pIn_f2 {v lo hi : Int64} (h : hi < v) : pIn v lo hi = false := by
  have : ¬ v ≤ hi := by rw [i64_le]; rw [i64_lt] at h; omega
  simp [pIn, this]
theorem pIn_t {v lo hi : Int64} (h1 : ¬ v < lo) (h2 : ¬ hi < v) : pIn v lo hi = true := by
  have a : lo ≤ v := by rw [i64_le]; rw [i64_lt] at h1; omega
  have b : v ≤ hi := by rw [i64_le]; rw [i64_lt] at h2; omega
  simp [pIn, a, b]
