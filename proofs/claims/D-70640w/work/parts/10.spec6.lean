/-! plans -/
def anyN (g : Nat → Nat) : Nat → Nat
  | 0 => 0
  | a + 1 => anyN g a ||| g a
def cntB (g : Nat → Nat) (d : Nat) : Nat → Nat
  | 0 => 0
  | a + 1 => cntB g d a + (if (g a).testBit d = false then 0 else 1)
def sumN (g : Nat → Nat) : Nat → Nat
  | 0 => 0
  | a + 1 => sumN g a + g a
/-- the lowest bit below k -/
def lowB (z : Nat) : Nat → Option Nat
  | 0 => none
  | k + 1 => match lowB z k with
    | some d => some d
    | none => if z.testBit k = true then some k else none
def lowS (z : Nat) (o : Option Nat) (d : Nat) : Option Nat := if z.testBit d = false then o else match o with
  | none => some d
  | some b => if d < b then some d else some b
/-- the days from the last on, k of them -/
def lowD (z : Nat) (o : Option Nat) (dd : Nat) : Nat → Option Nat
  | 0 => o
  | k + 1 => lowS z (lowD z o dd k) (dd - 1 - k)
theorem lowD_eq : ∀ dd, dd < 7 → ∀ z1, z1 < 64 → ∀ z2, z2 < 64 → lowD z2 (lowB z1 dd) dd dd = lowB (z1 ||| z2) dd := by decide +kernel
def okW (w : Int32) : Bool := pIn w.toInt64 0 3 || pIn w.toInt64 10 15
def allT (σ : ASt) (r : Nat → Int32) : Nat → Bool
  | 0 => true
  | x + 1 => allT σ r x && isT σ (r x)
def pG (σ : ASt) (r : Nat → Int32) (a : Nat) : Nat := fou (aN σ) (aD σ) (aF σ) a (ix (r a))
def pln (σ : ASt) (r : Nat → Int32) (w : Int32) : Int32 := if w < 10 then (if w = 0 then nI (sumN (fun a => fin (aN σ) (aD σ) (aF σ) a (ix (r a))) (aE σ)) else if w = 1 then oI (lowB (anyN (pG σ r) (aE σ)) (aD σ)) else if w = 2 then nI (setN (fun a => !(decide (pG σ r a = 0))) (aE σ)) else nI (setN (fun a => decide (popc (ix (r a)) < aN σ 3 a)) (aE σ))) else if isD σ (w - 10) = false then -9 else nI (cntB (pG σ r) (ix (w - 10)) (aE σ))
def f_plan (σ : ASt) (k la i n w : Int32) : Int32 × ASt := if isSh k = false then (-1, uI σ 0 0) else if isLn la = false then (-2, uI σ 0 0) else if okW w = false then (-2, uI σ 0 0) else if aE σ = 0 then (-3, uI σ 0 0) else if ¬ bar σ (ix k) (ix la) i n = 0 then (-10 - nI (bar σ (ix k) (ix la) i n), uI σ 0 (nI (bar σ (ix k) (ix la) i n))) else if ¬ ix n = aE σ then (-2, uI σ 0 0) else if allT σ (txt σ (ix k) (ix i)) (aE σ) = false then (-2, uI σ 0 0) else (pln σ (txt σ (ix k) (ix i)) w, uI σ 0 0)
theorem sumN_le {g : Nat → Nat} {n : Nat} (h : ∀ a, a < n → g a ≤ 54) : sumN g n ≤ 54 * n := by
  induction n with
  | zero => exact Nat.le_refl 0
  | succ n ih => simp only [sumN]; have := ih (fun a ha => h a (Nat.lt_succ_of_lt ha)); have := h n (Nat.lt_succ_self n); omega
theorem cntB_le (g : Nat → Nat) (d n : Nat) : cntB g d n ≤ n := by
  induction n with
  | zero => exact Nat.le_refl 0
  | succ n ih => simp only [cntB]; split <;> omega
theorem anyN_lt {g : Nat → Nat} {n : Nat} (h : ∀ a, a < n → g a < 64) : anyN g n < 64 := by
  induction n with
  | zero => exact (show 0 < 64 by decide)
  | succ n ih => simp only [anyN]; exact Nat.or_lt_two_pow (n := 6) (ih (fun a ha => h a (Nat.lt_succ_of_lt ha))) (h n (Nat.lt_succ_self n))
theorem who_step {p : Nat → Bool} {z a : Nat} (hz : z < 64) (ha : a < 16) (hp : p a = !(decide (z = 0))) : nI (setN p a) ||| (if nI z ≤ 0 then (0 : Int32) else (1 : Int32) <<< (nI a &&& 31)) = nI (setN p (a + 1)) := by
  rw [← set_step ha, hp]
  congr 1
  by_cases h : z = 0
  · subst h; rw [if_pos (by decide), if_pos (by decide)]
  · rw [if_neg (by rw [← nI_0, nI_leI (by omega) (by decide)]; omega), if_neg (by simp [h])]
theorem hun_step {p : Nat → Bool} {x y a : Nat} (hx : x < 64) (hy : y < 64) (ha : a < 16) (hp : p a = decide (x < y)) : nI (setN p a) ||| (if nI y ≤ nI x then (0 : Int32) else (1 : Int32) <<< (nI a &&& 31)) = nI (setN p (a + 1)) := by
  rw [← set_step ha, hp]
  congr 1
  by_cases h : x < y
  · rw [if_neg (by rw [nI_leI (by omega) (by omega)]; omega), if_neg (by simp [h])]
  · rw [if_pos (by rw [nI_leI (by omega) (by omega)]; omega), if_pos (by simp [h])]
theorem onday_step {g : Nat → Nat} {w : Int32} {a : Nat} (hg : g a < 64) (hw : ¬ w < 10 → ∃ j, j < 6 ∧ w - 10 = nI j) : (if w < 10 then (0 : Int32) else nI (cntB g (ix (w - 10)) a)) + (if w < 10 then (0 : Int32) else (if pBit (nI (g a)) (w - 10) = false then (0 : Int32) else (1 : Int32))) = (if w < 10 then (0 : Int32) else nI (cntB g (ix (w - 10)) (a + 1))) := by
  by_cases h : w < 10
  · rw [if_pos h, if_pos h, if_pos h]; rfl
  · rw [if_neg h, if_neg h, if_neg h]
    obtain ⟨j, hj, e⟩ := hw h
    rw [e, pBit_nI _ hg j (by omega), ixn (by omega)]
    simp only [cntB]
    split
    · rw [Int32.add_zero]; rfl
    · rw [nI_1]
theorem pd_neg {n : Nat} (hn : n < 100) : nI n - 1 < 0 ↔ n = 0 := by
  have e : (nI n - nI 1).toInt = (n : Int) - (1 : Nat) := pk_sub_toInt (by omega) (by decide)
  have e1 : nI n - 1 = nI n - nI 1 := rfl
  rw [e1, Int32.lt_iff_toInt_lt, Int32.toInt_zero, e]; omega
theorem pd_dec (dd k : Nat) (h : k < dd) : nI (dd - 1 - k) + (-1) = nI (dd - (k + 1)) - 1 := by
  rw [show dd - (k + 1) = dd - 1 - k by omega, Int32.sub_eq_add_neg]
theorem lowD_keep {z dd k : Nat} {o : Option Nat} (h : z.testBit (dd - 1 - k) = false) : lowD z o dd (k + 1) = lowD z o dd k := by simp only [lowD, lowS]; rw [if_pos h]
theorem lowD_new {z dd k : Nat} {o : Option Nat} (h : z.testBit (dd - 1 - k) = true) (h0 : lowD z o dd k = none) : lowD z o dd (k + 1) = some (dd - 1 - k) := by simp only [lowD, lowS]; rw [if_neg (bt_nf h), h0]
theorem lowD_lt {z dd k b : Nat} {o : Option Nat} (h : z.testBit (dd - 1 - k) = true) (h0 : lowD z o dd k = some b) (hb : dd - 1 - k < b) : lowD z o dd (k + 1) = some (dd - 1 - k) := by simp only [lowD, lowS]; rw [if_neg (bt_nf h), h0]; simp only []; rw [if_pos hb]
theorem lowD_ge {z dd k b : Nat} {o : Option Nat} (h : z.testBit (dd - 1 - k) = true) (h0 : lowD z o dd k = some b) (hb : b ≤ dd - 1 - k) : lowD z o dd (k + 1) = some b := by simp only [lowD, lowS]; rw [if_neg (bt_nf h), h0]; simp only []; rw [if_neg (Nat.not_lt.mpr hb)]
theorem lowB_lt {z : Nat} : ∀ k b, lowB z k = some b → b < k := by
  intro k
  induction k with
  | zero => intro b h; cases h
  | succ k ih =>
    intro b h
    simp only [lowB] at h
    split at h
    · rename_i d hd; injection h with h; have := ih d hd; omega
    · split at h
      · injection h with h; omega
      · cases h
theorem lowD_bd {z dd : Nat} {o : Option Nat} (ho : ∀ b, o = some b → b < 100) (hd : dd < 100) : ∀ k b, lowD z o dd k = some b → b < 100 := by
  intro k
  induction k with
  | zero => intro b h; exact ho b h
  | succ k ih =>
    intro b h
    simp only [lowD, lowS] at h
    split at h
    · exact ih b h
    · split at h
      · injection h with h; omega
      · rename_i c hc
        have := ih c hc
        split at h
        · injection h with h; omega
        · injection h with h; omega
theorem lowB_0 (k : Nat) : lowB 0 k = none := by
  induction k with
  | zero => rfl
  | succ k ih => simp only [lowB]; rw [ih]; simp
theorem allT_no {σ : ASt} {r : Nat → Int32} {a n : Nat} (h : isT σ (r a) = false) (ha : a < n) : allT σ r n = false := by
  induction n with
  | zero => omega
  | succ n ih =>
    rcases Nat.lt_succ_iff_lt_or_eq.mp ha with h1 | h1
    · rw [allT, ih h1]; rfl
    · rw [allT, ← h1, h]; exact Bool.and_false _
theorem allT_yes {σ : ASt} {r : Nat → Int32} {n : Nat} (h : allT σ r n = true) : ∀ j, j < n → isT σ (r j) = true := by
  induction n with
  | zero => intro j hj; omega
  | succ n ih =>
    intro j hj; rw [allT, Bool.and_eq_true] at h
    rcases Nat.lt_succ_iff_lt_or_eq.mp hj with h1 | h1
    · exact ih h.1 j h1
    · rw [h1]; exact h.2
theorem allT_ix {σ : ASt} {r : Nat → Int32} {n : Nat} (hok : aOk σ) (h : allT σ r n = true) : ∀ j, j < n → ix (r j) < 2 ^ aD σ ∧ r j = nI (ix (r j)) := by
  intro j hj
  obtain ⟨t, ht, et⟩ := isT_ix hok (allT_yes h j hj)
  have h64 := pow6 hok.1
  have : ix (nI t) = t := nI_clamp (by omega)
  rw [et, this]; exact ⟨ht, rfl⟩
theorem okW_ge {w : Int32} (h : okW w = true) : ¬ w < 10 → ∃ j, j < 6 ∧ w - 10 = nI j := by
  intro hw
  rw [okW, Bool.or_eq_true] at h
  rcases h with h | h
  · obtain ⟨j, hj, ej⟩ := pIn_k (k := 3) (by decide) (by decide) h
    exact absurd (by rw [ej]; have : j = 0 ∨ j = 1 ∨ j = 2 ∨ j = 3 := by omega
                     rcases this with h | h | h | h <;> (rw [h]; decide)) hw
  · unfold pIn at h
    rw [Bool.and_eq_true, decide_eq_true_iff, decide_eq_true_iff] at h
    rw [Int64.le_iff_toInt_le, Int64.le_iff_toInt_le] at h
    rw [Int32.toInt_toInt64] at h
    have h1 : (10 : Int) ≤ w.toInt := h.1
    have h2 : w.toInt ≤ 15 := h.2
    obtain ⟨t, ht⟩ : ∃ t : Nat, w.toInt = (t : Int) := ⟨w.toInt.toNat, by omega⟩
    have ew : w = nI t := by
      apply Int32.toInt_inj.mp
      rw [ht, show (nI t).toInt = (t : Int) from nI_toInt (by omega)]
    have h6 : t = 10 ∨ t = 11 ∨ t = 12 ∨ t = 13 ∨ t = 14 ∨ t = 15 := by omega
    refine ⟨t - 10, by omega, ?_⟩
    rcases h6 with h | h | h | h | h | h <;> (rw [ew, h]; decide)
theorem okW_if (a b : Bool) : (if a = true then (1 : Int32) else (if b = false then (0 : Int32) else (1 : Int32))) = bI (a || b) := by cases a <;> cases b <;> rfl
