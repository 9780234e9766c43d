/-! stores that keep mRep -/
theorem put2_self (τ : Nat → Nat → Int32) (i j : Nat) : put2 τ i j (τ i j) = τ := by
  funext a b
  unfold put2 upd
  split
  · rename_i h; subst h; simp only []; split
    · rename_i h; rw [h]
    · rfl
  · rfl
theorem put2_put2 (τ : Nat → Nat → Int32) (i j : Nat) (v w : Int32) : put2 (put2 τ i j v) i j w = put2 τ i j w := by
  funext a b
  unfold put2 upd
  split
  · simp only [if_true]; split <;> rfl
  · rfl
theorem put2_eq (τ : Nat → Nat → Int32) (i j : Nat) (v : Int32) : put2 τ i j v i j = v := by simp [put2, upd]
theorem put2_nej (τ : Nat → Nat → Int32) (i : Nat) {j k : Nat} (v : Int32) (h : k ≠ j) : put2 τ i j v i k = τ i k := by simp [put2, upd, h]
theorem mRep_fault {σ : ASt} {τ : Nat → Nat → Int32} (h : mRep σ τ) (v : Int32) : mRep (uI σ 0 v) (put2 τ 0 0 v) := ⟨h.1, rfl, h.2.2.1, h.2.2.2.1, h.2.2.2.2.1, h.2.2.2.2.2.1, h.2.2.2.2.2.2.1, h.2.2.2.2.2.2.2.1, h.2.2.2.2.2.2.2.2.1, h.2.2.2.2.2.2.2.2.2⟩
theorem mRep_trace {σ : ASt} {τ : Nat → Nat → Int32} (h : mRep σ τ) (v : Int32) : mRep (uI σ 1 v) (put2 τ 28 0 v) := ⟨h.1, h.2.1, rfl, h.2.2.2.1, h.2.2.2.2.1, h.2.2.2.2.2.1, h.2.2.2.2.2.2.1, h.2.2.2.2.2.2.2.1, h.2.2.2.2.2.2.2.2.1, h.2.2.2.2.2.2.2.2.2⟩
theorem mRep_sour {σ : ASt} {τ : Nat → Nat → Int32} (h : mRep σ τ) (v : Int32) : mRep (uI σ 2 v) (put2 τ 1 0 v) := ⟨h.1, h.2.1, h.2.2.1, rfl, h.2.2.2.2.1, h.2.2.2.2.2.1, h.2.2.2.2.2.2.1, h.2.2.2.2.2.2.2.1, h.2.2.2.2.2.2.2.2.1, h.2.2.2.2.2.2.2.2.2⟩
theorem mRep_look {σ : ASt} {τ : Nat → Nat → Int32} (h : mRep σ τ) (j : Nat) (v : Int32) : mRep (uL σ j v) (put2 τ 3 j v) := by
  refine ⟨h.1, h.2.1, h.2.2.1, h.2.2.2.1, h.2.2.2.2.1, ?_, h.2.2.2.2.2.2.1, h.2.2.2.2.2.2.2.1, h.2.2.2.2.2.2.2.2.1, h.2.2.2.2.2.2.2.2.2⟩
  intro i hi
  show upd (τ 3) j v i = upd (aL σ) j v i
  unfold upd
  split
  · rfl
  · exact h.look i hi
theorem aOk_need {σ : ASt} (h : aOk σ) {a k : Nat} (hk : k < 7) : aOk (uN σ 3 a k) := by
  obtain ⟨h1, h2, h3, h4, h5, h6, h7⟩ := h
  refine ⟨h1, h2, h3, h4, fun b hb => ?_, h6, h7⟩
  obtain ⟨q1, q2, q3, q4⟩ := h5 b hb
  refine ⟨q1, q2, q3, ?_⟩
  show (if b = a then k else aN σ 3 b) < 7
  split
  · exact hk
  · exact q4
theorem mRep_need {σ : ASt} {τ : Nat → Nat → Int32} (h : mRep σ τ) (a : Nat) {k : Nat} (hk : k < 7) : mRep (uN σ 3 a k) (put2 τ 8 a (nI k)) := by
  refine ⟨aOk_need h.1 hk, h.2.1, h.2.2.1, h.2.2.2.1, h.2.2.2.2.1, h.2.2.2.2.2.1, ⟨h.eat.1, h.eat.2.1, fun b hb => ?_⟩, h.2.2.2.2.2.2.2.1, h.2.2.2.2.2.2.2.2.1, h.2.2.2.2.2.2.2.2.2⟩
  obtain ⟨q1, q2, q3, q4⟩ := h.eat.2.2 b hb
  refine ⟨q1, q2, q3, ?_⟩
  show upd (τ 8) a (nI k) b = nI (if b = a then k else aN σ 3 b) ∧ (if b = a then k else aN σ 3 b) < 7
  unfold upd
  split
  · exact ⟨rfl, hk⟩
  · exact q4
theorem aOk_back {σ : ASt} (h : aOk σ) {k : Nat} (hk : k ≤ aR σ) : aOk (uN σ 7 2 k) := by
  obtain ⟨h1, h2, h3, h4, h5, h6, h7⟩ := h
  exact ⟨h1, h2, h3, Nat.le_trans hk h4, h5, fun x hx => h6 x (Nat.lt_of_lt_of_le hx hk), h7⟩
theorem mRep_back {σ : ASt} {τ : Nat → Nat → Int32} (h : mRep σ τ) {k : Nat} (hk : k ≤ aR σ) : mRep (uN σ 7 2 k) (put2 τ 19 0 (nI k)) :=
  ⟨aOk_back h.1 hk, h.2.1, h.2.2.1, h.2.2.2.1, h.2.2.2.2.1, h.2.2.2.2.2.1, h.2.2.2.2.2.2.1, h.2.2.2.2.2.2.2.1, ⟨rfl, fun x hx => h.rd.2 x (Nat.lt_of_lt_of_le hx hk)⟩, h.2.2.2.2.2.2.2.2.2⟩
theorem mEat_stay {τ : Nat → Nat → Int32} {n : Nat} {E : Nat → Nat → Nat} (h : mEat τ n E) (a : Nat) {v : Nat} (hv : v < 6) : mEat (put2 τ 6 a (nI v)) n (upN E 1 a v) := by
  refine ⟨h.1, h.2.1, fun b hb => ?_⟩
  obtain ⟨q1, q2, q3, q4⟩ := h.2.2 b hb
  refine ⟨q1, ?_, q3, q4⟩
  show upd (τ 6) a (nI v) b = nI (if b = a then v else E 1 b) ∧ (if b = a then v else E 1 b) < 6
  unfold upd
  split
  · exact ⟨rfl, hv⟩
  · exact q2
theorem mEat_kind {τ : Nat → Nat → Int32} {n : Nat} {E : Nat → Nat → Nat} (h : mEat τ n E) (a : Nat) {v : Nat} (hv : v < 3) : mEat (put2 τ 5 a (nI v)) n (upN E 0 a v) := by
  refine ⟨h.1, h.2.1, fun b hb => ?_⟩
  obtain ⟨q1, q2, q3, q4⟩ := h.2.2 b hb
  refine ⟨?_, q2, q3, q4⟩
  show upd (τ 5) a (nI v) b = nI (if b = a then v else E 0 b) ∧ (if b = a then v else E 0 b) < 3
  unfold upd
  split
  · exact ⟨rfl, hv⟩
  · exact q1
theorem aOk_reading {σ : ASt} (h : aOk σ) {x z y : Nat} {b : Bool} (hx : x < aE σ) (hz : z < 2 ^ aD σ) (hy : y < aD σ) (hr : aR σ ≠ 8) : aOk (uN (uB (uN (uN (uN σ 4 (aR σ) x) 5 (aR σ) z) 6 (aR σ) y) (aR σ) b) 7 2 (aR σ + 1)) := by
  obtain ⟨h1, h2, h3, h4, h5, h6, h7⟩ := h
  refine ⟨h1, h2, h3, show aR σ + 1 ≤ 8 by omega, h5, fun k hk => ?_, h7⟩
  have hk : k < aR σ + 1 := hk
  show (if k = aR σ then x else aN σ 4 k) < aE σ ∧ (if k = aR σ then z else aN σ 5 k) < 2 ^ aD σ ∧ (if k = aR σ then y else aN σ 6 k) < aD σ
  split
  · exact ⟨hx, hz, hy⟩
  · exact h6 k (by omega)
theorem mRep_reading {σ : ASt} {τ : Nat → Nat → Int32} (h : mRep σ τ) {x z y : Nat} {b : Bool} (hx : x < aE σ) (hz : z < 2 ^ aD σ) (hy : y < aD σ) (hr : aR σ ≠ 8) : mRep (uN (uB (uN (uN (uN σ 4 (aR σ) x) 5 (aR σ) z) 6 (aR σ) y) (aR σ) b) 7 2 (aR σ + 1)) (put2 (put2 (put2 (put2 (put2 τ 20 (aR σ) (nI x)) 21 (aR σ) (nI z)) 22 (aR σ) (nI y)) 23 (aR σ) (bI b)) 19 0 (nI (aR σ + 1))) := by
  refine ⟨aOk_reading h.1 hx hz hy hr, h.2.1, h.2.2.1, h.2.2.2.1, h.2.2.2.2.1, h.2.2.2.2.2.1, h.2.2.2.2.2.2.1, h.2.2.2.2.2.2.2.1, ⟨rfl, fun k hk => ?_⟩, h.2.2.2.2.2.2.2.2.2⟩
  have hk : k < aR σ + 1 := hk
  show upd (τ 20) (aR σ) (nI x) k = nI (if k = aR σ then x else aN σ 4 k) ∧ upd (τ 21) (aR σ) (nI z) k = nI (if k = aR σ then z else aN σ 5 k) ∧ upd (τ 22) (aR σ) (nI y) k = nI (if k = aR σ then y else aN σ 6 k) ∧ upd (τ 23) (aR σ) (bI b) k = bI (if k = aR σ then b else aB σ k)
  unfold upd
  split
  · exact ⟨rfl, rfl, rfl, rfl⟩
  · exact h.rd.2 k (by omega)
theorem set_step {p : Nat → Bool} {k : Nat} (hk : k < 16) : nI (setN p k) ||| (if p k = false then (0 : Int32) else (1 : Int32) <<< (nI k &&& 31)) = nI (setN p (k + 1)) := by
  simp only [setN]
  rw [← nx_or]
  congr 1
  split
  · rfl
  · exact shl1 k hk
theorem mRep_tr {σ : ASt} {τ : Nat → Nat → Int32} (h : mRep σ τ) (k : Int32) : mRep (tr σ k) (put2 τ 28 0 (31 * τ 28 0 + k)) := by
  rw [h.trace]; exact mRep_trace h _
theorem k3 {k : Nat} (h : k < 3) : k = 0 ∨ k = 1 ∨ k = 2 := by omega
theorem fN_bit (looks : Nat → Int32) (sour no : Int32) (k j : Nat) : (fN looks sour no k).testBit j = decide (j < k ∧ ¬ looks j < sour ∧ ¬ nI j = no) := by
  induction k with
  | zero => simp [fN]
  | succ k ih =>
    simp only [fN]
    rw [Nat.testBit_or, ih]
    by_cases h1 : looks k < sour
    · rw [if_pos h1, Nat.zero_testBit, Bool.or_false]
      apply decide_eq_decide.mpr
      constructor
      · rintro ⟨a, b, c⟩; exact ⟨by omega, b, c⟩
      · rintro ⟨a, b, c⟩
        have : j ≠ k := fun e => b (by rw [e]; exact h1)
        exact ⟨by omega, b, c⟩
    · rw [if_neg h1]
      by_cases h2 : nI k = no
      · rw [if_pos h2, Nat.zero_testBit, Bool.or_false]
        apply decide_eq_decide.mpr
        constructor
        · rintro ⟨a, b, c⟩; exact ⟨by omega, b, c⟩
        · rintro ⟨a, b, c⟩
          have : j ≠ k := fun e => c (by rw [e]; exact h2)
          exact ⟨by omega, b, c⟩
      · rw [if_neg h2, Nat.testBit_two_pow]
        by_cases e : k = j
        · subst e; simp [h1, h2]
        · simp only [e, decide_false, Bool.or_false]
          apply decide_eq_decide.mpr
          constructor
          · rintro ⟨a, b, c⟩; exact ⟨by omega, b, c⟩
          · rintro ⟨a, b, c⟩; exact ⟨by omega, b, c⟩
theorem msk_bit : ∀ d, d < 6 → ∀ j, j < 6 → (63 - 2 ^ d).testBit j = !(decide (j = d)) := by decide +kernel
theorem fN_clr {looks : Nat → Int32} {sour : Int32} {dd d : Nat} (hd : dd ≤ 6) (h : d < dd) : fN looks sour (nI d) dd = clr (fN looks sour (-9) dd) d := by
  apply Nat.eq_of_testBit_eq
  intro j
  unfold clr
  rw [Nat.testBit_and, fN_bit, fN_bit]
  by_cases hj : j < dd
  · rw [msk_bit d (by omega) j (by omega)]
    have n9 : ¬ nI j = -9 := fun e => by
      have := congrArg Int32.toInt e
      rw [nI_toInt (by omega)] at this
      have h9 : (-9 : Int32).toInt = -9 := by decide
      omega
    have ne : nI j = nI d ↔ j = d := nI_eq (by omega) (by omega)
    by_cases e : j = d
    · subst e; simp
    · simp [e, ne, n9]
  · simp [hj]
theorem vil_le {E : Nat → Nat → Nat} {dd F n : Nat} (h : ∀ a, a < n → E 2 a < 10) : ∀ x, vil E dd F n = some x → x ≤ 54 * n := by
  induction n with
  | zero => intro x hx; simp only [vil] at hx; injection hx with hx; omega
  | succ n ih =>
    intro x hx
    simp only [vil, vstep] at hx
    split at hx
    · cases hx
    · rename_i y hy
      split at hx
      · cases hx
      · rename_i b hb
        injection hx with hx
        have h1 := ih (fun a ha => h a (Nat.lt_succ_of_lt ha)) y hy
        have h2 : fin E dd F n b ≤ 54 := fin_lt (h n (Nat.lt_succ_self n))
        omega
theorem smi_lt {E : Nat → Nat → Nat} {dd n F : Nat} (h : ∀ a, a < n → E 2 a < 10) : ∀ d b, smi E dd n F d = some b → b.1 < d ∧ b.2 ≤ 54 * n := by
  intro d
  induction d with
  | zero => intro b hb; cases hb
  | succ d ih =>
    intro b hb
    simp only [smi, sstep] at hb
    split at hb
    · have := ih b hb; omega
    · split at hb
      · have := ih b hb; omega
      · rename_i x hx
        have hx := vil_le h x hx
        split at hb
        · injection hb with hb; rw [← hb]; exact ⟨Nat.lt_succ_self d, hx⟩
        · rename_i c hc
          split at hb
          · injection hb with hb; rw [← hb]; exact ⟨Nat.lt_succ_self d, hx⟩
          · injection hb with hb; rw [← hb]; have := ih c hc; omega
theorem smi_0 {E : Nat → Nat → Nat} {dd n F d : Nat} (h : F.testBit d = false) : smi E dd n F (d + 1) = smi E dd n F d := by
  simp only [smi, sstep]; rw [if_pos h]
theorem smi_1 {E : Nat → Nat → Nat} {dd n F d : Nat} (h : F.testBit d = true) (hv : vil E dd (clr F d) n = none) : smi E dd n F (d + 1) = smi E dd n F d := by
  simp only [smi, sstep]; rw [if_neg (bt_nf h), hv]
theorem smi_2 {E : Nat → Nat → Nat} {dd n F d x : Nat} (h : F.testBit d = true) (hv : vil E dd (clr F d) n = some x) (hs : smi E dd n F d = none) : smi E dd n F (d + 1) = some (d, x) := by
  simp only [smi, sstep]; rw [if_neg (bt_nf h), hv, hs]
theorem smi_3 {E : Nat → Nat → Nat} {dd n F d x : Nat} {b : Nat × Nat} (h : F.testBit d = true) (hv : vil E dd (clr F d) n = some x) (hs : smi E dd n F d = some b) (hx : x < b.2) : smi E dd n F (d + 1) = some (d, x) := by
  simp only [smi, sstep]; rw [if_neg (bt_nf h), hv, hs]; simp only []; rw [if_pos hx]
theorem smi_4 {E : Nat → Nat → Nat} {dd n F d x : Nat} {b : Nat × Nat} (h : F.testBit d = true) (hv : vil E dd (clr F d) n = some x) (hs : smi E dd n F d = some b) (hx : b.2 ≤ x) : smi E dd n F (d + 1) = some b := by
  simp only [smi, sstep]; rw [if_neg (bt_nf h), hv, hs]; simp only []; rw [if_neg (Nat.not_lt.mpr hx)]
