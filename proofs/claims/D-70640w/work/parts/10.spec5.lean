/-! a duchy as a text: what is read -/
def tok (r : Nat → Int32) (nn a : Nat) : Int32 := if a < nn then r a else -9
def dig (r : Nat → Int32) (nn a : Nat) (lo hi : Int32) : Bool := pIn (tok r nn a - 48).toInt64 lo.toInt64 hi.toInt64
/-- how many of the k signs from the fourth on are figures, up to the first that is none -/
def dcn (r : Nat → Int32) (nn : Nat) : Nat → Nat
  | 0 => 0
  | k + 1 => if dcn r nn k = k ∧ dig r nn (3 + k) 0 9 = true then k + 1 else dcn r nn k
theorem dcn_le (r : Nat → Int32) (nn k : Nat) : dcn r nn k ≤ k := by
  induction k with
  | zero => exact Nat.le_refl 0
  | succ k ih => simp only [dcn]; split <;> omega
theorem dcn_go {r : Nat → Int32} {nn k : Nat} (h : dcn r nn k = k) (hd : dig r nn (3 + k) 0 9 = true) : dcn r nn (k + 1) = k + 1 := by
  simp only [dcn]; rw [if_pos ⟨h, hd⟩]
theorem dcn_stop {r : Nat → Int32} {nn k : Nat} (h : dcn r nn k = k) (hd : dig r nn (3 + k) 0 9 = false) : ∀ j, k ≤ j → dcn r nn j = k := by
  intro j hj
  induction j with
  | zero => have := Nat.le_zero.mp hj; subst this; exact h
  | succ j ih =>
    rcases Nat.lt_or_ge j k with q | q
    · rw [show j + 1 = k by omega]; exact h
    · simp only [dcn]
      have hj := ih q
      rw [hj]
      by_cases e : k = j
      · subst e; rw [if_neg (by rw [hd]; simp)]
      · rw [if_neg (fun x => e x.1)]
theorem dcn_dig {r : Nat → Int32} {nn : Nat} : ∀ k i, i < dcn r nn k → dig r nn (3 + i) 0 9 = true := by
  intro k
  induction k with
  | zero => intro i hi; exact absurd hi (Nat.not_lt_zero i)
  | succ k ih =>
    intro i hi
    simp only [dcn] at hi
    split at hi
    · rename_i h
      rcases Nat.lt_or_ge i k with q | q
      · exact ih i (by rw [h.1]; exact q)
      · rw [show i = k by omega]; exact h.2
    · exact ih i hi
def kdc (t : Int32) : Nat := if t = 101 then 0 else if t = 115 then 1 else if t = 108 then 2 else 3
/-- how far an eater is read: 5, all of it -/
def eAt (r : Nat → Int32) (nn b : Nat) : Nat := if ¬ tok r nn b = 59 then 0 else if kdc (tok r nn (b + 1)) = 3 then 1 else if dig r nn (b + 2) 0 5 = false then 2 else if dig r nn (b + 3) 1 9 = false then 3 else if dig r nn (b + 4) 0 6 = false then 4 else 5
def eLp (r : Nat → Int32) (nn b : Nat) : Nat → Nat → Bool × Nat × Nat
  | 0, a => (false, a, b + 5 * a)
  | f + 1, a => if 0 < a ∧ nn ≤ b + 5 * a then (true, a, b + 5 * a) else if a = 4 then (false, a, b + 5 * a) else if eAt r nn (b + 5 * a) = 5 then eLp r nn b f (a + 1) else (false, a, b + 5 * a + eAt r nn (b + 5 * a))
/-- whether it is a duchy, of how many, and how far it was read -/
def prs (r : Nat → Int32) (nn : Nat) : Bool × Nat × Nat := if ¬ tok r nn 0 = 100 then (false, 0, 0) else if dig r nn 1 0 9 = false then (false, 0, 1) else if ¬ tok r nn 2 = 44 then (false, 0, 2) else if dcn r nn 6 = 0 then (false, 0, 3) else eLp r nn (3 + dcn r nn 6) 5 0
/-- the state that a duchy makes -/
def duc (σ : ASt) (r : Nat → Int32) (dd n : Nat) : ASt :=
  (upd (upd (aI σ) 0 0) 2 (r 1 - 48),
   (fun row col => if row = 0 then kdc (r (3 + dd + 5 * col + 1)) else if row = 1 then ix (r (3 + dd + 5 * col + 2) - 48) else if row = 2 then ix (r (3 + dd + 5 * col + 3) - 48) else if row = 3 then ix (r (3 + dd + 5 * col + 4) - 48) else if row = 7 then (if col = 0 then dd else if col = 1 then n else if col = 2 then 0 else aN σ 7 col) else aN σ row col),
   (fun i => r (3 + i) - 48), σ.2.2.2)
/-- what taking cells is refused with; 0: they may be -/
def bar (σ : ASt) (k la : Nat) (i n : Int32) : Nat := match aS σ k with
  | none => 1
  | some c => if ¬ c.1 = la then 2 else if n.toInt64 < 0 then 4 else if pBeyond i n.toInt64 (nI c.2.1) = true then 3 else 0
def txt (σ : ASt) (k i : Nat) : Nat → Int32 := match aS σ k with
  | none => fun _ => 0
  | some c => fun t => c.2.2 (i + t)
def f_duchy (σ : ASt) (k la i n : Int32) : Int32 × ASt := if isSh k = false then (-1, uI σ 0 0) else if isLn la = false then (-2, uI σ 0 0) else if ¬ bar σ (ix k) (ix la) i n = 0 then (-10 - nI (bar σ (ix k) (ix la) i n), uI σ 0 (nI (bar σ (ix k) (ix la) i n))) else if (prs (txt σ (ix k) (ix i)) (ix n)).1 = false then (-100 - nI (prs (txt σ (ix k) (ix i)) (ix n)).2.2, uI σ 0 0) else (nI (prs (txt σ (ix k) (ix i)) (ix n)).2.1, duc σ (txt σ (ix k) (ix i)) (dcn (txt σ (ix k) (ix i)) (ix n) 6) (prs (txt σ (ix k) (ix i)) (ix n)).2.1)
theorem bar_le (σ : ASt) (k la : Nat) (i n : Int32) : bar σ k la i n ≤ 4 := by
  unfold bar
  split
  · decide
  · split
    · decide
    · split
      · decide
      · split <;> decide
theorem bar_ok {σ : ASt} {k la : Nat} {i n : Int32} (hok : aOk σ) (h : bar σ k la i n = 0) : ∃ c a b, aS σ k = some c ∧ c.1 = la ∧ c.2.1 ≤ 60 ∧ i = nI a ∧ n = nI b ∧ a + b ≤ c.2.1 ∧ ∀ t, txt σ k a t = c.2.2 (a + t) := by
  unfold bar at h
  split at h
  · cases h
  · rename_i c hc
    have h60 := (hok.2.2.2.2.2.2 k c hc).2
    split at h
    · cases h
    · rename_i h1
      split at h
      · cases h
      · split at h
        · cases h
        · rename_i h3
          obtain ⟨a, b, e1, e2, e3⟩ := bey_ix h60 (by cases hq : pBeyond i n.toInt64 (nI c.2.1); rfl; exact absurd hq h3)
          exact ⟨c, a, b, hc, Decidable.byContradiction h1, h60, e1, e2, e3, fun t => by unfold txt; rw [hc]⟩
theorem bar_neg {b : Nat} (h : b ≤ 4) : ¬ 0 ≤ (-10 : Int32) - nI b := by
  have h5 : b = 0 ∨ b = 1 ∨ b = 2 ∨ b = 3 ∨ b = 4 := by omega
  rcases h5 with e | e | e | e | e <;> subst e <;> decide
theorem dig_ix {r : Nat → Int32} {nn a : Nat} {lo hi : Nat} (hl : lo < 100) (hh : hi < 100) (h : dig r nn a (nI lo) (nI hi) = true) : ∃ v, tok r nn a - 48 = nI v ∧ lo ≤ v ∧ v ≤ hi := by
  unfold dig at h
  simp only [pIn, Bool.and_eq_true, decide_eq_true_eq, i64_le] at h
  rw [nI_l (show lo < 2 ^ 31 by omega), nI_l (show hi < 2 ^ 31 by omega), lN_toInt (by omega), lN_toInt (by omega), Int32.toInt_toInt64] at h
  obtain ⟨v, hv, e⟩ := nI_of (x := tok r nn a - 48) (by rw [Int32.lt_iff_toInt_lt, Int32.toInt_zero]; omega)
  rw [e, nI_toInt hv] at h
  exact ⟨v, e, by omega, by omega⟩
theorem tok_none : ∀ lo hi : Int64, 0 ≤ lo → pIn ((-9 : Int32) - 48).toInt64 lo hi = false := fun lo hi h => pIn_f1 (by
  rw [i64_lt]; rw [i64_le] at h
  have e1 : ((-9 : Int32) - 48).toInt64.toInt = -57 := by decide
  have e2 : (0 : Int64).toInt = 0 := by decide
  omega)
theorem dig_lt {r : Nat → Int32} {nn a : Nat} {lo hi : Nat} (hl : lo < 100) (h : dig r nn a (nI lo) (nI hi) = true) : a < nn ∧ tok r nn a = r a := by
  by_cases e : a < nn
  · exact ⟨e, if_pos e⟩
  · unfold dig tok at h
    rw [if_neg e, tok_none _ _ (by rw [nI_l (show lo < 2 ^ 31 by omega), i64_le, lN_toInt (by omega)]; have e2 : (0 : Int64).toInt = 0 := by decide
                                   omega)] at h
    cases h
theorem tok_lt {r : Nat → Int32} {nn a : Nat} {x : Int32} (h : tok r nn a = x) (hx : ¬ x = -9) : a < nn ∧ r a = x := by
  unfold tok at h
  split at h
  · rename_i q; exact ⟨q, h⟩
  · exact absurd h.symm hx
/-- the Model's numbers while it reads: at, days, eaters so far; the rest is as it was -/
def mPr (τ τ1 : Nat → Nat → Int32) (r : Nat → Int32) (sv : Int32) (a dd ne : Nat) : Prop := (∀ k, k < 10 ∨ 18 < k → τ1 k = τ k) ∧ τ1 10 0 = nI a ∧ τ1 11 0 = sv ∧ τ1 12 0 = nI dd ∧ τ1 13 0 = nI ne ∧ (∀ i, i < dd → τ1 14 i = r (3 + i) - 48) ∧ ∀ j, j < ne → τ1 15 j = nI (kdc (r (3 + dd + 5 * j + 1))) ∧ τ1 16 j = r (3 + dd + 5 * j + 2) - 48 ∧ τ1 17 j = r (3 + dd + 5 * j + 3) - 48 ∧ τ1 18 j = r (3 + dd + 5 * j + 4) - 48
theorem mPr_at {τ τ1 : Nat → Nat → Int32} {r : Nat → Int32} {sv : Int32} {a dd ne : Nat} (h : mPr τ τ1 r sv a dd ne) (b : Nat) : mPr τ (put2 τ1 10 0 (nI b)) r sv b dd ne := by
  obtain ⟨h1, h2, h3⟩ := h
  refine ⟨fun k hk => ?_, rfl, h3⟩
  simp only [put2]; rw [if_neg (by omega)]; exact h1 k hk
theorem mPr_day {τ τ1 : Nat → Nat → Int32} {r : Nat → Int32} {sv : Int32} {a dd : Nat} (h : mPr τ τ1 r sv a dd 0) {x : Int32} (hx : x = r (3 + dd) - 48) : mPr τ (put2 (put2 τ1 14 dd x) 12 0 (nI (dd + 1))) r sv a (dd + 1) 0 := by
  subst hx
  obtain ⟨h1, h2, h3, h4, h5, h6, h7⟩ := h
  refine ⟨fun k hk => ?_, h2, h3, rfl, h5, fun i hi => ?_, fun j hj => absurd hj (Nat.not_lt_zero j)⟩
  · simp only [put2]; rw [if_neg (by omega), if_neg (by omega)]; exact h1 k hk
  · show upd (τ1 14) dd (r (3 + dd) - 48) i = _
    unfold upd
    by_cases e : i = dd
    · rw [if_pos e, e]
    · rw [if_neg e]; exact h6 i (by omega)
theorem mPr_eat {τ τ1 : Nat → Nat → Int32} {r : Nat → Int32} {sv : Int32} {a dd ne : Nat} (h : mPr τ τ1 r sv a dd ne) {k s p n : Int32} (hk : k = nI (kdc (r (3 + dd + 5 * ne + 1)))) (hs : s = r (3 + dd + 5 * ne + 2) - 48) (hp : p = r (3 + dd + 5 * ne + 3) - 48) (hn : n = r (3 + dd + 5 * ne + 4) - 48) : mPr τ (put2 (put2 (put2 (put2 (put2 τ1 15 ne k) 16 ne s) 17 ne p) 18 ne n) 13 0 (nI (ne + 1))) r sv a dd (ne + 1) := by
  obtain ⟨h1, h2, h3, h4, h5, h6, h7⟩ := h
  refine ⟨fun k hk => ?_, h2, h3, h4, rfl, h6, fun j hj => ?_⟩
  · simp only [put2]; rw [if_neg (by omega), if_neg (by omega), if_neg (by omega), if_neg (by omega), if_neg (by omega)]; exact h1 k hk
  · show upd (τ1 15) ne k j = _ ∧ upd (τ1 16) ne s j = _ ∧ upd (τ1 17) ne p j = _ ∧ upd (τ1 18) ne n j = _
    unfold upd
    by_cases e : j = ne
    · subst e; rw [if_pos rfl, if_pos rfl, if_pos rfl, if_pos rfl]; exact ⟨hk, hs, hp, hn⟩
    · rw [if_neg e, if_neg e, if_neg e, if_neg e]; exact h7 j (by omega)
theorem nI_le0 {a : Nat} (h : a < 2 ^ 31) (c : nI a ≤ 0) : ¬ 0 < a := by
  rw [← nI_0, nI_leI h (by decide)] at c; omega
theorem nI_gt0 {a : Nat} (h : a < 2 ^ 31) (c : ¬ nI a ≤ 0) : 0 < a := by
  rw [← nI_0, nI_leI h (by decide)] at c; omega
def exE (r : Nat → Int32) (nn b ne : Nat) : Nat := if ne = 4 then 0 else eAt r nn b
theorem eAt_0 {r : Nat → Int32} {nn b ne : Nat} (h1 : ¬ ne = 4) (h : ¬ tok r nn b = 59) : exE r nn b ne = 0 := by rw [exE, if_neg h1, eAt, if_pos h]
theorem eAt_1 {r : Nat → Int32} {nn b ne : Nat} (h1 : ¬ ne = 4) (h : tok r nn b = 59) (h2 : kdc (tok r nn (b + 1)) = 3) : exE r nn b ne = 1 := by rw [exE, if_neg h1, eAt, if_neg (fun q => q h), if_pos h2]
theorem eAt_2 {r : Nat → Int32} {nn b ne : Nat} (h1 : ¬ ne = 4) (h : tok r nn b = 59) (h2 : ¬ kdc (tok r nn (b + 1)) = 3) (h3 : dig r nn (b + 2) 0 5 = false) : exE r nn b ne = 2 := by rw [exE, if_neg h1, eAt, if_neg (fun q => q h), if_neg h2, if_pos h3]
theorem eAt_3 {r : Nat → Int32} {nn b ne : Nat} (h1 : ¬ ne = 4) (h : tok r nn b = 59) (h2 : ¬ kdc (tok r nn (b + 1)) = 3) (h3 : dig r nn (b + 2) 0 5 = true) (h4 : dig r nn (b + 3) 1 9 = false) : exE r nn b ne = 3 := by rw [exE, if_neg h1, eAt, if_neg (fun q => q h), if_neg h2, if_neg (bt_nf h3), if_pos h4]
theorem eAt_4 {r : Nat → Int32} {nn b ne : Nat} (h1 : ¬ ne = 4) (h : tok r nn b = 59) (h2 : ¬ kdc (tok r nn (b + 1)) = 3) (h3 : dig r nn (b + 2) 0 5 = true) (h4 : dig r nn (b + 3) 1 9 = true) (h5 : dig r nn (b + 4) 0 6 = false) : exE r nn b ne = 4 := by rw [exE, if_neg h1, eAt, if_neg (fun q => q h), if_neg h2, if_neg (bt_nf h3), if_neg (bt_nf h4), if_pos h5]
theorem eAt_5 {r : Nat → Int32} {nn b ne : Nat} (h1 : ¬ ne = 4) (h : tok r nn b = 59) (h2 : ¬ kdc (tok r nn (b + 1)) = 3) (h3 : dig r nn (b + 2) 0 5 = true) (h4 : dig r nn (b + 3) 1 9 = true) (h5 : dig r nn (b + 4) 0 6 = true) : exE r nn b ne = 5 := by rw [exE, if_neg h1, eAt, if_neg (fun q => q h), if_neg h2, if_neg (bt_nf h3), if_neg (bt_nf h4), if_neg (bt_nf h5)]
theorem kdc_3 {t : Int32} (h1 : ¬ t = 101) (h2 : ¬ t = 115) (h3 : ¬ t = 108) : kdc t = 3 := by rw [kdc, if_neg h1, if_neg h2, if_neg h3]
/-- behind a reading: what isn't of the reading is as it was; how far; and, if it was a duchy, what was read -/
def mPq (τ τ2 : Nat → Nat → Int32) (r : Nat → Int32) (nn : Nat) : Prop := (∀ k, k < 10 ∨ 18 < k → τ2 k = τ k) ∧ τ2 10 0 = nI (prs r nn).2.2 ∧ ((prs r nn).1 = true → mPr τ τ2 r (r 1 - 48) (prs r nn).2.2 (dcn r nn 6) (prs r nn).2.1)
theorem mPr_0 (τ : Nat → Nat → Int32) (r : Nat → Int32) : mPr τ (put2 (put2 (put2 τ 10 0 (nI 0)) 12 0 (nI 0)) 13 0 (nI 0)) r (τ 11 0) 0 0 0 :=
  ⟨fun k hk => by simp only [put2]; rw [if_neg (by omega), if_neg (by omega), if_neg (by omega)], rfl, rfl, rfl, rfl, fun i hi => absurd hi (Nat.not_lt_zero i), fun i hi => absurd hi (Nat.not_lt_zero i)⟩
theorem mPr_sv {τ τ1 : Nat → Nat → Int32} {r : Nat → Int32} {sv : Int32} {a dd ne : Nat} (h : mPr τ τ1 r sv a dd ne) (v : Int32) : mPr τ (put2 τ1 11 0 v) r v a dd ne := by
  obtain ⟨h1, h2, h3, h4⟩ := h
  refine ⟨fun k hk => ?_, h2, rfl, h4⟩
  simp only [put2]; rw [if_neg (by omega)]; exact h1 k hk
theorem mPq_no {τ τ2 : Nat → Nat → Int32} {r : Nat → Int32} {nn : Nat} {sv : Int32} {a dd ne n : Nat} (h : mPr τ τ2 r sv a dd ne) (hp : prs r nn = (false, n, a)) : mPq τ τ2 r nn := by
  refine ⟨h.1, by rw [hp]; exact h.2.1, fun q => ?_⟩
  rw [hp] at q; cases q
theorem prs_0 {r : Nat → Int32} {nn : Nat} (h : ¬ tok r nn 0 = 100) : prs r nn = (false, 0, 0) := by rw [prs, if_pos h]
theorem prs_1 {r : Nat → Int32} {nn : Nat} (h : tok r nn 0 = 100) (h1 : dig r nn 1 0 9 = false) : prs r nn = (false, 0, 1) := by rw [prs, if_neg (fun q => q h), if_pos h1]
theorem prs_2 {r : Nat → Int32} {nn : Nat} (h : tok r nn 0 = 100) (h1 : dig r nn 1 0 9 = true) (h2 : ¬ tok r nn 2 = 44) : prs r nn = (false, 0, 2) := by rw [prs, if_neg (fun q => q h), if_neg (bt_nf h1), if_pos h2]
theorem prs_3 {r : Nat → Int32} {nn : Nat} (h : tok r nn 0 = 100) (h1 : dig r nn 1 0 9 = true) (h2 : tok r nn 2 = 44) (h3 : decide (0 < dcn r nn 6) = false) : dcn r nn 6 = 0 ∧ prs r nn = (false, 0, 3) := by
  have h4 : dcn r nn 6 = 0 := by have := of_decide_eq_false h3; omega
  exact ⟨h4, by rw [prs, if_neg (fun q => q h), if_neg (bt_nf h1), if_neg (fun q => q h2), if_pos h4]⟩
theorem prs_4 {r : Nat → Int32} {nn : Nat} (h : tok r nn 0 = 100) (h1 : dig r nn 1 0 9 = true) (h2 : tok r nn 2 = 44) (h3 : decide (0 < dcn r nn 6) = true) : prs r nn = eLp r nn (3 + dcn r nn 6) 5 0 := by
  have h4 : ¬ dcn r nn 6 = 0 := by have := of_decide_eq_true h3; omega
  rw [prs, if_neg (fun q => q h), if_neg (bt_nf h1), if_neg (fun q => q h2), if_neg h4]
theorem eLp_yes {r : Nat → Int32} {nn b f a : Nat} (h : ¬ a = 0) (h2 : nn ≤ b + 5 * a) : eLp r nn b (f + 1) a = (true, a, b + 5 * a) := by
  simp only [eLp]; rw [if_pos ⟨by omega, h2⟩]
theorem eLp_go {r : Nat → Int32} {nn b f a : Nat} (h : a = 0 ∨ b + 5 * a < nn) (h2 : exE r nn (b + 5 * a) a = 5) : eLp r nn b (f + 1) a = eLp r nn b f (a + 1) ∧ ¬ a = 4 := by
  unfold exE at h2
  split at h2
  · cases h2
  · rename_i h4
    refine ⟨?_, h4⟩
    simp only [eLp]; rw [if_neg (by omega), if_neg h4, if_pos h2]
theorem eLp_no {r : Nat → Int32} {nn b f a : Nat} (h : a = 0 ∨ b + 5 * a < nn) (h2 : ¬ exE r nn (b + 5 * a) a = 5) : eLp r nn b (f + 1) a = (false, a, b + 5 * a + exE r nn (b + 5 * a) a) := by
  unfold exE at h2 ⊢
  simp only [eLp]; rw [if_neg (by omega)]
  split at h2
  · rename_i h4; rw [if_pos h4, if_pos h4]; rfl
  · rename_i h4; rw [if_neg h4, if_neg h2, if_neg h4]
theorem mRep_read {σ : ASt} {τ τ2 : Nat → Nat → Int32} (h : mRep σ τ) (he : ∀ k, k < 10 ∨ 18 < k → τ2 k = τ k) : mRep σ τ2 := by
  obtain ⟨h1, h2, h3, h4, h5, h6, h7, h8, h9, h10⟩ := h
  refine ⟨h1, ?_, ?_, ?_, ?_, ?_, ?_, ?_, ?_, ?_⟩
  · rw [he 0 (by omega)]; exact h2
  · rw [he 28 (by omega)]; exact h3
  · rw [he 1 (by omega)]; exact h4
  · exact ⟨h5.1, by rw [he 2 (by omega)]; exact h5.2⟩
  · intro i hi; rw [he 3 (by omega)]; exact h6 i hi
  · refine ⟨h7.1, by rw [he 4 (by omega)]; exact h7.2.1, fun a ha => ?_⟩
    rw [he 5 (by omega), he 6 (by omega), he 7 (by omega), he 8 (by omega)]; exact h7.2.2 a ha
  · rw [he 9 (by omega)]; exact h8
  · refine ⟨by rw [he 19 (by omega)]; exact h9.1, fun a ha => ?_⟩
    rw [he 20 (by omega), he 21 (by omega), he 22 (by omega), he 23 (by omega)]; exact h9.2 a ha
  · intro k hk
    rw [he 24 (by omega), he 25 (by omega), he 26 (by omega)]; exact h10 k hk
theorem eLp_ok {r : Nat → Int32} {nn b : Nat} : ∀ f a, a + f = 5 → (∀ j, j < a → eAt r nn (b + 5 * j) = 5) → (eLp r nn b f a).1 = true → 0 < (eLp r nn b f a).2.1 ∧ (eLp r nn b f a).2.1 ≤ 4 ∧ ∀ j, j < (eLp r nn b f a).2.1 → eAt r nn (b + 5 * j) = 5 := by
  intro f
  induction f with
  | zero => intro a _ _ h; simp only [eLp] at h; cases h
  | succ f ih =>
    intro a ha hj h
    simp only [eLp] at h ⊢
    split at h
    · rename_i q; rw [if_pos q]; exact ⟨q.1, by simp only []; omega, hj⟩
    · rename_i q
      rw [if_neg q]
      split at h
      · cases h
      · rename_i q4
        rw [if_neg q4]
        split at h
        · rename_i q5
          rw [if_pos q5]
          refine ih (a + 1) (by omega) (fun j hj2 => ?_) h
          rcases Nat.lt_or_ge j a with x | x
          · exact hj j x
          · rw [show j = a by omega]; exact q5
        · cases h
theorem prs_ok {r : Nat → Int32} {nn : Nat} (h : (prs r nn).1 = true) : 0 < dcn r nn 6 ∧ 0 < (prs r nn).2.1 ∧ (prs r nn).2.1 ≤ 4 ∧ dig r nn 1 0 9 = true ∧ ∀ j, j < (prs r nn).2.1 → eAt r nn (3 + dcn r nn 6 + 5 * j) = 5 := by
  unfold prs at h ⊢
  split at h
  · cases h
  · rename_i q0
    rw [if_neg q0]
    split at h
    · cases h
    · rename_i q1
      rw [if_neg q1]
      split at h
      · cases h
      · rename_i q2
        rw [if_neg q2]
        split at h
        · cases h
        · rename_i q3
          rw [if_neg q3]
          obtain ⟨a1, a2, a3⟩ := eLp_ok 5 0 (by omega) (fun j hj => absurd hj (Nat.not_lt_zero j)) h
          exact ⟨by omega, a1, a2, by cases e : dig r nn 1 0 9; exact absurd e q1; rfl, a3⟩
theorem eAt_ok {r : Nat → Int32} {nn b : Nat} (h : eAt r nn b = 5) : kdc (r (b + 1)) < 3 ∧ (∃ v, v < 6 ∧ r (b + 2) - 48 = nI v) ∧ (∃ v, v < 10 ∧ r (b + 3) - 48 = nI v) ∧ ∃ v, v < 7 ∧ r (b + 4) - 48 = nI v := by
  unfold eAt at h
  split at h
  · cases h
  · split at h
    · cases h
    · rename_i q1
      split at h
      · cases h
      · rename_i q2
        split at h
        · cases h
        · rename_i q3
          split at h
          · cases h
          · rename_i q4
            have b2 : dig r nn (b + 2) 0 5 = true := by cases e : dig r nn (b + 2) 0 5; exact absurd e q2; rfl
            have b3 : dig r nn (b + 3) 1 9 = true := by cases e : dig r nn (b + 3) 1 9; exact absurd e q3; rfl
            have b4 : dig r nn (b + 4) 0 6 = true := by cases e : dig r nn (b + 4) 0 6; exact absurd e q4; rfl
            have k1 : tok r nn (b + 1) = r (b + 1) := by
              have h2 := dig_lt (lo := 0) (hi := 5) (by decide) b2
              unfold tok; rw [if_pos (by omega)]
            obtain ⟨v2, e2, -, l2⟩ := dig_ix (lo := 0) (hi := 5) (by decide) (by decide) b2
            obtain ⟨v3, e3, -, l3⟩ := dig_ix (lo := 1) (hi := 9) (by decide) (by decide) b3
            obtain ⟨v4, e4, -, l4⟩ := dig_ix (lo := 0) (hi := 6) (by decide) (by decide) b4
            rw [(dig_lt (lo := 0) (hi := 5) (by decide) b2).2] at e2
            rw [(dig_lt (lo := 1) (hi := 9) (by decide) b3).2] at e3
            rw [(dig_lt (lo := 0) (hi := 6) (by decide) b4).2] at e4
            refine ⟨?_, ⟨v2, by omega, e2⟩, ⟨v3, by omega, e3⟩, ⟨v4, by omega, e4⟩⟩
            rw [k1] at q1
            unfold kdc at q1 ⊢
            split
            · decide
            · split
              · decide
              · split
                · decide
                · rename_i z1 z2 z3; rw [if_neg z1, if_neg z2, if_neg z3] at q1; exact absurd rfl q1
theorem aOk_duc {σ : ASt} {r : Nat → Int32} {nn dd n : Nat} (h : aOk σ) (hd6 : dd ≤ 6) (hd0 : 0 < dd) (hn0 : 0 < n) (hn4 : n ≤ 4) (p5 : ∀ j, j < n → eAt r nn (3 + dd + 5 * j) = 5) : aOk (duc σ r dd n) := by
  obtain ⟨-, -, -, -, -, -, h7⟩ := h
  have hd : aD (duc σ r dd n) = dd := rfl
  have he : aE (duc σ r dd n) = n := rfl
  refine ⟨hd6, hn4, by rw [hd, he]; omega, Nat.zero_le 8, fun a ha => ?_, fun x hx => absurd hx (Nat.not_lt_zero x), h7⟩
  rw [he] at ha
  obtain ⟨k1, ⟨v2, l2, e2⟩, ⟨v3, l3, e3⟩, v4, l4, e4⟩ := eAt_ok (p5 a ha)
  show kdc (r (3 + dd + 5 * a + 1)) < 3 ∧ ix (r (3 + dd + 5 * a + 2) - 48) < 6 ∧ ix (r (3 + dd + 5 * a + 3) - 48) < 10 ∧ ix (r (3 + dd + 5 * a + 4) - 48) < 7
  rw [e2, e3, e4, ixn (by omega), ixn (by omega), ixn (by omega)]
  exact ⟨k1, l2, l3, l4⟩
/-- what the Model holds behind a duchy -/
theorem mRep_duc {σ : ASt} {τ τ2 τ5 : Nat → Nat → Int32} {r : Nat → Int32} {nn p dd n : Nat} (h : mRep σ τ) (hd6 : dd ≤ 6) (hd0 : 0 < dd) (hn0 : 0 < n) (hn4 : n ≤ 4) (p5 : ∀ j, j < n → eAt r nn (3 + dd + 5 * j) = 5) (hq : mPr τ τ2 r (r 1 - 48) p dd n) (e0 : τ5 0 0 = 0) (e28 : τ5 28 0 = τ2 28 0) (e1 : τ5 1 0 = τ2 11 0) (e2 : τ5 2 0 = τ2 12 0) (e4 : τ5 4 0 = τ2 13 0) (e9 : τ5 9 0 = τ2 9 0) (e19 : τ5 19 0 = 0)
    (e3 : ∀ i, i < dd → τ5 3 i = τ2 14 i) (ee : ∀ a, a < n → τ5 5 a = τ2 15 a ∧ τ5 6 a = τ2 16 a ∧ τ5 7 a = τ2 17 a ∧ τ5 8 a = τ2 18 a) (es : ∀ k, k = 24 ∨ k = 25 ∨ k = 26 → τ5 k = τ2 k) : mRep (duc σ r dd n) τ5 := by
  obtain ⟨q1, q2, q3, q4, q5, q6, q7⟩ := hq
  have hok := aOk_duc h.ok hd6 hd0 hn0 hn4 p5
  have hd : aD (duc σ r dd n) = dd := rfl
  have he : aE (duc σ r dd n) = n := rfl
  refine ⟨hok, e0, ?_, ?_, ⟨hok.1, ?_⟩, fun i hi => ?_, ⟨hn4, ?_, fun a ha => ?_⟩, ?_, ⟨?_, fun x hx => absurd hx (Nat.not_lt_zero x)⟩, fun k hk => ?_⟩
  · rw [e28, q1 28 (by omega)]; exact h.trace
  · rw [e1]; exact q3
  · rw [e2, hd]; exact q4
  · rw [hd] at hi; rw [e3 i hi]; exact q6 i hi
  · rw [e4, he]; exact q5
  · rw [he] at ha
    obtain ⟨a1, a2, a3, a4⟩ := ee a ha
    obtain ⟨b1, b2, b3, b4⟩ := q7 a ha
    obtain ⟨k1, ⟨v2, l2, x2⟩, ⟨v3, l3, x3⟩, v4, l4, x4⟩ := eAt_ok (p5 a ha)
    show (τ5 5 a = nI (kdc (r (3 + dd + 5 * a + 1))) ∧ kdc (r (3 + dd + 5 * a + 1)) < 3) ∧ (τ5 6 a = nI (ix (r (3 + dd + 5 * a + 2) - 48)) ∧ ix (r (3 + dd + 5 * a + 2) - 48) < 6) ∧ (τ5 7 a = nI (ix (r (3 + dd + 5 * a + 3) - 48)) ∧ ix (r (3 + dd + 5 * a + 3) - 48) < 10) ∧ (τ5 8 a = nI (ix (r (3 + dd + 5 * a + 4) - 48)) ∧ ix (r (3 + dd + 5 * a + 4) - 48) < 7)
    rw [a1, a2, a3, a4, b1, b2, b3, b4, x2, x3, x4, ixn (by omega), ixn (by omega), ixn (by omega)]
    exact ⟨⟨rfl, k1⟩, ⟨rfl, l2⟩, ⟨rfl, l3⟩, ⟨rfl, l4⟩⟩
  · rw [e9, q1 9 (by omega)]; exact h.no
  · exact e19
  · have h10 := h.sh k hk
    rw [es 24 (by omega), es 25 (by omega), es 26 (by omega), q1 24 (by omega), q1 25 (by omega), q1 26 (by omega)]
    exact h10
/-- the Model lays what was read: looks -/
def lkI (τb τ3 : Nat → Nat → Int32) (i : Nat) : Prop := (∀ k, ¬ k = 3 → τ3 k = τb k) ∧ ∀ t, t < i → τ3 3 t = τb 14 t
theorem lkI_step {τb τ3 : Nat → Nat → Int32} {i : Nat} (h : lkI τb τ3 i) : lkI τb (put2 τ3 3 i (τ3 14 i)) (i + 1) := by
  obtain ⟨h1, h2⟩ := h
  refine ⟨fun k hk => ?_, fun t ht => ?_⟩
  · simp only [put2]; rw [if_neg hk]; exact h1 k hk
  · show upd (τ3 3) i (τ3 14 i) t = _
    unfold upd
    by_cases e : t = i
    · rw [if_pos e, e, h1 14 (by decide)]
    · rw [if_neg e]; exact h2 t (by omega)
def ekI (τc τ4 : Nat → Nat → Int32) (i : Nat) : Prop := (∀ k, k < 5 ∨ 8 < k → τ4 k = τc k) ∧ ∀ t, t < i → τ4 5 t = τc 15 t ∧ τ4 6 t = τc 16 t ∧ τ4 7 t = τc 17 t ∧ τ4 8 t = τc 18 t
theorem ekI_step {τc τ4 : Nat → Nat → Int32} {i : Nat} (h : ekI τc τ4 i) {a b c e : Int32} (ha : a = τ4 15 i) (hb : b = τ4 16 i) (hc : c = τ4 17 i) (he : e = τ4 18 i) : ekI τc (put2 (put2 (put2 (put2 τ4 5 i a) 6 i b) 7 i c) 8 i e) (i + 1) := by
  obtain ⟨h1, h2⟩ := h
  refine ⟨fun k hk => ?_, fun t ht => ?_⟩
  · simp only [put2]; rw [if_neg (by omega), if_neg (by omega), if_neg (by omega), if_neg (by omega)]; exact h1 k hk
  · show upd (τ4 5) i a t = _ ∧ upd (τ4 6) i b t = _ ∧ upd (τ4 7) i c t = _ ∧ upd (τ4 8) i e t = _
    unfold upd
    by_cases q : t = i
    · subst q; rw [if_pos rfl, if_pos rfl, if_pos rfl, if_pos rfl, ha, hb, hc, he, h1 15 (by omega), h1 16 (by omega), h1 17 (by omega), h1 18 (by omega)]; exact ⟨rfl, rfl, rfl, rfl⟩
    · rw [if_neg q, if_neg q, if_neg q, if_neg q]; exact h2 t (by omega)
theorem mRep_duc2 {σ : ASt} {τ τ2 τb τ3 τ4 : Nat → Nat → Int32} {r : Nat → Int32} {nn p dd n : Nat} (h : mRep σ τ) (hd6 : dd ≤ 6) (hd0 : 0 < dd) (hn0 : 0 < n) (hn4 : n ≤ 4) (p5 : ∀ j, j < n → eAt r nn (3 + dd + 5 * j) = 5) (hq : mPr τ τ2 r (r 1 - 48) p dd n) (hb : τb = put2 (put2 (put2 τ2 1 0 (r 1 - 48)) 2 0 (nI dd)) 4 0 (nI n)) (hl : lkI τb τ3 dd) (hk : ekI τ3 τ4 n) : mRep (duc σ r dd n) (put2 (put2 τ4 19 0 (nI 0)) 0 0 0) := by
  have hx : ∀ k, k < 5 ∨ 8 < k → ¬ k = 3 → τ4 k = τb k := fun k h1 h2 => by rw [hk.1 k h1, hl.1 k h2]
  have hy : ∀ k, ¬ k = 1 → ¬ k = 2 → ¬ k = 4 → τb k = τ2 k := fun k h1 h2 h3 => by rw [hb]; simp only [put2]; rw [if_neg h3, if_neg h2, if_neg h1]
  refine mRep_duc (τ2 := τ2) h hd6 hd0 hn0 hn4 p5 hq rfl ?_ ?_ ?_ ?_ ?_ rfl (fun i hi => ?_) (fun a ha => ?_) (fun k hk2 => ?_)
  · show τ4 28 0 = _; rw [hx 28 (by omega) (by omega), hy 28 (by omega) (by omega) (by omega)]
  · show τ4 1 0 = _; rw [hx 1 (by omega) (by omega), hb, hq.2.2.1]; rfl
  · show τ4 2 0 = _; rw [hx 2 (by omega) (by omega), hb, hq.2.2.2.1]; rfl
  · show τ4 4 0 = _; rw [hx 4 (by omega) (by omega), hb, hq.2.2.2.2.1]; rfl
  · show τ4 9 0 = _; rw [hx 9 (by omega) (by omega), hy 9 (by omega) (by omega) (by omega)]
  · show τ4 3 i = _; rw [hk.1 3 (by omega), hl.2 i hi, hy 14 (by omega) (by omega) (by omega)]
  · obtain ⟨a1, a2, a3, a4⟩ := hk.2 a ha
    show τ4 5 a = _ ∧ τ4 6 a = _ ∧ τ4 7 a = _ ∧ τ4 8 a = _
    rw [a1, a2, a3, a4, hl.1 15 (by decide), hl.1 16 (by decide), hl.1 17 (by decide), hl.1 18 (by decide), hy 15 (by omega) (by omega) (by omega), hy 16 (by omega) (by omega) (by omega), hy 17 (by omega) (by omega) (by omega), hy 18 (by omega) (by omega) (by omega)]
    exact ⟨rfl, rfl, rfl, rfl⟩
  · show put2 (put2 τ4 19 0 (nI 0)) 0 0 0 k = _
    simp only [put2]; rw [if_neg (by omega), if_neg (by omega), hx k (by omega) (by omega), hy k (by omega) (by omega) (by omega)]
