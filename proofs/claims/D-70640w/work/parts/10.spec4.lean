/-! sheets: what each call answers and does -/
abbrev isSh (k : Int32) : Bool := pIn k.toInt64 0 3
abbrev isLn (x : Int32) : Bool := pIn x.toInt64 0 2
def nrw (la : Nat) (v : Int32) : Int32 := if la = 0 then v.toInt8.toInt32 else if la = 1 then v.toInt16.toInt32 else v
abbrev isC (c : Nat × Nat × (Nat → Int32)) (i : Int32) : Bool := pIn i.toInt64 0 ((nI c.2.1).toInt64 - 1)
def f_sheet (σ : ASt) (k la n : Int32) : Int32 × ASt := if isSh k = false then (-1, uI σ 0 0) else if isLn la = false then (-2, uI σ 0 0) else if 60 < n then (-2, uI σ 0 0) else if n < 0 then (-14, uI σ 0 4) else (1, uI (uS σ (ix k) (some (ix la, ix n, fun _ => 0))) 0 0)
def f_lose (σ : ASt) (k : Int32) : Int32 × ASt := if isSh k = false then (-1, σ) else match aS σ (ix k) with
  | none => (0, uS σ (ix k) none)
  | some _ => (1, uS σ (ix k) none)
def f_put (σ : ASt) (k i v : Int32) : Int32 × ASt := if isSh k = false then (-1, uI σ 0 0) else match aS σ (ix k) with
  | none => (-11, uI σ 0 1)
  | some c => if isC c i = false then (-13, uI σ 0 3) else (1, uI (uS σ (ix k) (some (c.1, c.2.1, upd c.2.2 (ix i) (nrw c.1 v)))) 0 0)
def f_cell (σ : ASt) (k i la : Int32) : Int64 × ASt := if isSh k = false then (LOSTv, uI σ 0 0) else if isLn la = false then (LOSTv, uI σ 0 0) else match aS σ (ix k) with
  | none => (LOSTv, uI σ 0 1)
  | some c => if ¬ c.1 = ix la then (LOSTv, uI σ 0 2) else if isC c i = false then (LOSTv, uI σ 0 3) else ((c.2.2 (ix i)).toInt64, uI σ 0 0)
def f_copy (σ : ASt) (k i o j n : Int32) : Int32 × ASt := if isSh k = false then (-1, uI σ 0 0) else if isSh o = false then (-1, uI σ 0 0) else match aS σ (ix k) with
  | none => (-11, uI σ 0 1)
  | some a => match aS σ (ix o) with
    | none => (-11, uI σ 0 1)
    | some b => if ¬ a.1 = b.1 then (-12, uI σ 0 2) else if pBeyond i n.toInt64 (nI a.2.1) = true then (-13, uI σ 0 3) else if pBeyond j n.toInt64 (nI b.2.1) = true then (-13, uI σ 0 3) else (n, uI (uS σ (ix o) (some (b.1, b.2.1, va_cpy a.2.2 b.2.2 (ix i) (ix j) (ix n)))) 0 0)
theorem mSh_at {τ : Nat → Nat → Int32} {S : Nat → Option (Nat × Nat × (Nat → Int32))} (h : mSh τ S) {k : Nat} (hk : k < 4) : (S k = none ∧ τ 24 k = -1) ∨ ∃ v, S k = some v ∧ τ 24 k = nI v.2.1 ∧ τ 25 k = nI v.1 ∧ ∀ i, i < v.2.1 → τ 26 (60 * k + i) = v.2.2 i := by
  have h1 := h k hk
  cases hs : S k with
  | none => rw [hs] at h1; exact Or.inl ⟨rfl, h1⟩
  | some v => rw [hs] at h1; exact Or.inr ⟨v, rfl, h1⟩
/-- one sheet is another, the others are as they were -/
theorem mSh_set {τ τ' : Nat → Nat → Int32} {S : Nat → Option (Nat × Nat × (Nat → Int32))} (h : mSh τ S) {k : Nat} (hs : ∀ j v, S j = some v → v.2.1 ≤ 60) (ho : ∀ j, j < 4 → j ≠ k → τ' 24 j = τ 24 j ∧ τ' 25 j = τ 25 j ∧ ∀ i, i < 60 → τ' 26 (60 * j + i) = τ 26 (60 * j + i)) {x : Option (Nat × Nat × (Nat → Int32))}
    (hx : match x with | none => τ' 24 k = -1 | some v => τ' 24 k = nI v.2.1 ∧ τ' 25 k = nI v.1 ∧ ∀ i, i < v.2.1 → τ' 26 (60 * k + i) = v.2.2 i) : mSh τ' (fun j => if j = k then x else S j) := by
  intro j hj
  by_cases e : j = k
  · subst e; simp only [if_true]; exact hx
  · simp only [if_neg e]
    have h1 := h j hj
    obtain ⟨o1, o2, o3⟩ := ho j hj e
    cases hq : S j with
    | none => rw [hq] at h1; simp only [] at h1 ⊢; rw [o1]; exact h1
    | some v =>
      rw [hq] at h1
      simp only [] at h1 ⊢
      have h60 := hs j v hq
      refine ⟨by rw [o1]; exact h1.1, by rw [o2]; exact h1.2.1, fun i hi => ?_⟩
      rw [o3 i (by omega)]; exact h1.2.2 i hi
theorem aOk_sh {σ : ASt} (h : aOk σ) (k : Nat) {x : Option (Nat × Nat × (Nat → Int32))} (hx : ∀ v, x = some v → v.1 < 3 ∧ v.2.1 ≤ 60) : aOk (uS σ k x) := by
  obtain ⟨h1, h2, h3, h4, h5, h6, h7⟩ := h
  refine ⟨h1, h2, h3, h4, h5, h6, fun j v hv => ?_⟩
  have hv : (if j = k then x else aS σ j) = some v := hv
  split at hv
  · exact hx v hv
  · exact h7 j v hv
/-- the Model's numbers but those of the sheets are as they were -/
theorem mRep_sh {σ : ASt} {τ τ' : Nat → Nat → Int32} (h : mRep σ τ) (k : Nat) {x : Option (Nat × Nat × (Nat → Int32))} (hx : ∀ v, x = some v → v.1 < 3 ∧ v.2.1 ≤ 60) (he : ∀ r, r < 24 ∨ r = 28 → τ' r = τ r) (hs : mSh τ' (fun j => if j = k then x else aS σ j)) : mRep (uS σ k x) τ' := by
  obtain ⟨h1, h2, h3, h4, h5, h6, h7, h8, h9, h10⟩ := h
  refine ⟨aOk_sh h1 k hx, ?_, ?_, ?_, ?_, ?_, ?_, ?_, ?_, hs⟩
  · rw [he 0 (by omega)]; exact h2
  · rw [he 28 (by omega)]; exact h3
  · rw [he 1 (by omega)]; exact h4
  · exact ⟨h5.1, by rw [he 2 (by omega)]; exact h5.2⟩
  · intro i hi; rw [he 3 (by omega)]; exact h6 i hi
  · refine ⟨h7.1, by rw [he 4 (by omega)]; exact h7.2.1, fun a ha => ?_⟩
    rw [he 5 (by omega), he 6 (by omega), he 7 (by omega), he 8 (by omega)]; exact h7.2.2 a ha
  · rw [he 9 (by omega)]; exact h8
  · refine ⟨by rw [he 19 (by omega)]; exact h9.1, fun a ha => ?_⟩
    rw [he 20 (by omega), he 21 (by omega), he 22 (by omega), he 23 (by omega)]; exact h9.2 a ha
theorem pIn_le {x : Int32} {n : Nat} (hn : n < 2 ^ 31) : pIn x.toInt64 0 ((nI n).toInt64 - 1) = false → ¬ ∃ j, j < n ∧ x = nI j := fun h ⟨j, hj, e⟩ => by
  rw [e, pIn_nI hj hn] at h; cases h
def nocV (σ : ASt) (k : Nat) (i : Int32) : Int32 := match aS σ k with
  | none => 1
  | some c => if isC c i = false then 3 else 0
theorem nrw_step {la : Nat} {v : Int32} (h : la < 3) : (if ¬ la = 0 then (if ¬ nI la = 1 then v else v.toInt16.toInt32) else v.toInt8.toInt32) = nrw la v := by
  unfold nrw
  rcases k3 h with e | e | e
  · subst e; simp
  · subst e; simp [show nI 1 = 1 from rfl]
  · subst e; simp [show ¬ nI 2 = 1 from by decide]
theorem mRep_put {σ : ASt} {τ : Nat → Nat → Int32} (h : mRep σ τ) {k i : Nat} {c : Nat × Nat × (Nat → Int32)} (hk : k < 4) (hs : aS σ k = some c) (hi : i < c.2.1) (w : Int32) : mRep (uS σ k (some (c.1, c.2.1, upd c.2.2 i w))) (put2 τ 26 (60 * k + i) w) := by
  have hc := h.ok.2.2.2.2.2.2 k c hs
  have h1 := h.sh k hk
  rw [hs] at h1
  refine mRep_sh h k (fun v hv => by injection hv with hv; rw [← hv]; exact hc) (fun r hr => by simp only [put2]; rw [if_neg (by omega)]) (mSh_set (τ' := put2 τ 26 (60 * k + i) w) (x := some (c.1, c.2.1, upd c.2.2 i w)) h.sh (fun j v hv => (h.ok.2.2.2.2.2.2 j v hv).2) (fun j hj e => ⟨rfl, rfl, fun t ht => ?_⟩) ⟨h1.1, h1.2.1, fun t ht => ?_⟩)
  · show upd (τ 26) (60 * k + i) w (60 * j + t) = _
    unfold upd; rw [if_neg (by omega)]
  · show upd (τ 26) (60 * k + i) w (60 * k + t) = upd c.2.2 i w t
    unfold upd
    by_cases e : t = i
    · rw [if_pos (by omega), if_pos e]
    · rw [if_neg (by omega), if_neg e]; exact h1.2.2 t ht
theorem mRep_lose {σ : ASt} {τ : Nat → Nat → Int32} (h : mRep σ τ) {k : Nat} (hk : k < 4) : mRep (uS σ k none) (put2 τ 24 k (-1)) := by
  refine mRep_sh h k (fun v hv => by cases hv) (fun r hr => by simp only [put2]; rw [if_neg (by omega)]) (mSh_set (τ' := put2 τ 24 k (-1)) (x := none) h.sh (fun j v hv => (h.ok.2.2.2.2.2.2 j v hv).2) (fun j hj e => ⟨?_, rfl, fun t ht => rfl⟩) ?_)
  · show upd (τ 24) k (-1) j = _
    unfold upd; rw [if_neg e]
  · exact put2_eq τ 24 k (-1)
/-- a sheet laid: the loop that empties it -/
def shI (τ τ1 : Nat → Nat → Int32) (k la n i : Nat) : Prop := (∀ r, ¬ r = 26 → τ1 r = put2 (put2 τ 24 k (nI n)) 25 k (nI la) r) ∧ (∀ t, t < 60 * k ∨ 60 * k + 60 ≤ t → τ1 26 t = τ 26 t) ∧ ∀ t, t < i → τ1 26 (60 * k + t) = 0
theorem shI_step {τ τ1 : Nat → Nat → Int32} {k la n i : Nat} (h : shI τ τ1 k la n i) (hi : i < 60) : shI τ (put2 τ1 26 (60 * k + i) 0) k la n (i + 1) := by
  obtain ⟨h1, h2, h3⟩ := h
  refine ⟨fun r hr => ?_, fun t ht => ?_, fun t ht => ?_⟩
  · simp only [put2]; rw [if_neg hr]; exact h1 r hr
  · show upd (τ1 26) (60 * k + i) 0 t = _
    unfold upd; rw [if_neg (by omega)]; exact h2 t ht
  · show upd (τ1 26) (60 * k + i) 0 (60 * k + t) = 0
    unfold upd
    by_cases e : t = i
    · rw [if_pos (by omega)]
    · rw [if_neg (by omega)]; exact h3 t (by omega)
theorem mRep_sheet {σ : ASt} {τ τ1 : Nat → Nat → Int32} (h : mRep σ τ) {k la n : Nat} (hk : k < 4) (hl : la < 3) (hn : n ≤ 60) (hI : shI τ τ1 k la n n) : mRep (uS σ k (some (la, n, fun _ => 0))) τ1 := by
  obtain ⟨h1, h2, h3⟩ := hI
  refine mRep_sh h k (fun v hv => by injection hv with hv; rw [← hv]; exact ⟨hl, hn⟩) (fun r hr => ?_) (mSh_set (τ' := τ1) (x := some (la, n, fun _ => 0)) h.sh (fun j v hv => (h.ok.2.2.2.2.2.2 j v hv).2) (fun j hj e => ⟨?_, ?_, fun t ht => ?_⟩) ⟨?_, ?_, fun t ht => h3 t ht⟩)
  · rw [h1 r (by omega)]; simp only [put2]; rw [if_neg (by omega), if_neg (by omega)]
  · rw [h1 24 (by decide)]; show upd (τ 24) k (nI n) j = _; unfold upd; rw [if_neg e]
  · rw [h1 25 (by decide)]; show upd (τ 25) k (nI la) j = _; unfold upd; rw [if_neg e]
  · exact h2 _ (by omega)
  · rw [h1 24 (by decide)]; show upd (τ 24) k (nI n) k = _; unfold upd; rw [if_pos rfl]
  · rw [h1 25 (by decide)]; show upd (τ 25) k (nI la) k = _; unfold upd; rw [if_pos rfl]
theorem bey_ix {i : Int32} {n : Int32} {L : Nat} (hL : L ≤ 60) (h : pBeyond i n.toInt64 (nI L) = false) : ∃ a b, i = nI a ∧ n = nI b ∧ a + b ≤ L := by
  simp only [pBeyond, Bool.or_eq_false_iff, decide_eq_false_iff_not] at h
  obtain ⟨h1, h2, h3⟩ := h
  obtain ⟨a, ha, rfl⟩ := nI_of h1
  have e2 : n.toInt64.toInt = n.toInt := Int32.toInt_toInt64 n
  have hn : ¬ n < 0 := fun q => h2 (by rw [i64_lt, e2]; rw [Int32.lt_iff_toInt_lt, Int32.toInt_zero] at q; exact q)
  obtain ⟨b, hb, rfl⟩ := nI_of hn
  refine ⟨a, b, rfl, rfl, ?_⟩
  rw [nI_l ha, nI_l hb, nI_l (show L < 2 ^ 31 by omega), lN_add] at h3
  rw [i64_lt, lN_toInt (show L < 2 ^ 31 by omega)] at h3
  have e3 : (lN (a + b)).toInt = ((a + b : Nat) : Int) := pk_lT (by omega)
  rw [e3] at h3
  omega
def hnI (τ τ1 : Nat → Nat → Int32) (b i : Nat) : Prop := (∀ r, ¬ r = 27 → τ1 r = τ r) ∧ ∀ t, t < i → τ1 27 t = τ 26 (b + t)
theorem hnI_step {τ τ1 : Nat → Nat → Int32} {b i : Nat} (h : hnI τ τ1 b i) : hnI τ (put2 τ1 27 i (τ1 26 (b + i))) b (i + 1) := by
  obtain ⟨h1, h2⟩ := h
  refine ⟨fun r hr => ?_, fun t ht => ?_⟩
  · simp only [put2]; rw [if_neg hr]; exact h1 r hr
  · show upd (τ1 27) i (τ1 26 (b + i)) t = _
    unfold upd
    by_cases e : t = i
    · rw [if_pos e, h1 26 (by decide), e]
    · rw [if_neg e]; exact h2 t (by omega)
def cpI (τ τ1 : Nat → Nat → Int32) (b g n i : Nat) : Prop := (∀ r, ¬ r = 26 → ¬ r = 27 → τ1 r = τ r) ∧ (∀ t, t < n → τ1 27 t = τ 26 (b + t)) ∧ ∀ u, τ1 26 u = if g ≤ u ∧ u < g + i then τ 26 (b + (u - g)) else τ 26 u
theorem cpI_0 {τ τ1 : Nat → Nat → Int32} {b g n : Nat} (h : hnI τ τ1 b n) : cpI τ τ1 b g n 0 := ⟨fun r _ h2 => h.1 r h2, h.2, fun u => by rw [h.1 26 (by decide), if_neg (by omega)]⟩
theorem cpI_step {τ τ1 : Nat → Nat → Int32} {b g n i : Nat} (h : cpI τ τ1 b g n i) (hi : i < n) : cpI τ (put2 τ1 26 (g + i) (τ1 27 i)) b g n (i + 1) := by
  obtain ⟨h1, h2, h3⟩ := h
  refine ⟨fun r hr hr2 => ?_, h2, fun u => ?_⟩
  · simp only [put2]; rw [if_neg hr]; exact h1 r hr hr2
  · show upd (τ1 26) (g + i) (τ1 27 i) u = _
    unfold upd
    by_cases e : u = g + i
    · rw [if_pos e, h2 i hi, if_pos (by omega)]; congr 1; omega
    · rw [if_neg e, h3 u]
      by_cases q : g ≤ u ∧ u < g + i
      · rw [if_pos q, if_pos (by omega)]
      · rw [if_neg q, if_neg (by omega)]
theorem mRep_copy {σ : ASt} {τ τ1 : Nat → Nat → Int32} (h : mRep σ τ) {k o i j n : Nat} {a b : Nat × Nat × (Nat → Int32)} (hk : k < 4) (ho : o < 4) (ha : aS σ k = some a) (hb : aS σ o = some b) (hi : i + n ≤ a.2.1) (hj : j + n ≤ b.2.1) (hI : cpI τ τ1 (60 * k + i) (60 * o + j) n n) : mRep (uS σ o (some (b.1, b.2.1, va_cpy a.2.2 b.2.2 i j n))) τ1 := by
  obtain ⟨h1, h2, h3⟩ := hI
  have hc := h.ok.2.2.2.2.2.2 o b hb
  have hca := h.ok.2.2.2.2.2.2 k a ha
  have sa := h.sh k hk
  have sb := h.sh o ho
  rw [ha] at sa
  rw [hb] at sb
  refine mRep_sh h o (fun v hv => by injection hv with hv; rw [← hv]; exact hc) (fun r hr => h1 r (by omega) (by omega)) (mSh_set (τ' := τ1) (x := some (b.1, b.2.1, va_cpy a.2.2 b.2.2 i j n)) h.sh (fun j v hv => (h.ok.2.2.2.2.2.2 j v hv).2) (fun x hx e => ⟨?_, ?_, fun t ht => ?_⟩) ⟨?_, ?_, fun t ht => ?_⟩)
  · rw [h1 24 (by decide) (by decide)]
  · rw [h1 25 (by decide) (by decide)]
  · rw [h3, if_neg (by omega)]
  · rw [h1 24 (by decide) (by decide)]; exact sb.1
  · rw [h1 25 (by decide) (by decide)]; exact sb.2.1
  · have ht : t < b.2.1 := ht
    rw [h3]
    show _ = va_cpy a.2.2 b.2.2 i j n t
    unfold va_cpy
    by_cases q : j ≤ t ∧ t < j + n
    · rw [if_pos (by omega), if_pos q]
      rw [show 60 * k + i + (60 * o + t - (60 * o + j)) = 60 * k + (i + (t - j)) by omega]
      exact sa.2.2 _ (by omega)
    · rw [if_neg (by omega), if_neg q]; exact sb.2.2 t ht
