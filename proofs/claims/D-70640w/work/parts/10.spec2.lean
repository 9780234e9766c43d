/-! what mRep gives -/
theorem mRep.ok {σ : ASt} {τ : Nat → Nat → Int32} (h : mRep σ τ) : aOk σ := h.1
theorem mRep.fault {σ : ASt} {τ : Nat → Nat → Int32} (h : mRep σ τ) : τ 0 0 = aI σ 0 := h.2.1
theorem mRep.trace {σ : ASt} {τ : Nat → Nat → Int32} (h : mRep σ τ) : τ 28 0 = aI σ 1 := h.2.2.1
theorem mRep.sour {σ : ASt} {τ : Nat → Nat → Int32} (h : mRep σ τ) : τ 1 0 = aI σ 2 := h.2.2.2.1
theorem mRep.day {σ : ASt} {τ : Nat → Nat → Int32} (h : mRep σ τ) : mDay τ (aD σ) := h.2.2.2.2.1
theorem mRep.look {σ : ASt} {τ : Nat → Nat → Int32} (h : mRep σ τ) : ∀ i, i < aD σ → τ 3 i = aL σ i := h.2.2.2.2.2.1
theorem mRep.eat {σ : ASt} {τ : Nat → Nat → Int32} (h : mRep σ τ) : mEat τ (aE σ) (aN σ) := h.2.2.2.2.2.2.1
theorem mRep.no {σ : ASt} {τ : Nat → Nat → Int32} (h : mRep σ τ) : τ 9 0 = -9 := h.2.2.2.2.2.2.2.1
theorem mRep.rd {σ : ASt} {τ : Nat → Nat → Int32} (h : mRep σ τ) : mRd τ (aR σ) (aN σ) (aB σ) := h.2.2.2.2.2.2.2.2.1
theorem mRep.sh {σ : ASt} {τ : Nat → Nat → Int32} (h : mRep σ τ) : mSh τ (aS σ) := h.2.2.2.2.2.2.2.2.2
theorem fN_congr {f g : Nat → Int32} {a b : Int32} {n : Nat} (h : ∀ i, i < n → f i = g i) : fN f a b n = fN g a b n := by
  induction n with
  | zero => rfl
  | succ n ih => simp only [fN]; rw [ih (fun i hi => h i (Nat.lt_succ_of_lt hi)), h n (Nat.lt_succ_self n)]
theorem mRep.fast {σ : ASt} {τ : Nat → Nat → Int32} (h : mRep σ τ) : fN (τ 3) (τ 1 0) (τ 9 0) (aD σ) = aF σ := by
  rw [h.sour, h.no, fN_congr h.look]; rfl
theorem mRep.isD {σ : ASt} {τ : Nat → Nat → Int32} (h : mRep σ τ) (x : Int32) : bI (!(pIn x.toInt64 0 ((τ 2 0).toInt64 - 1))) = bI (!(isD σ x)) := by rw [h.day.2]; rfl
theorem mRep.isE {σ : ASt} {τ : Nat → Nat → Int32} (h : mRep σ τ) (x : Int32) : bI (!(pIn x.toInt64 0 ((τ 4 0).toInt64 - 1))) = bI (!(isE σ x)) := by rw [h.eat.2.1]; rfl
theorem mRep.isT {σ : ASt} {τ : Nat → Nat → Int32} (h : mRep σ τ) (x : Int32) : bI (!(pIn x.toInt64 0 (((1 : Int32) <<< (τ 2 0 &&& 31)).toInt64 - 1))) = bI (!(isT σ x)) := by rw [h.day.2]; rfl
theorem isD_ix {σ : ASt} {x : Int32} (h : aOk σ) (hx : isD σ x = true) : ∃ j, j < aD σ ∧ x = nI j := pIn_ix (by have := h.1; omega) hx
theorem isE_ix {σ : ASt} {x : Int32} (h : aOk σ) (hx : isE σ x = true) : ∃ j, j < aE σ ∧ x = nI j := pIn_ix (by have := h.2.1; omega) hx
theorem isT_ix {σ : ASt} {x : Int32} (h : aOk σ) (hx : isT σ x = true) : ∃ j, j < 2 ^ aD σ ∧ x = nI j := by
  have h6 := h.1
  have h64 := pow6 h6
  unfold isT at hx
  rw [shl1 _ (by omega)] at hx
  exact pIn_ix (by omega) hx
theorem pIn_k {x : Int32} {K : Int64} {k : Nat} (hk : k < 2 ^ 31) (eK : K = lN k) (h : pIn x.toInt64 0 K = true) : ∃ j, j ≤ k ∧ x = nI j := by
  subst eK
  have e : lN k = (nI (k + 1)).toInt64 - 1 ∨ k + 1 = 2 ^ 31 := by
    rcases Nat.lt_or_ge (k + 1) (2 ^ 31) with q | q
    · left
      rw [nI_l q, ← lN_1]
      apply Int64.toInt_inj.1
      rw [Int64.add_sub_cancel]
    · right; omega
  simp only [pIn, Bool.and_eq_true, decide_eq_true_eq, i64_le] at h
  rw [lN_toInt hk] at h
  have e1 : x.toInt64.toInt = x.toInt := Int32.toInt_toInt64 x
  rw [e1] at h
  have h0 : (0 : Int64).toInt = 0 := by decide
  rw [h0] at h
  obtain ⟨j, hj, rfl⟩ := nI_of (x := x) (by rw [Int32.lt_iff_toInt_lt, Int32.toInt_zero]; omega)
  rw [nI_toInt hj] at h
  exact ⟨j, by omega, rfl⟩
theorem isG_ix {x : Int32} (h : isG x = true) : ∃ j, j ≤ 9 ∧ x = nI j := pIn_k (by decide) (by decide) h
theorem ixn {j : Nat} (h : j < 2 ^ 31) : ix (nI j) = j := nI_clamp h
section BN
variable {p : Program} {l : Launch} {e : Env} {R : Room} {s : State} {m : MethodId} {args : Array Value} {below : List Frame} {meth : Method} {c : Code} {H : Heap} {locs : List Loc} {cells slots : Nat} {Q : State → Prop}
variable {cc : ByteArray} {pc : Nat} {ls : Array Slot} {rest : List Value}
theorem bzn_eq (hexec : p.tables.exec = Jvm.exec) (hb : c.code = cc) {b : Bool} {off : Int} {tgt : Nat} (hdg : decode cc pc = .ok (.ifCond .eq off, 3)) (ht : (pc : Int) + off = (tgt : Int)) (kt : b = true → W p l e R s m args below meth c H locs cells slots Q (F0 m tgt ls rest)) (kf : b = false → W p l e R s m args below meth c H locs cells slots Q (F0 m (pc + 3) ls rest)) : W p l e R s m args below meth c H locs cells slots Q (F0 m pc ls (.int (bI (!b)) :: rest)) :=
  bz_eq hexec hb hdg ht (fun h => kt (by cases b <;> simp_all)) (fun h => kf (by cases b <;> simp_all))
theorem bzn_ne (hexec : p.tables.exec = Jvm.exec) (hb : c.code = cc) {b : Bool} {off : Int} {tgt : Nat} (hdg : decode cc pc = .ok (.ifCond .ne off, 3)) (ht : (pc : Int) + off = (tgt : Int)) (kt : b = false → W p l e R s m args below meth c H locs cells slots Q (F0 m tgt ls rest)) (kf : b = true → W p l e R s m args below meth c H locs cells slots Q (F0 m (pc + 3) ls rest)) : W p l e R s m args below meth c H locs cells slots Q (F0 m pc ls (.int (bI (!b)) :: rest)) :=
  bz_ne hexec hb hdg ht (fun h => kt (by cases b <;> simp_all)) (fun h => kf (by cases b <;> simp_all))
end BN
/-- the end of a call of the Model: its answer, and the state that it holds then -/
def mPost (d : Nat → ClassId) (q : Nat) (Aq : Nat → Nat) (r : Option Value) (σ' : ASt) : Option Value → va_W → Prop := fun v ws => v = r ∧ ∃ τ', ws = mw d q Aq τ' ∧ mRep σ' τ'
theorem tsw_out {x : Int32} {lo hi : Int} (h : ∀ k : Int, lo ≤ k → k ≤ hi → ¬ x = Int32.ofInt k) : x.toInt < lo ∨ hi < x.toInt := by
  rcases Int.lt_or_le x.toInt lo with q | q
  · exact Or.inl q
  · rcases Int.lt_or_le hi x.toInt with r | r
    · exact Or.inr r
    · exact absurd (Int32.ofInt_toInt x).symm (h _ q r)
section BZ
variable {p : Program} {l : Launch} {e : Env} {R : Room} {s : State} {m : MethodId} {args : Array Value} {below : List Frame} {meth : Method} {c : Code} {H : Heap} {locs : List Loc} {cells slots : Nat} {Q : State → Prop}
variable {cc : ByteArray} {pc : Nat} {ls : Array Slot} {rest : List Value}
theorem nI_z {a : Nat} (h : a < 2 ^ 31) : nI a = 0 ↔ a = 0 := by rw [← nI_0, nI_eq h (by decide)]
theorem nz_eq (hexec : p.tables.exec = Jvm.exec) (hb : c.code = cc) {a : Nat} {off : Int} {tgt : Nat} (hdg : decode cc pc = .ok (.ifCond .eq off, 3)) (ht : (pc : Int) + off = (tgt : Int)) (ha : a < 2 ^ 31) (kt : a = 0 → W p l e R s m args below meth c H locs cells slots Q (F0 m tgt ls rest)) (kf : ¬ a = 0 → W p l e R s m args below meth c H locs cells slots Q (F0 m (pc + 3) ls rest)) : W p l e R s m args below meth c H locs cells slots Q (F0 m pc ls (.int (nI a) :: rest)) :=
  lv_if_eq hexec hb hdg ht (fun h => kt ((nI_z ha).mp h)) (fun h => kf (fun q => h ((nI_z ha).mpr q)))
theorem nz_ne (hexec : p.tables.exec = Jvm.exec) (hb : c.code = cc) {a : Nat} {off : Int} {tgt : Nat} (hdg : decode cc pc = .ok (.ifCond .ne off, 3)) (ht : (pc : Int) + off = (tgt : Int)) (ha : a < 2 ^ 31) (kt : ¬ a = 0 → W p l e R s m args below meth c H locs cells slots Q (F0 m tgt ls rest)) (kf : a = 0 → W p l e R s m args below meth c H locs cells slots Q (F0 m (pc + 3) ls rest)) : W p l e R s m args below meth c H locs cells slots Q (F0 m pc ls (.int (nI a) :: rest)) :=
  lv_if_ne hexec hb hdg ht (fun h => kt (fun q => h ((nI_z ha).mpr q))) (fun h => kf ((nI_z ha).mp h))
end BZ
theorem so_step {E V : Nat → Nat → Nat} {B : Nat → Bool} {dd F i : Nat} (hf : fou E dd F (V 4 i) (V 5 i) < 64) (h6 : V 6 i < 16) : (if soN E V B dd F i = false then (0 : Int32) else (if ¬ bI (pBit (nI (fou E dd F (V 4 i) (V 5 i))) (nI (V 6 i))) = bI (B i) then (0 : Int32) else (1 : Int32))) = bI (soN E V B dd F (i + 1)) := by
  rw [pBit_nI _ hf _ h6]
  simp only [soN]
  cases soN E V B dd F i <;> cases (fou E dd F (V 4 i) (V 5 i)).testBit (V 6 i) <;> cases B i <;> decide
theorem cntN_le (y : Nat) (k : Nat) : cntN y k ≤ k := by
  induction k with
  | zero => exact Nat.le_refl 0
  | succ k ih => simp only [cntN]; split <;> omega
theorem cnt_step {y k : Nat} : lN (cntN y k) + (if ¬ (y &&& k) = 0 then (0 : Int64) else (1 : Int64)) = lN (cntN y (k + 1)) := by
  simp only [cntN]
  by_cases h : (y &&& k) = 0
  · rw [if_neg (fun q => q h), if_pos h]; exact lN_1 _
  · rw [if_pos h, if_neg h]; exact Int64.add_zero _
theorem lshl1 : ∀ k, k < 16 → (1 : Int64) <<< ((nI k).toInt64 &&& 63) = lN (2 ^ k) := by decide +kernel
