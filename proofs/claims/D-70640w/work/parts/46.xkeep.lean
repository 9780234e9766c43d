/-! stores that keep xRep -/
section XK
variable {d : Nat → ClassId} {B : Nat → Nat} {e0 : Nat} {σ : ASt} {τ : Nat → Nat → Int32} {ea : Nat} {hs : Nat → Option Nat} {ρ ρ' : va_W} {F : Nat → Nat} {x n : Nat} {E : Nat → Nat → Nat}
theorem xRep_fault (h : xRep d B e0 σ τ ea hs ρ F) (v : Int32) : xRep d B e0 (uI σ 0 v) (put2 τ 0 0 v) ea hs ρ F := ⟨h.1, rfl, h.2.2⟩
theorem xRep_trace (h : xRep d B e0 σ τ ea hs ρ F) (v : Int32) : xRep d B e0 (uI σ 1 v) (put2 τ 1 0 v) ea hs ρ F := ⟨h.1, h.2.1, rfl, h.2.2.2⟩
theorem xRep_sour (h : xRep d B e0 σ τ ea hs ρ F) (v : Int32) : xRep d B e0 (uI σ 2 v) (put2 τ 3 0 v) ea hs ρ F := ⟨h.1, h.2.1, h.2.2.1, rfl, h.2.2.2.2⟩
theorem xRep_tr (h : xRep d B e0 σ τ ea hs ρ F) (k : Int32) : xRep d B e0 (tr σ k) (put2 τ 1 0 (31 * τ 1 0 + k)) ea hs ρ F := by
  rw [h.trace]; exact xRep_trace h _
theorem xRep_look (h : xRep d B e0 σ τ ea hs ρ F) (j : Nat) (v : Int32) : xRep d B e0 (uL σ j v) (put2 τ 5 j v) ea hs ρ F := by
  refine ⟨h.1, h.2.1, h.2.2.1, h.2.2.2.1, h.2.2.2.2.1, ?_, h.2.2.2.2.2.2⟩
  intro i hi
  show upd (τ 5) j v i = upd (aL σ) j v i
  unfold upd
  split
  · rfl
  · exact h.look i hi
theorem xRep_back (h : xRep d B e0 σ τ ea hs ρ F) {k : Nat} (hk : k ≤ aR σ) : xRep d B e0 (uN σ 7 2 k) (put2 τ 14 0 (nI k)) ea hs ρ F :=
  ⟨aOk_back h.1 hk, h.2.1, h.2.2.1, h.2.2.2.1, h.2.2.2.2.1, h.2.2.2.2.2.1, h.2.2.2.2.2.2.1, h.2.2.2.2.2.2.2.1, h.2.2.2.2.2.2.2.2.1, ⟨rfl, fun x hx => h.rd.2 x (Nat.lt_of_lt_of_le hx hk)⟩, h.2.2.2.2.2.2.2.2.2.2⟩
theorem xRep_reading (h : xRep d B e0 σ τ ea hs ρ F) {x z y : Nat} {b : Bool} (hx : x < aE σ) (hz : z < 2 ^ aD σ) (hy : y < aD σ) (hr : aR σ ≠ 8) : xRep d B e0 (uN (uB (uN (uN (uN σ 4 (aR σ) x) 5 (aR σ) z) 6 (aR σ) y) (aR σ) b) 7 2 (aR σ + 1)) (put2 (put2 (put2 (put2 (put2 τ 15 (aR σ) (nI x)) 16 (aR σ) (nI z)) 17 (aR σ) (nI y)) 18 (aR σ) (bI b)) 14 0 (nI (aR σ + 1))) ea hs ρ F := by
  refine ⟨aOk_reading h.1 hx hz hy hr, h.2.1, h.2.2.1, h.2.2.2.1, h.2.2.2.2.1, h.2.2.2.2.2.1, h.2.2.2.2.2.2.1, h.2.2.2.2.2.2.2.1, h.2.2.2.2.2.2.2.2.1, ⟨rfl, fun k hk => ?_⟩, h.2.2.2.2.2.2.2.2.2.2⟩
  have hk : k < aR σ + 1 := hk
  show upd (τ 15) (aR σ) (nI x) k = nI (if k = aR σ then x else aN σ 4 k) ∧ upd (τ 16) (aR σ) (nI z) k = nI (if k = aR σ then z else aN σ 5 k) ∧ upd (τ 17) (aR σ) (nI y) k = nI (if k = aR σ then y else aN σ 6 k) ∧ upd (τ 18) (aR σ) (bI b) k = bI (if k = aR σ then b else aB σ k)
  unfold upd
  split
  · exact ⟨rfl, rfl, rfl, rfl⟩
  · exact h.rd.2 k (by omega)
/-- arrays are kept -/
def xMv (ρ ρ' : va_W) : Prop := ∀ (j fa : Nat) (y : ClassId × vp_A), ρ[j]? = some (fa, .inl y) → ρ'[j]? = some (fa, .inl y)
/-- all is kept -/
def xKp (ρ ρ' : va_W) : Prop := ∀ (j : Nat) (y : Nat × va_E), ρ[j]? = some y → ρ'[j]? = some y
theorem xMv.rf (ρ : va_W) : xMv ρ ρ := fun _ _ _ h => h
theorem xMv.tr {ρ1 ρ2 ρ3 : va_W} (h1 : xMv ρ1 ρ2) (h2 : xMv ρ2 ρ3) : xMv ρ1 ρ3 := fun j fa y h => h2 j fa y (h1 j fa y h)
theorem xKp.mv (h : xKp ρ ρ') : xMv ρ ρ' := fun j fa y hj => h j _ hj
theorem xKp.rf (ρ : va_W) : xKp ρ ρ := fun _ _ h => h
theorem xKp.tr {ρ1 ρ2 ρ3 : va_W} (h1 : xKp ρ1 ρ2) (h2 : xKp ρ2 ρ3) : xKp ρ1 ρ3 := fun j y h => h2 j y (h1 j y h)
theorem xKp.app (ρ z : va_W) : xKp ρ (ρ ++ z) := fun j y h => by
  have hl := (List.getElem?_eq_some_iff.mp h).1
  rw [List.getElem?_append_left hl]; exact h
theorem xLst.mv (h : xLst d ρ τ ea e0 n F) (hm : xMv ρ ρ') : xLst d ρ' τ ea e0 n F := by
  obtain ⟨h1, h2⟩ := h
  refine ⟨h1, h2.imp id ?_⟩
  rintro ⟨je, f, hj, hf⟩
  exact ⟨je, f, hm _ _ _ hj, hf⟩
theorem xSh.mv {S : Nat → Option (Nat × Nat × (Nat → Int32))} (h : xSh d ρ hs S) (hm : xMv ρ ρ') : xSh d ρ' hs S := by
  obtain ⟨h1, h2⟩ := h
  refine ⟨fun k hk => ?_, h2⟩
  have h3 := h1 k hk
  cases hS : S k with
  | none => rw [hS] at h3; exact h3
  | some v =>
    rw [hS] at h3
    obtain ⟨fa, j, f, a1, a2, a3⟩ := h3
    exact ⟨fa, j, f, a1, hm _ _ _ a2, a3⟩
theorem xEat.kp (h : xEat ρ x τ n E F) (hk : xKp ρ ρ') : xEat ρ' x τ n E F := by
  refine ⟨h.1, fun a ha => ?_⟩
  obtain ⟨j, kd, hj, h2⟩ := h.2 a ha
  exact ⟨j, kd, hk _ _ hj, h2⟩
theorem xRep.kp (h : xRep d B e0 σ τ ea hs ρ F) (hk : xKp ρ ρ') : xRep d B e0 σ τ ea hs ρ' F :=
  ⟨h.1, h.2.1, h.2.2.1, h.2.2.2.1, h.2.2.2.2.1, h.2.2.2.2.2.1, h.2.2.2.2.2.2.1, h.eat.kp hk, h.lst.mv hk.mv, h.rd, h.sh.mv hk.mv⟩
/-- an eater's cell is another: the others are as they were -/
theorem set_other {w : va_W} {j i : Nat} {y z : Nat × va_E} (h : w[i]? = some y) (hj : i ≠ j) : (w.set j z)[i]? = some y := by
  rw [List.getElem?_set_ne (fun q => hj q.symm)]; exact h
theorem set_this {w : va_W} {j : Nat} {y z : Nat × va_E} (h : w[j]? = some y) : (w.set j z)[j]? = some z := by
  rw [List.getElem?_set_self (List.getElem?_eq_some_iff.mp h).1]
theorem set_mv {j fa : Nat} {y z : Nat × List Value} (h : ρ[j]? = some (fa, .inr y)) : xMv ρ (ρ.set j (fa, .inr z)) := fun i fb w hi => by
  refine set_other hi (fun q => ?_)
  subst q
  rw [h] at hi
  cases hi
theorem eF_nu {x kd nu sp st nd x' kd' nu' sp' st' nd' : Nat} (h : eF x kd nu sp st nd = eF x' kd' nu' sp' st' nd') : nI nu = nI nu' := by
  unfold eF at h
  injection h with h1 h2
  injection h1
theorem xEat_set {a0 j kd v1 v3 : Nat} (h : xEat ρ x τ n E F) (ha : a0 < n) (hj : ρ[j]? = some (F a0, .inr (3 + kd, eF x kd a0 (E 2 a0) (E 1 a0) (E 3 a0)))) (hkd : kd < 3) (h2 : E 2 a0 < 10) (hek : (τ 6 0 = nI a0 ∧ τ 7 0 = nI (E 0 a0)) ∨ (¬ τ 6 0 = nI a0 ∧ E 0 a0 = kd)) (hek3 : E 0 a0 < 3) (hv1 : v1 < 7) (hv3 : v3 < 7) : xEat (ρ.set j (F a0, .inr (3 + kd, eF x kd a0 (E 2 a0) v1 v3))) x τ n (upN (upN E 1 a0 v1) 3 a0 v3) F := by
  refine ⟨h.1, fun a hn => ?_⟩
  have h4 := h.1
  by_cases e : a = a0
  · subst e
    refine ⟨j, kd, ?_, hkd, ?_, h2, ?_, hek, hek3⟩
    · rw [set_this hj]
      simp [upN]
    · simp [upN]; exact hv1
    · simp [upN]; exact hv3
  · obtain ⟨j', kd', hj', r⟩ := h.2 a hn
    refine ⟨j', kd', ?_, ?_⟩
    · rw [set_other (j := j) hj' (fun q => ?_)]
      · simp [upN, e]
      · subst q
        rw [hj] at hj'
        injection hj' with hj'
        have h6 := congrArg Prod.snd hj'
        injection h6 with h6
        have h7 := congrArg Prod.snd h6
        exact e ((nI_eq (by omega) (by omega)).mp (eF_nu h7)).symm
    · have e0 : (upN (upN E 1 a0 v1) 3 a0 v3) 0 a = E 0 a := by simp [upN]
      have e1 : (upN (upN E 1 a0 v1) 3 a0 v3) 1 a = E 1 a := by simp [upN, e]
      have e2 : (upN (upN E 1 a0 v1) 3 a0 v3) 2 a = E 2 a := by simp [upN]
      have e3 : (upN (upN E 1 a0 v1) 3 a0 v3) 3 a = E 3 a := by simp [upN, e]
      rw [e0, e1, e2, e3]
      exact r
theorem upN_self (f : Nat → Nat → Nat) (i j : Nat) : upN f i j (f i j) = f := by
  funext a b
  unfold upN
  split
  · rename_i h; subst h; simp only []; split
    · rename_i h; rw [h]
    · rfl
  · rfl
theorem upN_upN (f : Nat → Nat → Nat) (i j v w : Nat) : upN (upN f i j v) i j w = upN f i j w := by
  funext a b
  unfold upN
  split
  · simp only [if_true]; split <;> rfl
  · rfl
theorem upN_eq (f : Nat → Nat → Nat) (i j v : Nat) : upN f i j v i j = v := by simp [upN]
theorem xEat_stay {a0 j kd v : Nat} (h : xEat ρ x τ n E F) (ha : a0 < n) (hj : ρ[j]? = some (F a0, .inr (3 + kd, eF x kd a0 (E 2 a0) (E 1 a0) (E 3 a0)))) (hkd : kd < 3) (h2 : E 2 a0 < 10) (h3 : E 3 a0 < 7) (hek : (τ 6 0 = nI a0 ∧ τ 7 0 = nI (E 0 a0)) ∨ (¬ τ 6 0 = nI a0 ∧ E 0 a0 = kd)) (hek3 : E 0 a0 < 3) (hv : v < 7) : xEat (ρ.set j (F a0, .inr (3 + kd, eF x kd a0 (E 2 a0) v (E 3 a0)))) x τ n (upN E 1 a0 v) F := by
  have h1 := xEat_set h ha hj hkd h2 hek hek3 hv h3
  rw [show upN (upN E 1 a0 v) 3 a0 (E 3 a0) = upN E 1 a0 v from upN_self (upN E 1 a0 v) 3 a0] at h1
  exact h1
theorem xEat_need {a0 j kd v : Nat} (h : xEat ρ x τ n E F) (ha : a0 < n) (hj : ρ[j]? = some (F a0, .inr (3 + kd, eF x kd a0 (E 2 a0) (E 1 a0) (E 3 a0)))) (hkd : kd < 3) (h1 : E 1 a0 < 7) (h2 : E 2 a0 < 10) (hek : (τ 6 0 = nI a0 ∧ τ 7 0 = nI (E 0 a0)) ∨ (¬ τ 6 0 = nI a0 ∧ E 0 a0 = kd)) (hek3 : E 0 a0 < 3) (hv : v < 7) : xEat (ρ.set j (F a0, .inr (3 + kd, eF x kd a0 (E 2 a0) (E 1 a0) v))) x τ n (upN E 3 a0 v) F := by
  have h5 := xEat_set h ha hj hkd h2 hek hek3 h1 hv
  rw [upN_self] at h5
  exact h5
theorem xRep_need (h : xRep d B e0 σ τ ea hs ρ F) {a k : Nat} (hk : k < 7) (hm : xMv ρ ρ') (he : xEat ρ' (B 0) τ (aE σ) (upN (aN σ) 3 a k) F) : xRep d B e0 (uN σ 3 a k) τ ea hs ρ' F :=
  ⟨aOk_need h.1 hk, h.2.1, h.2.2.1, h.2.2.2.1, h.2.2.2.2.1, h.2.2.2.2.2.1, h.2.2.2.2.2.2.1, he, h.lst.mv hm, h.rd, h.sh.mv hm⟩
/-- the eaters are as they were again -/
theorem xRep_eat (h : xRep d B e0 σ τ ea hs ρ F) (hm : xMv ρ ρ') (he : xEat ρ' (B 0) τ (aE σ) (aN σ) F) : xRep d B e0 σ τ ea hs ρ' F :=
  ⟨h.1, h.2.1, h.2.2.1, h.2.2.2.1, h.2.2.2.2.1, h.2.2.2.2.2.1, h.2.2.2.2.2.2.1, he, h.lst.mv hm, h.rd, h.sh.mv hm⟩
/-- one of another kind for a while -/
theorem xEat_kind {a0 k : Nat} (h : xEat ρ x τ n E F) (hno : τ 6 0 = -9) (ha : a0 < n) (hk : k < 3) : xEat ρ x (put2 (put2 τ 6 0 (nI a0)) 7 0 (nI k)) n (upN E 0 a0 k) F := by
  refine ⟨h.1, fun a hn => ?_⟩
  have h4 := h.1
  obtain ⟨j, kd, hj, r1, r2, r3, r4, r5, r6⟩ := h.2 a hn
  refine ⟨j, kd, ?_, r1, ?_, ?_, ?_, ?_, ?_⟩
  · simp [upN]; exact hj
  · simp [upN]; exact r2
  · simp [upN]; exact r3
  · simp [upN]; exact r4
  · by_cases e : a = a0
    · subst e
      exact Or.inl ⟨rfl, by rw [upN_eq]; rfl⟩
    · refine Or.inr ⟨fun q => e ((nI_eq (by omega) (by omega)).mp (show nI a0 = nI a from q)).symm, ?_⟩
      have e2 : upN E 0 a0 k 0 a = E 0 a := by simp [upN, e]
      rw [e2]
      rcases r5 with r5 | r5
      · exact absurd (hno.symm.trans r5.1).symm (n6 a (by omega))
      · exact r5.2
  · by_cases e : a = a0
    · subst e; rw [upN_eq]; exact hk
    · have e2 : upN E 0 a0 k 0 a = E 0 a := by simp [upN, e]
      rw [e2]; exact r6
theorem xRep.fast (h : xRep d B e0 σ τ ea hs ρ F) : fN (τ 5) (τ 3 0) (-9) (aD σ) = aF σ := by
  rw [h.sour, fN_congr h.look]; rfl
theorem xRep.fasts (h : xRep d B e0 σ τ ea hs ρ F) (v : Int32) : fN (τ 5) v (-9) (aD σ) = fN (aL σ) v (-9) (aD σ) := fN_congr h.look
theorem allm1 : ∀ dd, dd < 7 → ((1 : Int32) <<< (nI dd &&& 31) - 1).toInt64 = ((1 : Int32) <<< (nI dd &&& 31)).toInt64 - 1 := by decide +kernel
theorem xRep.isD (h : xRep d B e0 σ τ ea hs ρ F) (x : Int32) : bI (pIn x.toInt64 0 ((τ 4 0).toInt64 - 1)) = bI (isD σ x) := by rw [h.day]; rfl
theorem xRep.isT (h : xRep d B e0 σ τ ea hs ρ F) (x : Int32) : bI (pIn x.toInt64 0 ((1 : Int32) <<< (τ 4 0 &&& 31) - 1).toInt64) = bI (isT σ x) := by
  have h6 := h.ok.1
  rw [h.day, allm1 _ (by omega)]; rfl
theorem xRep.duchy (h : xRep d B e0 σ τ ea hs ρ F) : bI (!(decide (τ 4 0 ≤ 0))) = bI (!(decide (aE σ = 0))) := by
  have h6 := h.ok.1
  have h0 := h.ok.2.2.1
  rw [h.day]
  congr 2
  apply decide_eq_decide.mpr
  rw [← h0, ← nI_0, nI_leI (by omega) (by decide)]
  omega
end XK
section BD
variable {p : Program} {l : Launch} {e : Env} {R : Room} {s : State} {m : MethodId} {args : Array Value} {below : List Frame} {meth : Method} {c : Code} {H : Heap} {locs : List Loc} {cells slots : Nat} {Q : State → Prop}
variable {cc : ByteArray} {pc : Nat} {ls : Array Slot} {rest : List Value}
theorem bd_eq (hexec : p.tables.exec = Jvm.exec) (hb : c.code = cc) {a : Nat} {off : Int} {tgt : Nat} (hdg : decode cc pc = .ok (.ifCond .eq off, 3)) (ht : (pc : Int) + off = (tgt : Int)) (kt : a = 0 → W p l e R s m args below meth c H locs cells slots Q (F0 m tgt ls rest)) (kf : ¬ a = 0 → W p l e R s m args below meth c H locs cells slots Q (F0 m (pc + 3) ls rest)) : W p l e R s m args below meth c H locs cells slots Q (F0 m pc ls (.int (bI (!(decide (a = 0)))) :: rest)) :=
  bz_eq hexec hb hdg ht (fun h => kt (by simpa using h)) (fun h => kf (by simpa using h))
theorem bd_ne (hexec : p.tables.exec = Jvm.exec) (hb : c.code = cc) {a : Nat} {off : Int} {tgt : Nat} (hdg : decode cc pc = .ok (.ifCond .ne off, 3)) (ht : (pc : Int) + off = (tgt : Int)) (kt : ¬ a = 0 → W p l e R s m args below meth c H locs cells slots Q (F0 m tgt ls rest)) (kf : a = 0 → W p l e R s m args below meth c H locs cells slots Q (F0 m (pc + 3) ls rest)) : W p l e R s m args below meth c H locs cells slots Q (F0 m pc ls (.int (bI (!(decide (a = 0)))) :: rest)) :=
  bz_ne hexec hb hdg ht (fun h => kt (by simpa using h)) (fun h => kf (by simpa using h))
end BD
