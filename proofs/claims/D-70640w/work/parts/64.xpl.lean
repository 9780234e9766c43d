/-! places and sheets: rows, and what keeps the state -/
section PL
variable {p : Program} {l : Launch} {e : Env} {R : Room} {s : State} {m : MethodId} {args : Array Value} {below : List Frame} {meth : Method} {c : Code} {H : Heap} {locs : List Loc} {cells slots : Nat} {Q : State → Prop}
variable {cc : ByteArray} {pc nL : Nat} {ls : Array Slot} {rest : List Value} {D : va_G} {d : Nat → ClassId} {A : Nat → Prop} {H0 : Heap} {B : Nat → Nat} {τ : Nat → Nat → Int32} {ea : Nat} {hs : Nat → Option Nat} {ρ : va_W} {k : Nat}
def upO (hs : Nat → Option Nat) (k : Nat) (o : Option Nat) : Nat → Option Nat := fun j => if j = k then o else hs j
theorem upO_eq (hs : Nat → Option Nat) (k : Nat) (o : Option Nat) : upO hs k o k = o := by simp [upO]
theorem upO_ne (hs : Nat → Option Nat) {k j : Nat} (o : Option Nat) (h : ¬ j = k) : upO hs k o j = hs j := by simp [upO, h]
theorem k4 {k : Nat} (h : k < 4) : k = 0 ∨ k = 1 ∨ k = 2 ∨ k = 3 := by omega
theorem xpl_at (hk : k < 4) : (xw d B τ ea hs ρ)[10 + k]? = some (B (10 + k), .inr (2, [va_rf (hs k)])) := by
  rcases k4 hk with h | h | h | h <;> subst h <;> rfl
theorem xpl_set (hk : k < 4) (o : Option Nat) : (xw d B τ ea hs ρ).set (10 + k) (B (10 + k), .inr (2, [va_rf o])) = xw d B τ ea (upO hs k o) ρ := by
  rcases k4 hk with h | h | h | h <;> subst h <;> rfl
theorem xh_ald (hx : p.tables.exec = Jvm.exec) (hb : c.code = cc) (hK : KX D d s) (hP : va_P D vwCl (xw d B τ ea hs ρ) H) (hk : k < 4) (hdg : decode cc pc = .ok (.aaload, 1)) (kk : W p l e R s m args below meth c H locs cells slots Q (F0 m (pc + 1) ls (.ref (B (10 + k)) :: rest))) : W p l e R s m args below meth c H locs cells slots Q (F0 m pc ls (.int (nI k) :: .ref (B 9) :: rest)) := by
  refine va_aldq hx hb hK.1.1 hP 9 5 rfl rfl (vp_in_nI hk (by decide)) hdg ?_
  rw [nI_clamp (by omega)]
  exact kk
theorem xh_get (hx : p.tables.exec = Jvm.exec) (hb : c.code = cc) (hts : ∀ w ∈ lw_all, w.before args s = true) (hown : s.vm.findClass RX0 = some m.cls) (hK : KX D d s) (hP : va_P D vwCl (xw d B τ ea hs ρ) H) (hk : k < 4) {v : Value} (hv : va_rf (hs k) = v) (hdg : decode cc pc = .ok (.getfield 158, 3)) (kk : W p l e R s m args below meth c H locs cells slots Q (F0 m (pc + 3) ls (v :: rest))) : W p l e R s m args below meth c H locs cells slots Q (F0 m pc ls (.ref (B (10 + k)) :: rest)) := by
  subst hv
  exact va_getN (D := D) (ci := 2) (v := va_rf (hs k)) (C := RX1) (T := TX1) (N := 1) hx hb hts in_X1 hown hK.1.1 hP (10 + k) (xpl_at hk) rfl 0 (by decide) (hK.f 0 rfl _) (fun _ h9 => h9) rfl hdg kk
theorem xh_put (hx : p.tables.exec = Jvm.exec) (hb : c.code = cc) (hts : ∀ w ∈ lw_all, w.before args s = true) (hown : s.vm.findClass RX0 = some m.cls) (hK : KX D d s) (hu : uW D A H0 H locs (xw d B τ ea hs ρ)) (hk : k < 4) {v : Value} (o : Option Nat) (hv : va_rf o = v) (hdg : decode cc pc = .ok (.putfield 158, 3)) (kk : ∀ (H1 : Heap) (locs1 : List Loc), uW D A H0 H1 locs1 (xw d B τ ea (upO hs k o) ρ) → W p l e R s m args below meth c H1 locs1 cells slots Q (F0 m (pc + 3) ls rest)) : W p l e R s m args below meth c H locs cells slots Q (F0 m pc ls (v :: .ref (B (10 + k)) :: rest)) := by
  subst hv
  refine va_putN (D := D) (ci := 2) (v := va_rf o) (ty := .object "java/lang/Object") (C := RX1) (T := TX1) (N := 1) hx hb hts in_X1 tyX1 tyX1_ok nmX1 hown hK.1.1 hu.1 hu.2.1 hu.2.2 (10 + k) (xpl_at hk) rfl 0 (by decide) (hK.f 0 rfl _) (fun _ h9 => h9) rfl (by decide +kernel) (by cases o <;> rfl) (by cases o <;> rfl) (by show 0 < 1; decide) hdg (fun H1 locs1 hP hD hS => ?_)
  have e1 : ([va_rf (hs k)].set 0 (va_rf o)) = [va_rf o] := rfl
  rw [e1, xpl_set hk] at hP hD
  exact kk H1 locs1 ⟨hP, hD, hS⟩
/-- the end of a method that may throw -/
theorem rX_i {Post : Option Value → va_W → Prop} {Exc : String → Prop} {mc ms : Nat} {ws ws' : va_W} (hexec : p.tables.exec = Jvm.exec) (hb : c.code = cc) (hr : meth.sig.returnType = some .int) (hlocks : meth.locks = false) {v : Int32} (hu : uW D A s.heap H locs ws') (hdg : decode cc pc = .ok (.ireturn, 1)) (h1 : cells ≤ mc) (h2 : slots ≤ ms) (hp : Post (some (.int v)) ws') : W p l e R s m args below meth c H locs cells slots (MQX below (qX D A ws Post Exc) s mc ms A) (F0 m pc ls [.int v]) :=
  W.mono (fun t h => MQ.x (Qc := fun _ => qX D A ws Post Exc) h) (W.widen h1 h2 (W.iret (Qc := fun _ => qX D A ws Post Exc) hexec hb hr (fun t ht _ => ⟨Or.inl ⟨_, ws', rfl, hp, by rw [ht]; exact hu.1, hu.2.1⟩, hu.2.2.F ht⟩) hu.2.2.2.2 hdg hlocks))
theorem rX_l {Post : Option Value → va_W → Prop} {Exc : String → Prop} {mc ms : Nat} {ws ws' : va_W} (hexec : p.tables.exec = Jvm.exec) (hb : c.code = cc) (hr : meth.sig.returnType = some .long) (hlocks : meth.locks = false) {v : Int64} (hu : uW D A s.heap H locs ws') (hdg : decode cc pc = .ok (.lreturn, 1)) (h1 : cells ≤ mc) (h2 : slots ≤ ms) (hp : Post (some (.long v)) ws') : W p l e R s m args below meth c H locs cells slots (MQX below (qX D A ws Post Exc) s mc ms A) (F0 m pc ls [.long v]) :=
  W.mono (fun t h => MQ.x (Qc := fun _ => qX D A ws Post Exc) h) (W.widen h1 h2 (W.lret (Qc := fun _ => qX D A ws Post Exc) hexec hb hr (fun t ht _ => ⟨Or.inl ⟨_, ws', rfl, hp, by rw [ht]; exact hu.1, hu.2.1⟩, hu.2.2.F ht⟩) hu.2.2.2.2 hdg hlocks))
end PL
theorem sh_ix {k : Int32} (h : isSh k = true) : ∃ j, j < 4 ∧ k = nI j := pIn_ix (n := 4) (by decide) h
theorem ln_ix {k : Int32} (h : isLn k = true) : ∃ j, j < 3 ∧ k = nI j := pIn_ix (n := 3) (by decide) h
section PS
variable {d : Nat → ClassId} {B : Nat → Nat} {e0 : Nat} {σ : ASt} {τ : Nat → Nat → Int32} {ea : Nat} {hs hs' : Nat → Option Nat} {ρ ρ' : va_W} {F : Nat → Nat}
/-- objects and arrays of references are kept -/
def xOb (ρ ρ' : va_W) : Prop := (∀ (j a : Nat) (o : Nat × List Value), ρ[j]? = some (a, .inr o) → ρ'[j]? = some (a, .inr o)) ∧ ∀ (j a n : Nat) (cA : ClassId) (f : Nat → Option Nat), ρ[j]? = some (a, rfE cA n f) → ρ'[j]? = some (a, rfE cA n f)
theorem xKp.ob (h : xKp ρ ρ') : xOb ρ ρ' := ⟨fun j a o hj => h j _ hj, fun j a n cA f hj => h j _ hj⟩
theorem set_ob {j a n : Nat} {cA : ClassId} {f g : Nat → Int32} (h : ρ[j]? = some (a, .inl (cA, n, .inl f))) : xOb ρ (ρ.set j (a, .inl (cA, n, .inl g))) := by
  refine ⟨fun i b o hi => set_other hi (fun q => ?_), fun i b n' cA' f' hi => set_other hi (fun q => ?_)⟩
  · subst q; rw [h] at hi; cases hi
  · subst q; rw [h] at hi; cases hi
/-- one sheet is another -/
theorem xRep_sh (h : xRep d B e0 σ τ ea hs ρ F) (k : Nat) {x : Option (Nat × Nat × (Nat → Int32))} (hx : ∀ v, x = some v → v.1 < 3 ∧ v.2.1 ≤ 60) (ho : xOb ρ ρ') (hS : xSh d ρ' hs' (fun j => if j = k then x else aS σ j)) : xRep d B e0 (uS σ k x) τ ea hs' ρ' F := by
  refine ⟨aOk_sh h.1 k hx, h.2.1, h.2.2.1, h.2.2.2.1, h.2.2.2.2.1, h.2.2.2.2.2.1, h.2.2.2.2.2.2.1, ?_, ?_, h.rd, hS⟩
  · refine ⟨h.eat.1, fun a ha => ?_⟩
    obtain ⟨j, kd, hj, r⟩ := h.eat.2 a ha
    exact ⟨j, kd, ho.1 _ _ _ hj, r⟩
  · obtain ⟨h1, h2⟩ := h.lst
    refine ⟨h1, h2.imp id ?_⟩
    rintro ⟨je, f, hj, hf⟩
    exact ⟨je, f, ho.2 _ _ _ _ _ hj, hf⟩
/-- what a sheet has -/
theorem xSh_at {S : Nat → Option (Nat × Nat × (Nat → Int32))} (h : xSh d ρ hs S) {k : Nat} (hk : k < 4) : (S k = none ∧ hs k = none) ∨ ∃ (v : Nat × Nat × (Nat → Int32)) (fa j : Nat) (f : Nat → Int32), S k = some v ∧ hs k = some fa ∧ ρ[j]? = some (fa, .inl (lnC d v.1, v.2.1, .inl f)) ∧ ∀ i, i < v.2.1 → f i = v.2.2 i := by
  have h1 := h.1 k hk
  cases hS : S k with
  | none => rw [hS] at h1; exact Or.inl ⟨rfl, h1⟩
  | some v =>
    rw [hS] at h1
    obtain ⟨fa, j, f, a1, a2, a3⟩ := h1
    exact Or.inr ⟨v, fa, j, f, rfl, a1, a2, a3⟩
theorem xSh_none {S : Nat → Option (Nat × Nat × (Nat → Int32))} (h : xSh d ρ hs S) (k : Nat) : xSh d ρ (upO hs k none) (fun j => if j = k then none else S j) := by
  refine ⟨fun j hj => ?_, fun j j' fa hj hj' h1 h2 => ?_⟩
  · by_cases e : j = k
    · subst e; simp only [if_true]; exact upO_eq _ _ _
    · simp only [if_neg e, upO_ne _ _ e]; exact h.1 j hj
  · by_cases e : j = k
    · subst e; rw [upO_eq] at h1; cases h1
    · by_cases e' : j' = k
      · subst e'; rw [upO_eq] at h2; cases h2
      · rw [upO_ne _ _ e] at h1; rw [upO_ne _ _ e'] at h2; exact h.2 j j' fa hj hj' h1 h2
/-- a new sheet -/
theorem xSh_new {S : Nat → Option (Nat × Nat × (Nat → Int32))} (h : xSh d ρ hs S) (k : Nat) {q la n : Nat} (hq : ∀ (j : Nat) (y : Nat × va_E), ρ[j]? = some y → y.1 ≠ q) : xSh d (ρ ++ [(q, .inl (lnC d la, n, .inl (fun _ => 0)))]) (upO hs k (some q)) (fun j => if j = k then some (la, n, fun _ => 0) else S j) := by
  have hfr : ∀ j fa, j < 4 → hs j = some fa → fa ≠ q := by
    intro j fa hj hf
    rcases xSh_at h hj with ⟨-, h2⟩ | ⟨v, fb, jj, f, -, h2, h3, -⟩
    · rw [h2] at hf; cases hf
    · rw [h2] at hf; cases hf
      exact hq jj _ h3
  refine ⟨fun j hj => ?_, fun j j' fa hj hj' h1 h2 => ?_⟩
  · by_cases e : j = k
    · subst e; simp only [if_true]
      exact ⟨q, ρ.length, fun _ => 0, upO_eq _ _ _, app_last, fun _ _ => rfl⟩
    · simp only [if_neg e]
      rcases xSh_at h hj with ⟨h1, h2⟩ | ⟨v, fb, jj, f, h1, h2, h3, h4⟩
      · rw [h1]; exact (upO_ne _ _ e).trans h2
      · rw [h1]; exact ⟨fb, jj, f, (upO_ne _ _ e).trans h2, app_at h3, h4⟩
  · by_cases e : j = k
    · by_cases e' : j' = k
      · rw [e, e']
      · subst e; rw [upO_eq] at h1; cases h1; rw [upO_ne _ _ e'] at h2; exact absurd rfl (hfr j' _ hj' h2)
    · by_cases e' : j' = k
      · subst e'; rw [upO_eq] at h2; cases h2; rw [upO_ne _ _ e] at h1; exact absurd rfl (hfr j _ hj h1)
      · rw [upO_ne _ _ e] at h1; rw [upO_ne _ _ e'] at h2; exact h.2 j j' fa hj hj' h1 h2
/-- a sheet's array has other numbers -/
theorem xSh_upd {S : Nat → Option (Nat × Nat × (Nat → Int32))} (h : xSh d ρ hs S) {k fa j : Nat} {v : Nat × Nat × (Nat → Int32)} {f : Nat → Int32} (hk : k < 4) (hhs : hs k = some fa) (hj : ρ[j]? = some (fa, .inl (lnC d v.1, v.2.1, .inl f))) (hu : ∀ (i j' : Nat) (y z : Nat × va_E), ρ[i]? = some y → ρ[j']? = some z → y.1 = z.1 → i = j') {g g2 : Nat → Int32} (hg : ∀ i, i < v.2.1 → g i = g2 i) : xSh d (ρ.set j (fa, .inl (lnC d v.1, v.2.1, .inl g))) hs (fun t => if t = k then some (v.1, v.2.1, g2) else S t) := by
  refine ⟨fun t ht => ?_, h.2⟩
  by_cases e : t = k
  · subst e; simp only [if_true]
    exact ⟨fa, j, g, hhs, set_this hj, hg⟩
  · simp only [if_neg e]
    rcases xSh_at h ht with ⟨h1, h2⟩ | ⟨w, fb, jj, f', h1, h2, h3, h4⟩
    · rw [h1]; exact h2
    · rw [h1]
      refine ⟨fb, jj, f', h2, set_other h3 (fun q => ?_), h4⟩
      subst q
      rw [hj] at h3
      have h5 : fa = fb := congrArg Prod.fst (Option.some.inj h3)
      rw [← h5] at h2
      exact e (h.2 t k fa ht hk h2 hhs)
end PS
