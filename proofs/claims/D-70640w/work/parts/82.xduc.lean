/-! a duchy comes, on X's side: what keeps and what makes the state -/
section DU
variable {d : Nat → ClassId} {B : Nat → Nat} {e0 : Nat} {σ : ASt} {τ τ2 τ5 : Nat → Nat → Int32} {ea ea5 : Nat} {hs : Nat → Option Nat} {ρ ρ5 : va_W} {F F5 : Nat → Nat} {r : Nat → Int32} {nn dd n : Nat}
theorem xRep_read (h : xRep d B e0 σ τ ea hs ρ F) (he : ∀ k, k < 8 ∨ 13 < k → τ2 k = τ k) : xRep d B e0 σ τ2 ea hs ρ F := by
  have e := fun k hk => he k hk
  refine ⟨h.1, ?_, ?_, ?_, ?_, fun i hi => ?_, ?_, ⟨h.eat.1, fun a ha => ?_⟩, ⟨?_, h.lst.2⟩, ⟨?_, fun x hx => ?_⟩, h.sh⟩
  · rw [e 0 (by omega)]; exact h.fault
  · rw [e 1 (by omega)]; exact h.trace
  · rw [e 3 (by omega)]; exact h.sour
  · rw [e 4 (by omega)]; exact h.day
  · rw [e 5 (by omega)]; exact h.look i hi
  · rw [e 6 (by omega)]; exact h.no
  · rw [e 6 (by omega), e 7 (by omega)]; exact h.eat.2 a ha
  · rw [e 21 (by omega)]; exact h.lst.1
  · rw [e 14 (by omega)]; exact h.rd.1
  · rw [e 15 (by omega), e 16 (by omega), e 17 (by omega), e 18 (by omega)]; exact h.rd.2 x hx
/-- the sheets' arrays are kept -/
theorem xSh.ar {S : Nat → Option (Nat × Nat × (Nat → Int32))} (h : xSh d ρ hs S) (hm : xAr ρ ρ5) : xSh d ρ5 hs S := by
  refine ⟨fun k hk => ?_, h.2⟩
  have h3 := h.1 k hk
  cases hS : S k with
  | none => rw [hS] at h3; exact h3
  | some v =>
    rw [hS] at h3
    obtain ⟨fa, j, f, a1, a2, a3⟩ := h3
    exact ⟨fa, j, f, a1, hm.2 _ _ _ _ _ a2, a3⟩
theorem xRep_duc (h : xRep d B e0 σ τ ea hs ρ F) (hd6 : dd ≤ 6) (hd0 : 0 < dd) (hn0 : 0 < n) (hn4 : n ≤ 4) (p5 : ∀ j, j < n → eAt r nn (3 + dd + 5 * j) = 5) (e00 : τ5 0 0 = 0) (e1 : τ5 1 0 = τ 1 0) (e3 : τ5 3 0 = r 1 - 48) (e4 : τ5 4 0 = nI dd) (e5 : ∀ i, i < dd → τ5 5 i = r (3 + i) - 48) (e6 : τ5 6 0 = -9) (e14 : τ5 14 0 = nI 0)
    (hE : ∀ a, a < n → ∃ j : Nat, ρ5[j]? = some (F5 a, .inr (3 + kdc (r (3 + dd + 5 * a + 1)), eF (B 0) (kdc (r (3 + dd + 5 * a + 1))) a (ix (r (3 + dd + 5 * a + 3) - 48)) (ix (r (3 + dd + 5 * a + 2) - 48)) (ix (r (3 + dd + 5 * a + 4) - 48))))) (hL : xLst d ρ5 τ5 ea5 e0 n F5) (hS : xAr ρ ρ5) : xRep d B e0 (duc σ r dd n) τ5 ea5 hs ρ5 F5 := by
  have hok := aOk_duc h.ok hd6 hd0 hn0 hn4 p5
  refine ⟨hok, e00, e1.trans h.trace, e3, e4, e5, e6, ⟨hn4, fun a ha => ?_⟩, hL, ⟨e14, fun x hx => absurd hx (Nat.not_lt_zero x)⟩, h.sh.ar hS⟩
  obtain ⟨j, hj⟩ := hE a ha
  obtain ⟨k1, k2, k3, k4⟩ := hok.2.2.2.2.1 a ha
  have k2' : aN (duc σ r dd n) 1 a < 7 := Nat.lt_of_lt_of_le k2 (by decide)
  have ha4 : a < 4 := Nat.lt_of_lt_of_le ha hn4
  exact ⟨j, kdc (r (3 + dd + 5 * a + 1)), hj, k1, k2', k3, k4, Or.inr ⟨fun q => n6 a (by omega) (q.symm.trans e6), rfl⟩, k1⟩
end DU
