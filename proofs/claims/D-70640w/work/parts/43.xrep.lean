/-! X's cells hold the state -/
abbrev rfE (cA : ClassId) (n : Nat) (f : Nat → Option Nat) : va_E := .inl (cA, n, .inr (.inr (.inr (.inr f))))
/-- the eaters: F their addresses, E their numbers (E 0 the kind by which they last now) -/
def xEat (ρ : va_W) (x : Nat) (τ : Nat → Nat → Int32) (n : Nat) (E : Nat → Nat → Nat) (F : Nat → Nat) : Prop := n ≤ 4 ∧ ∀ a, a < n → ∃ (j kd : Nat), ρ[j]? = some (F a, .inr (3 + kd, eF x kd a (E 2 a) (E 1 a) (E 3 a))) ∧ kd < 3 ∧ E 1 a < 7 ∧ E 2 a < 10 ∧ E 3 a < 7 ∧ ((τ 6 0 = nI a ∧ τ 7 0 = nI (E 0 a)) ∨ (¬ τ 6 0 = nI a ∧ E 0 a = kd)) ∧ E 0 a < 3
/-- the list of them; e0: the JDK's own empty array -/
def xLst (d : Nat → ClassId) (ρ : va_W) (τ : Nat → Nat → Int32) (ea e0 n : Nat) (F : Nat → Nat) : Prop := τ 21 0 = nI n ∧ ((ea = e0 ∧ n = 0) ∨ ∃ (je : Nat) (f : Nat → Option Nat), ρ[je]? = some (ea, rfE (d 4) 10 f) ∧ ∀ a, a < n → f a = some (F a))
/-- the array class of a lane -/
def lnC (d : Nat → ClassId) (la : Nat) : ClassId := match la with | 0 => d 2 | 1 => d 3 | _ => d 0
/-- a cell's number, as a lane keeps it -/
def lnV (la : Nat) (v : Int32) : Int32 := match la with | 0 => v.toInt8.toInt32 | 1 => v.toInt16.toInt32 | _ => v
/-- the sheets: each its own array, or none -/
def xSh (d : Nat → ClassId) (ρ : va_W) (hs : Nat → Option Nat) (S : Nat → Option (Nat × Nat × (Nat → Int32))) : Prop := (∀ k, k < 4 → match S k with
  | none => hs k = none
  | some v => ∃ (fa j : Nat) (f : Nat → Int32), hs k = some fa ∧ ρ[j]? = some (fa, .inl (lnC d v.1, v.2.1, .inl f)) ∧ ∀ i, i < v.2.1 → f i = v.2.2 i) ∧ ∀ k k' fa, k < 4 → k' < 4 → hs k = some fa → hs k' = some fa → k = k'
def xRd (τ : Nat → Nat → Int32) (r : Nat) (V : Nat → Nat → Nat) (B : Nat → Bool) : Prop := τ 14 0 = nI r ∧ ∀ x, x < r → τ 15 x = nI (V 4 x) ∧ τ 16 x = nI (V 5 x) ∧ τ 17 x = nI (V 6 x) ∧ τ 18 x = bI (B x)
/-- X's cells hold the state -/
def xRep (d : Nat → ClassId) (B : Nat → Nat) (e0 : Nat) (σ : ASt) (τ : Nat → Nat → Int32) (ea : Nat) (hs : Nat → Option Nat) (ρ : va_W) (F : Nat → Nat) : Prop := (aOk σ) ∧ (τ 0 0 = aI σ 0) ∧ (τ 1 0 = aI σ 1) ∧ (τ 3 0 = aI σ 2) ∧ (τ 4 0 = nI (aD σ)) ∧ (∀ i, i < aD σ → τ 5 i = aL σ i) ∧ (τ 6 0 = -9) ∧ (xEat ρ (B 0) τ (aE σ) (aN σ) F) ∧ (xLst d ρ τ ea e0 (aE σ) F) ∧ (xRd τ (aR σ) (aN σ) (aB σ)) ∧ (xSh d ρ hs (aS σ))
section XR
variable {d : Nat → ClassId} {B : Nat → Nat} {e0 : Nat} {σ : ASt} {τ : Nat → Nat → Int32} {ea : Nat} {hs : Nat → Option Nat} {ρ : va_W} {F : Nat → Nat}
theorem xRep.ok (h : xRep d B e0 σ τ ea hs ρ F) : aOk σ := h.1
theorem xRep.fault (h : xRep d B e0 σ τ ea hs ρ F) : τ 0 0 = aI σ 0 := h.2.1
theorem xRep.trace (h : xRep d B e0 σ τ ea hs ρ F) : τ 1 0 = aI σ 1 := h.2.2.1
theorem xRep.sour (h : xRep d B e0 σ τ ea hs ρ F) : τ 3 0 = aI σ 2 := h.2.2.2.1
theorem xRep.day (h : xRep d B e0 σ τ ea hs ρ F) : τ 4 0 = nI (aD σ) := h.2.2.2.2.1
theorem xRep.look (h : xRep d B e0 σ τ ea hs ρ F) : ∀ i, i < aD σ → τ 5 i = aL σ i := h.2.2.2.2.2.1
theorem xRep.no (h : xRep d B e0 σ τ ea hs ρ F) : τ 6 0 = -9 := h.2.2.2.2.2.2.1
theorem xRep.eat (h : xRep d B e0 σ τ ea hs ρ F) : xEat ρ (B 0) τ (aE σ) (aN σ) F := h.2.2.2.2.2.2.2.1
theorem xRep.lst (h : xRep d B e0 σ τ ea hs ρ F) : xLst d ρ τ ea e0 (aE σ) F := h.2.2.2.2.2.2.2.2.1
theorem xRep.rd (h : xRep d B e0 σ τ ea hs ρ F) : xRd τ (aR σ) (aN σ) (aB σ) := h.2.2.2.2.2.2.2.2.2.1
theorem xRep.sh (h : xRep d B e0 σ τ ea hs ρ F) : xSh d ρ hs (aS σ) := h.2.2.2.2.2.2.2.2.2.2
end XR
def xPost (d : Nat → ClassId) (B : Nat → Nat) (e0 : Nat) (r : Option Value) (σ' : ASt) : Option Value → va_W → Prop := fun v ws => v = r ∧ ∃ τ ea hs ρ F, ws = xw d B τ ea hs ρ ∧ xRep d B e0 σ' τ ea hs ρ F
