/-! THE ABSTRACT STATE, and what each call answers and does: one pure function a call, for both sides -/
/-- numbers (0 fault, 1 trace, 2 sour); naturals (rows 0..3: kind, stay, spoons, need by eater; 4, 5, 6: who, meals, day by reading; 7: days, eaters, readings); looks; was; sheets (lane, length, cells) -/
abbrev ASt : Type := (Nat → Int32) × (Nat → Nat → Nat) × (Nat → Int32) × (Nat → Bool) × (Nat → Option (Nat × Nat × (Nat → Int32)))
abbrev aI (σ : ASt) : Nat → Int32 := σ.1
abbrev aN (σ : ASt) : Nat → Nat → Nat := σ.2.1
abbrev aL (σ : ASt) : Nat → Int32 := σ.2.2.1
abbrev aB (σ : ASt) : Nat → Bool := σ.2.2.2.1
abbrev aS (σ : ASt) : Nat → Option (Nat × Nat × (Nat → Int32)) := σ.2.2.2.2
abbrev aD (σ : ASt) : Nat := aN σ 7 0
abbrev aE (σ : ASt) : Nat := aN σ 7 1
abbrev aR (σ : ASt) : Nat := aN σ 7 2
def upN (f : Nat → Nat → Nat) (i j v : Nat) : Nat → Nat → Nat := fun a => if a = i then (fun b => if b = j then v else f i b) else f a
def uI (σ : ASt) (k : Nat) (v : Int32) : ASt := (upd (aI σ) k v, σ.2)
def uN (σ : ASt) (i j v : Nat) : ASt := (σ.1, upN (aN σ) i j v, σ.2.2)
def uL (σ : ASt) (k : Nat) (v : Int32) : ASt := (σ.1, σ.2.1, upd (aL σ) k v, σ.2.2.2)
def uB (σ : ASt) (k : Nat) (v : Bool) : ASt := (σ.1, σ.2.1, σ.2.2.1, (fun j => if j = k then v else aB σ j), σ.2.2.2.2)
def uS (σ : ASt) (k : Nat) (v : Option (Nat × Nat × (Nat → Int32))) : ASt := (σ.1, σ.2.1, σ.2.2.1, σ.2.2.2.1, (fun j => if j = k then v else aS σ j))
abbrev ix (x : Int32) : Nat := x.toNatClampNeg
def isE (σ : ASt) (x : Int32) : Bool := pIn x.toInt64 0 ((nI (aE σ)).toInt64 - 1)
def isD (σ : ASt) (x : Int32) : Bool := pIn x.toInt64 0 ((nI (aD σ)).toInt64 - 1)
def isT (σ : ASt) (x : Int32) : Bool := pIn x.toInt64 0 (((1 : Int32) <<< (nI (aD σ) &&& 31)).toInt64 - 1)
abbrev isG (x : Int32) : Bool := pIn x.toInt64 0 9
/-- the fasts as they are -/
def aF (σ : ASt) : Nat := fN (aL σ) (aI σ 2) (-9) (aD σ)
/-- what holds of every state that a run reaches -/
def aOk (σ : ASt) : Prop := aD σ ≤ 6 ∧ aE σ ≤ 4 ∧ (aD σ = 0 ↔ aE σ = 0) ∧ aR σ ≤ 8 ∧ (∀ a, a < aE σ → aN σ 0 a < 3 ∧ aN σ 1 a < 6 ∧ aN σ 2 a < 10 ∧ aN σ 3 a < 7) ∧ (∀ x, x < aR σ → aN σ 4 x < aE σ ∧ aN σ 5 x < 2 ^ aD σ ∧ aN σ 6 x < aD σ) ∧ (∀ k v, aS σ k = some v → v.1 < 3 ∧ v.2.1 ≤ 60)
def mRd (τ : Nat → Nat → Int32) (r : Nat) (V : Nat → Nat → Nat) (B : Nat → Bool) : Prop := τ 19 0 = nI r ∧ ∀ x, x < r → τ 20 x = nI (V 4 x) ∧ τ 21 x = nI (V 5 x) ∧ τ 22 x = nI (V 6 x) ∧ τ 23 x = bI (B x)
def mSh (τ : Nat → Nat → Int32) (S : Nat → Option (Nat × Nat × (Nat → Int32))) : Prop := ∀ k, k < 4 → match S k with
  | none => τ 24 k = -1
  | some v => τ 24 k = nI v.2.1 ∧ τ 25 k = nI v.1 ∧ ∀ i, i < v.2.1 → τ 26 (60 * k + i) = v.2.2 i
/-- the Model's numbers hold the state -/
def mRep (σ : ASt) (τ : Nat → Nat → Int32) : Prop := aOk σ ∧ τ 0 0 = aI σ 0 ∧ τ 28 0 = aI σ 1 ∧ τ 1 0 = aI σ 2 ∧ mDay τ (aD σ) ∧ (∀ i, i < aD σ → τ 3 i = aL σ i) ∧ mEat τ (aE σ) (aN σ) ∧ τ 9 0 = -9 ∧ mRd τ (aR σ) (aN σ) (aB σ) ∧ mSh τ (aS σ)
def f_look (σ : ASt) (x : Int32) : Int32 := if isD σ x = true then aL σ (ix x) else -1
def f_pull (σ : ASt) (x v : Int32) : Int32 × ASt := if isD σ x = false then (-1, σ) else if isG v = false then (-2, σ) else (aL σ (ix x), uL σ (ix x) v)
def f_sour (σ : ASt) (v : Int32) : Int32 × ASt := if isG v = false then (-2, σ) else if aE σ = 0 then (-3, σ) else (aI σ 2, uI σ 2 v)
def f_crave (σ : ASt) (x v : Int32) : Int32 × ASt := if isE σ x = false then (-1, σ) else if pIn v.toInt64 0 6 = false then (-2, σ) else (nI (aN σ 3 (ix x)), uN σ 3 (ix x) (ix v))
def f_ofEater (σ : ASt) (x w : Int32) : Int32 := if isE σ x = false then -1 else if w = 0 then nI (aN σ 0 (ix x)) else if w = 1 then nI (aN σ 1 (ix x)) else if w = 2 then nI (aN σ 2 (ix x)) else if w = 3 then nI (aN σ 3 (ix x)) else if w = 4 then nI (laN (aN σ 0 (ix x)) (aN σ 1 (ix x))) else -2
def f_fasts (σ : ASt) : Int32 := if aE σ = 0 then -3 else nI (aF σ)
def f_yellow (σ : ASt) (x z : Int32) : Int32 := if isE σ x = false then -1 else if isT σ z = false then -2 else nI (yel (aD σ) (laN (aN σ 0 (ix x)) (aN σ 1 (ix x))) (ix z))
def f_found (σ : ASt) (x z w : Int32) : Int32 := if isE σ x = false then -1 else if isT σ z = false then -2 else if pIn w.toInt64 0 1 = false then -2 else if w = 0 then nI (fou (aN σ) (aD σ) (aF σ) (ix x) (ix z)) else nI (fin (aN σ) (aD σ) (aF σ) (ix x) (ix z))
def f_best (σ : ASt) (x w : Int32) : Int32 := if isE σ x = false then -1 else if pIn w.toInt64 0 1 = false then -2 else match bst (aN σ) (aD σ) (aF σ) (ix x) (2 ^ aD σ) with
  | none => -9
  | some b => if w = 0 then nI b else nI (fin (aN σ) (aD σ) (aF σ) (ix x) b)
def f_village (σ : ASt) : Int32 := if aE σ = 0 then -3 else oI (vil (aN σ) (aD σ) (aF σ) (aE σ))
def f_back (σ : ASt) (k : Int32) : Int32 × ASt := if pIn k.toInt64 0 (nI (aR σ)).toInt64 = false then (-2, σ) else (nI (aR σ - ix k), uN σ 7 2 (aR σ - ix k))
def f_many (σ : ASt) (w : Int32) : Int32 := if w = 0 then nI (aE σ) else if w = 1 then nI (aD σ) else if w = 2 then aI σ 2 else if w = 3 then nI (aR σ) else -2
def tr (σ : ASt) (k : Int32) : ASt := uI σ 1 (31 * aI σ 1 + k)
def f_tell (σ : ASt) (x : Int32) : Int32 × ASt := if isE σ x = false then (-1, σ) else if aN σ 0 (ix x) = 0 then (nI (aN σ 2 (ix x)), tr σ 1) else if aN σ 0 (ix x) = 1 then (nI (aN σ 2 (ix x)) + 100, tr (tr σ 2) 1) else (2 * nI (aN σ 2 (ix x)) + 100, tr (tr (tr (tr σ 3) 2) 1) 1)
def f_sniff (σ : ASt) (x : Int32) : Int32 × ASt := if isE σ x = false then (-1, σ) else if aN σ 0 (ix x) = 2 then (40, tr σ 5) else (x, tr σ 4)
def f_as (σ : ASt) (x k : Int32) : Int32 × ASt := if isE σ x = false then (-1, uI σ 0 0) else if pIn k.toInt64 0 2 = false then (-2, uI σ 0 0) else if ix k ≤ aN σ 0 (ix x) then (1, uI σ 0 0) else (-12, uI σ 0 2)
def f_reading (σ : ASt) (x z y : Int32) (b : Bool) : Int32 × ASt := if isE σ x = false then (-1, σ) else if isT σ z = false then (-2, σ) else if isD σ y = false then (-1, σ) else if aR σ = 8 then (-4, σ) else (nI (aR σ), uN (uB (uN (uN (uN σ 4 (aR σ) (ix x)) 5 (aR σ) (ix z)) 6 (aR σ) (ix y)) (aR σ) b) 7 2 (aR σ + 1))
/-- the first x readings are so -/
def soN (E V : Nat → Nat → Nat) (B : Nat → Bool) (dd F : Nat) : Nat → Bool
  | 0 => true
  | x + 1 => soN E V B dd F x && ((fou E dd F (V 4 x) (V 5 x)).testBit (V 6 x) == B x)
/-- a set of the k below n for which p holds -/
def setN (p : Nat → Bool) : Nat → Nat
  | 0 => 0
  | k + 1 => setN p k ||| (if p k = false then 0 else 2 ^ k)
def f_stays (σ : ASt) (x : Int32) : Int32 := if isE σ x = false then -1 else nI (setN (fun v => soN (upN (aN σ) 1 (ix x) v) (aN σ) (aB σ) (aD σ) (aF σ) (aR σ)) 6)
def f_kinds (σ : ASt) (x : Int32) : Int32 := if isE σ x = false then -1 else nI (setN (fun v => soN (upN (aN σ) 0 (ix x) v) (aN σ) (aB σ) (aD σ) (aF σ) (aR σ)) 3)
def f_sours (σ : ASt) : Int32 := if aE σ = 0 then -3 else nI (setN (fun v => soN (aN σ) (aN σ) (aB σ) (aD σ) (fN (aL σ) (nI v) (-9) (aD σ)) (aR σ)) 10)
/-- how many of the first n fasts find nobody -/
def cntN (y : Nat) : Nat → Nat
  | 0 => 0
  | k + 1 => cntN y k + (if y &&& k = 0 then 1 else 0)
def f_odds (σ : ASt) (x z w : Int32) : Int64 := if isE σ x = false then LOSTv else if isT σ z = false then LOSTv else if pIn w.toInt64 0 1 = false then LOSTv else pShare (cntN (yel (aD σ) (laN (aN σ 0 (ix x)) (aN σ 1 (ix x))) (ix z)) (2 ^ aD σ)) (2 ^ aD σ) w
/-- a fast less -/
def clr (F d : Nat) : Nat := F &&& (63 - 2 ^ d)
def sstep (E : Nat → Nat → Nat) (dd n F : Nat) (o : Option (Nat × Nat)) (d : Nat) : Option (Nat × Nat) :=
  if F.testBit d = false then o else match vil E dd (clr F d) n with
  | none => o
  | some x => match o with
    | none => some (d, x)
    | some b => if x < b.2 then some (d, x) else some b
def smi (E : Nat → Nat → Nat) (dd n F : Nat) : Nat → Option (Nat × Nat)
  | 0 => none
  | d + 1 => sstep E dd n F (smi E dd n F d) d
def oA (o : Option (Nat × Nat)) : Int32 := match o with
  | none => -9
  | some b => nI b.1
def oB (o : Option (Nat × Nat)) : Int32 := match o with
  | none => -9
  | some b => nI b.2
def f_smile (σ : ASt) (w : Int32) : Int32 := if pIn w.toInt64 0 1 = false then -2 else if aE σ = 0 then -3 else if w = 0 then oA (smi (aN σ) (aD σ) (aE σ) (aF σ) (aD σ)) else oB (smi (aN σ) (aD σ) (aE σ) (aF σ) (aD σ))
