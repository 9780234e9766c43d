/-! what lies in the moving part of X's world -/
theorem xw_at (d : Nat → ClassId) (B : Nat → Nat) (τ : Nat → Nat → Int32) (ea : Nat) (hs : Nat → Option Nat) (ρ : va_W) (j : Nat) : (xw d B τ ea hs ρ)[j + 14]? = ρ[j]? := rfl
theorem bst_eE {E : Nat → Nat → Nat} {dd F a : Nat} (n : Nat) : bst (eE (E 0 a) (E 1 a) (E 2 a) (E 3 a)) dd F 0 n = bst E dd F a n := by
  induction n with
  | zero => rfl
  | succ n ih => simp only [bst, ih]; rfl
section RA
variable {p : Program} {l : Launch} {e : Env} {R : Room} {s : State} {m : MethodId} {args : Array Value} {below : List Frame} {meth : Method} {c : Code} {cc : ByteArray} {pc : Nat} {ls : Array Slot}
theorem rR_a (hexec : p.tables.exec = Jvm.exec) (hb : c.code = cc) {rt : FieldType} (hr : meth.sig.returnType = some rt) (hrt : (∃ n, rt = .object n) ∨ ∃ t, rt = .array t) (hlocks : meth.locks = false) {v : Nat} {r : Value} (hdg : decode cc pc = .ok (.areturn, 1)) (hv : Value.ref v = r) : W p l e R s m args below meth c s.heap [] 0 0 (MQ below (qR r) args s 0 0 (fun _ => False)) (F0 m pc ls [.ref v]) := by
  subst hv
  exact W.aret hexec hb hr hrt (Or.inr ⟨v, rfl⟩) (fun t ht _ => ⟨rfl, ht⟩) (fun q h => by cases h) hdg hlocks
end RA
