/-! calls on an eater, whatever its class: OE virtual, PE super -/
section ER
variable {p : Program} {l : Launch} {e : Env} {R : Room} {s : State} {m : MethodId} {args : Array Value} {below : List Frame} {meth : Method} {c : Code} {H : Heap} {locs : List Loc} {cells slots : Nat} {Q : State → Prop}
variable {cc cb cb0 cb1 cb2 : ByteArray} {pc nL nLb nL0 nL1 nL2 index n : Nat} {ls : Array Slot} {rest : List Value} {D : va_G} {d : Nat → ClassId} {A : Nat → Prop} {y y0 y1 y2 xm : MethodName} {ret : Option FieldType} {rm : Room} {As : List Value} {HP : Heap → Prop} {r : Value} {own owner : String} {ws : va_W} {fa j x kd nu sp st nd : Nat}
theorem e_at (hK : KX D d s) {C : String} (hC : (vwCl[3 + kd]?).map (fun q => q.1) = some C) : ∃ cC, ClassAt s C cC := by
  obtain ⟨q, hq, e0⟩ := Option.map_eq_some_iff.mp hC
  subst e0
  exact ⟨_, (hK.1.1.1 _ q hq).2⟩
theorem callR_OE (hx : p.tables.exec = Jvm.exec) (hb : c.code = cc) (hml : c.maxLocals = nL) (hown : s.vm.findClass own = some m.cls) (hts : ∀ w ∈ lw_all, w.before args s = true) (hK : KX D d s) (hP : va_P D vwCl ws H) (hj : ws[j]? = some (fa, .inr (3 + kd, eF x kd nu sp st nd))) (hkd : kd < 3)
    (hM0 : kd = 0 → cR l (KX D d) y0 cb0 nL0 ret rm (.ref fa :: As) HP r) (hM1 : kd = 1 → cR l (KX D d) y1 cb1 nL1 ret rm (.ref fa :: As) HP r) (hM2 : kd = 2 → cR l (KX D d) y2 cb2 nL2 ret rm (.ref fa :: As) HP r)
    (cw0 : va_CU R s args own RX3 owner index xm y0 cb0 nL0 ret (ws_ y0 cb0 nL0 ret) rm 0 0 n) (cw1 : va_CU R s args own RX4 owner index xm y1 cb1 nL1 ret (ws_ y1 cb1 nL1 ret) rm 0 0 n) (cw2 : va_CU R s args own RX5 owner index xm y2 cb2 nL2 ret (ws_ y2 cb2 nL2 ret) rm 0 0 n)
    (hp : HP H) (hn : As.length = n) (hl : ls.size = nL) {st0 : List Value} (hs0 : st0 = As.reverse ++ .ref fa :: rest) (hW : (rest.map fun v => v.category).sum ≤ 8) (hdg : decode cc pc = .ok (.invokevirtual index, 3)) (hf : cells ≤ R.cells ∧ slots ≤ R.slots)
    (kk : W p l e R s m args below meth c H locs cells slots Q (F0 m (pc + 3) ls (r :: rest))) : W p l e R s m args below meth c H locs cells slots Q (F0 m pc ls st0) := by
  rcases kd3 hkd with h | h | h
  · subst h; exact callR_O hx hb hml hown hts KX_st hK (hM0 rfl) cw0 (e_recv hK hP hj rfl) hp hn hl hs0 hW hdg hf kk
  · subst h; exact callR_O hx hb hml hown hts KX_st hK (hM1 rfl) cw1 (e_recv hK hP hj rfl) hp hn hl hs0 hW hdg hf kk
  · subst h; exact callR_O hx hb hml hown hts KX_st hK (hM2 rfl) cw2 (e_recv hK hP hj rfl) hp hn hl hs0 hW hdg hf kk
theorem callR_PE (hx : p.tables.exec = Jvm.exec) (hb : c.code = cc) (hml : c.maxLocals = nL) (hown : s.vm.findClass own = some m.cls) (hts : ∀ w ∈ lw_all, w.before args s = true) (hK : KX D d s) (hP : va_P D vwCl ws H) (hj : ws[j]? = some (fa, .inr (3 + kd, eF x kd nu sp st nd))) (hkd : kd < 3)
    (hM : cR l (KX D d) y cb nLb ret rm (.ref fa :: As) HP r) (cw : va_CS R s args own index y cb nLb ret (ws_ y cb nLb ret) rm 0 0 n)
    (hp : HP H) (hn : As.length = n) (hl : ls.size = nL) {st0 : List Value} (hs0 : st0 = As.reverse ++ .ref fa :: rest) (hW : (rest.map fun v => v.category).sum ≤ 8) (hdg : decode cc pc = .ok (.invokespecial index, 3)) (hf : cells ≤ R.cells ∧ slots ≤ R.slots)
    (kk : W p l e R s m args below meth c H locs cells slots Q (F0 m (pc + 3) ls (r :: rest))) : W p l e R s m args below meth c H locs cells slots Q (F0 m pc ls st0) := by
  rcases kd3 hkd with h | h | h
  · subst h; obtain ⟨cC, hat⟩ := e_at (kd := 0) hK rfl; exact callR_P hat hx hb hml hown hts KX_st hK hM cw (e_recv hK hP hj rfl) hp hn hl hs0 hW hdg hf kk
  · subst h; obtain ⟨cC, hat⟩ := e_at (kd := 1) hK rfl; exact callR_P hat hx hb hml hown hts KX_st hK hM cw (e_recv hK hP hj rfl) hp hn hl hs0 hW hdg hf kk
  · subst h; obtain ⟨cC, hat⟩ := e_at (kd := 2) hK rfl; exact callR_P hat hx hb hml hown hts KX_st hK hM cw (e_recv hK hP hj rfl) hp hn hl hs0 hW hdg hf kk
end ER
