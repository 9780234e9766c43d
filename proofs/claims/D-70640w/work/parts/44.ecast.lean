/-! an eater out of the list: its cast -/
section EC
variable {p : Program} {l : Launch} {e : Env} {R : Room} {s : State} {m : MethodId} {args : Array Value} {below : List Frame} {meth : Method} {c : Code} {H : Heap} {locs : List Loc} {cells slots : Nat} {Q : State → Prop}
variable {cc : ByteArray} {pc : Nat} {ls : Array Slot} {rest : List Value} {D : va_G} {d : Nat → ClassId} {ws : va_W} {fa j x kd nu sp st nd : Nat}
theorem ecast {idx : Nat} (hx : p.tables.exec = Jvm.exec) (hb : c.code = cc) (hlk : (Cond.classLink RX0 idx RX3).before args s = true) (hown : s.vm.findClass RX0 = some m.cls) (hK : KX D d s) (hP : va_P D vwCl ws H) (hj : ws[j]? = some (fa, .inr (3 + kd, eF x kd nu sp st nd))) (hkd : kd < 3) (hdg : decode cc pc = .ok (.checkcast idx, 3)) (kk : W p l e R s m args below meth c H locs cells slots Q (F0 m (pc + 3) ls (.ref fa :: rest))) : W p l e R s m args below meth c H locs cells slots Q (F0 m pc ls (.ref fa :: rest)) := by
  rcases kd3 hkd with h | h | h
  · subst h; obtain ⟨cC, hat⟩ := e_at (kd := 0) hK rfl; exact va_castS hx hb hown hlk hat (e_recv hK hP hj rfl) hdg kk
  · subst h; exact va_castY hx hb hown hlk (hK.c 3 rfl) (e_recv hK hP hj rfl) hdg kk
  · subst h; exact va_castY hx hb hown hlk (hK.c 4 rfl) (e_recv hK hP hj rfl) hdg kk
end EC
