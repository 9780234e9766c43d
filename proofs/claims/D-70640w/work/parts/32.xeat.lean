/-! eaters: their cells, and rows for their fields -/
set_option maxRecDepth 100000
def eF (x kd nu sp st nd : Nat) : List Value := [.int (nI nu), .int (nI sp), .int (nI st), .int (nI nd), .ref x] ++ List.replicate kd (.ref x)
theorem kd3 {kd : Nat} (h : kd < 3) : kd = 0 ∨ kd = 1 ∨ kd = 2 := by omega
section XE
variable {p : Program} {l : Launch} {e : Env} {R : Room} {s : State} {m : MethodId} {args : Array Value} {below : List Frame} {meth : Method} {c : Code} {H : Heap} {locs : List Loc} {cells slots : Nat} {Q : State → Prop}
variable {cc : ByteArray} {pc : Nat} {ls : Array Slot} {rest : List Value} {D : va_G} {d : Nat → ClassId} {A : Nat → Prop} {H0 : Heap} {ws : va_W} {fa j x kd nu sp st nd : Nat}
theorem eg0 (hx : p.tables.exec = Jvm.exec) (hb : c.code = cc) (hts : ∀ w ∈ lw_all, w.before args s = true) (hown : s.vm.findClass RX3 = some m.cls) (hK : KX D d s) (hP : va_P D vwCl ws H) (hj : ws[j]? = some (fa, .inr (3 + kd, eF x kd nu sp st nd))) (hkd : kd < 3) (hdg : decode cc pc = .ok (.getfield 15, 3)) (kk : W p l e R s m args below meth c H locs cells slots Q (F0 m (pc + 3) ls (.int (nI nu) :: rest))) : W p l e R s m args below meth c H locs cells slots Q (F0 m pc ls (.ref fa :: rest)) := by
  rcases kd3 hkd with h | h | h
  · subst h; exact va_get (D := D) (ci := 3) (v := .int (nI nu)) (C := RX3) (T := TX3) (N := 5) hx hb hts in_X3 hown hK.1.1 hP j hj rfl 0 (by decide) (hts _ q422) (fun _ h9 => h9) rfl hdg kk
  · subst h; exact va_get (D := D) (ci := 4) (v := .int (nI nu)) (C := RX4) (T := TX4) (N := 6) hx hb hts in_X4 hown hK.1.1 hP j hj rfl 0 (by decide) (hts _ q422) (fun _ h9 => h9) rfl hdg kk
  · subst h; exact va_get (D := D) (ci := 5) (v := .int (nI nu)) (C := RX5) (T := TX5) (N := 7) hx hb hts in_X5 hown hK.1.1 hP j hj rfl 0 (by decide) (hts _ q422) (fun _ h9 => h9) rfl hdg kk
theorem eg1 (hx : p.tables.exec = Jvm.exec) (hb : c.code = cc) (hts : ∀ w ∈ lw_all, w.before args s = true) (hown : s.vm.findClass RX3 = some m.cls) (hK : KX D d s) (hP : va_P D vwCl ws H) (hj : ws[j]? = some (fa, .inr (3 + kd, eF x kd nu sp st nd))) (hkd : kd < 3) (hdg : decode cc pc = .ok (.getfield 26, 3)) (kk : W p l e R s m args below meth c H locs cells slots Q (F0 m (pc + 3) ls (.int (nI sp) :: rest))) : W p l e R s m args below meth c H locs cells slots Q (F0 m pc ls (.ref fa :: rest)) := by
  rcases kd3 hkd with h | h | h
  · subst h; exact va_get (D := D) (ci := 3) (v := .int (nI sp)) (C := RX3) (T := TX3) (N := 5) hx hb hts in_X3 hown hK.1.1 hP j hj rfl 1 (by decide) (hts _ q423) (fun _ h9 => h9) rfl hdg kk
  · subst h; exact va_get (D := D) (ci := 4) (v := .int (nI sp)) (C := RX4) (T := TX4) (N := 6) hx hb hts in_X4 hown hK.1.1 hP j hj rfl 1 (by decide) (hts _ q423) (fun _ h9 => h9) rfl hdg kk
  · subst h; exact va_get (D := D) (ci := 5) (v := .int (nI sp)) (C := RX5) (T := TX5) (N := 7) hx hb hts in_X5 hown hK.1.1 hP j hj rfl 1 (by decide) (hts _ q423) (fun _ h9 => h9) rfl hdg kk
theorem eg2 (hx : p.tables.exec = Jvm.exec) (hb : c.code = cc) (hts : ∀ w ∈ lw_all, w.before args s = true) (hown : s.vm.findClass RX3 = some m.cls) (hK : KX D d s) (hP : va_P D vwCl ws H) (hj : ws[j]? = some (fa, .inr (3 + kd, eF x kd nu sp st nd))) (hkd : kd < 3) (hdg : decode cc pc = .ok (.getfield 23, 3)) (kk : W p l e R s m args below meth c H locs cells slots Q (F0 m (pc + 3) ls (.int (nI st) :: rest))) : W p l e R s m args below meth c H locs cells slots Q (F0 m pc ls (.ref fa :: rest)) := by
  rcases kd3 hkd with h | h | h
  · subst h; exact va_get (D := D) (ci := 3) (v := .int (nI st)) (C := RX3) (T := TX3) (N := 5) hx hb hts in_X3 hown hK.1.1 hP j hj rfl 2 (by decide) (hts _ q425) (fun _ h9 => h9) rfl hdg kk
  · subst h; exact va_get (D := D) (ci := 4) (v := .int (nI st)) (C := RX4) (T := TX4) (N := 6) hx hb hts in_X4 hown hK.1.1 hP j hj rfl 2 (by decide) (hts _ q425) (fun _ h9 => h9) rfl hdg kk
  · subst h; exact va_get (D := D) (ci := 5) (v := .int (nI st)) (C := RX5) (T := TX5) (N := 7) hx hb hts in_X5 hown hK.1.1 hP j hj rfl 2 (by decide) (hts _ q425) (fun _ h9 => h9) rfl hdg kk
theorem eg3 (hx : p.tables.exec = Jvm.exec) (hb : c.code = cc) (hts : ∀ w ∈ lw_all, w.before args s = true) (hown : s.vm.findClass RX3 = some m.cls) (hK : KX D d s) (hP : va_P D vwCl ws H) (hj : ws[j]? = some (fa, .inr (3 + kd, eF x kd nu sp st nd))) (hkd : kd < 3) (hdg : decode cc pc = .ok (.getfield 29, 3)) (kk : W p l e R s m args below meth c H locs cells slots Q (F0 m (pc + 3) ls (.int (nI nd) :: rest))) : W p l e R s m args below meth c H locs cells slots Q (F0 m pc ls (.ref fa :: rest)) := by
  rcases kd3 hkd with h | h | h
  · subst h; exact va_get (D := D) (ci := 3) (v := .int (nI nd)) (C := RX3) (T := TX3) (N := 5) hx hb hts in_X3 hown hK.1.1 hP j hj rfl 3 (by decide) (hts _ q427) (fun _ h9 => h9) rfl hdg kk
  · subst h; exact va_get (D := D) (ci := 4) (v := .int (nI nd)) (C := RX4) (T := TX4) (N := 6) hx hb hts in_X4 hown hK.1.1 hP j hj rfl 3 (by decide) (hts _ q427) (fun _ h9 => h9) rfl hdg kk
  · subst h; exact va_get (D := D) (ci := 5) (v := .int (nI nd)) (C := RX5) (T := TX5) (N := 7) hx hb hts in_X5 hown hK.1.1 hP j hj rfl 3 (by decide) (hts _ q427) (fun _ h9 => h9) rfl hdg kk
theorem eg4 (hx : p.tables.exec = Jvm.exec) (hb : c.code = cc) (hts : ∀ w ∈ lw_all, w.before args s = true) (hown : s.vm.findClass RX3 = some m.cls) (hK : KX D d s) (hP : va_P D vwCl ws H) (hj : ws[j]? = some (fa, .inr (3 + kd, eF x kd nu sp st nd))) (hkd : kd < 3) (hdg : decode cc pc = .ok (.getfield 3, 3)) (kk : W p l e R s m args below meth c H locs cells slots Q (F0 m (pc + 3) ls (.ref x :: rest))) : W p l e R s m args below meth c H locs cells slots Q (F0 m pc ls (.ref fa :: rest)) := by
  rcases kd3 hkd with h | h | h
  · subst h; exact va_get (D := D) (ci := 3) (v := .ref x) (C := RX3) (T := TX3) (N := 5) hx hb hts in_X3 hown hK.1.1 hP j hj rfl 4 (by decide) (hts _ q429) (fun _ h9 => h9) rfl hdg kk
  · subst h; exact va_get (D := D) (ci := 4) (v := .ref x) (C := RX4) (T := TX4) (N := 6) hx hb hts in_X4 hown hK.1.1 hP j hj rfl 4 (by decide) (hts _ q429) (fun _ h9 => h9) rfl hdg kk
  · subst h; exact va_get (D := D) (ci := 5) (v := .ref x) (C := RX5) (T := TX5) (N := 7) hx hb hts in_X5 hown hK.1.1 hP j hj rfl 4 (by decide) (hts _ q429) (fun _ h9 => h9) rfl hdg kk
theorem en1 (hx : p.tables.exec = Jvm.exec) (hb : c.code = cc) (hts : ∀ w ∈ lw_all, w.before args s = true) (hown : s.vm.findClass RX0 = some m.cls) (hK : KX D d s) (hP : va_P D vwCl ws H) (hj : ws[j]? = some (fa, .inr (3 + kd, eF x kd nu sp st nd))) (hkd : kd < 3) (hdg : decode cc pc = .ok (.getfield 201, 3)) (kk : W p l e R s m args below meth c H locs cells slots Q (F0 m (pc + 3) ls (.int (nI sp) :: rest))) : W p l e R s m args below meth c H locs cells slots Q (F0 m pc ls (.ref fa :: rest)) := by
  rcases kd3 hkd with h | h | h
  · subst h; exact va_getN (D := D) (ci := 3) (v := .int (nI sp)) (C := RX3) (T := TX3) (N := 5) hx hb hts in_X3 hown hK.1.1 hP j hj rfl 1 (by decide) (hK.f 1 rfl _) (fun _ h9 => h9) rfl hdg kk
  · subst h; exact va_getN (D := D) (ci := 4) (v := .int (nI sp)) (C := RX4) (T := TX4) (N := 6) hx hb hts in_X4 hown hK.1.1 hP j hj rfl 1 (by decide) (hK.f 1 rfl _) (fun _ h9 => h9) rfl hdg kk
  · subst h; exact va_getN (D := D) (ci := 5) (v := .int (nI sp)) (C := RX5) (T := TX5) (N := 7) hx hb hts in_X5 hown hK.1.1 hP j hj rfl 1 (by decide) (hK.f 1 rfl _) (fun _ h9 => h9) rfl hdg kk
theorem en2 (hx : p.tables.exec = Jvm.exec) (hb : c.code = cc) (hts : ∀ w ∈ lw_all, w.before args s = true) (hown : s.vm.findClass RX0 = some m.cls) (hK : KX D d s) (hP : va_P D vwCl ws H) (hj : ws[j]? = some (fa, .inr (3 + kd, eF x kd nu sp st nd))) (hkd : kd < 3) (hdg : decode cc pc = .ok (.getfield 198, 3)) (kk : W p l e R s m args below meth c H locs cells slots Q (F0 m (pc + 3) ls (.int (nI st) :: rest))) : W p l e R s m args below meth c H locs cells slots Q (F0 m pc ls (.ref fa :: rest)) := by
  rcases kd3 hkd with h | h | h
  · subst h; exact va_getN (D := D) (ci := 3) (v := .int (nI st)) (C := RX3) (T := TX3) (N := 5) hx hb hts in_X3 hown hK.1.1 hP j hj rfl 2 (by decide) (hK.f 2 rfl _) (fun _ h9 => h9) rfl hdg kk
  · subst h; exact va_getN (D := D) (ci := 4) (v := .int (nI st)) (C := RX4) (T := TX4) (N := 6) hx hb hts in_X4 hown hK.1.1 hP j hj rfl 2 (by decide) (hK.f 2 rfl _) (fun _ h9 => h9) rfl hdg kk
  · subst h; exact va_getN (D := D) (ci := 5) (v := .int (nI st)) (C := RX5) (T := TX5) (N := 7) hx hb hts in_X5 hown hK.1.1 hP j hj rfl 2 (by decide) (hK.f 2 rfl _) (fun _ h9 => h9) rfl hdg kk
theorem en3 (hx : p.tables.exec = Jvm.exec) (hb : c.code = cc) (hts : ∀ w ∈ lw_all, w.before args s = true) (hown : s.vm.findClass RX0 = some m.cls) (hK : KX D d s) (hP : va_P D vwCl ws H) (hj : ws[j]? = some (fa, .inr (3 + kd, eF x kd nu sp st nd))) (hkd : kd < 3) (hdg : decode cc pc = .ok (.getfield 204, 3)) (kk : W p l e R s m args below meth c H locs cells slots Q (F0 m (pc + 3) ls (.int (nI nd) :: rest))) : W p l e R s m args below meth c H locs cells slots Q (F0 m pc ls (.ref fa :: rest)) := by
  rcases kd3 hkd with h | h | h
  · subst h; exact va_getN (D := D) (ci := 3) (v := .int (nI nd)) (C := RX3) (T := TX3) (N := 5) hx hb hts in_X3 hown hK.1.1 hP j hj rfl 3 (by decide) (hK.f 3 rfl _) (fun _ h9 => h9) rfl hdg kk
  · subst h; exact va_getN (D := D) (ci := 4) (v := .int (nI nd)) (C := RX4) (T := TX4) (N := 6) hx hb hts in_X4 hown hK.1.1 hP j hj rfl 3 (by decide) (hK.f 3 rfl _) (fun _ h9 => h9) rfl hdg kk
  · subst h; exact va_getN (D := D) (ci := 5) (v := .int (nI nd)) (C := RX5) (T := TX5) (N := 7) hx hb hts in_X5 hown hK.1.1 hP j hj rfl 3 (by decide) (hK.f 3 rfl _) (fun _ h9 => h9) rfl hdg kk
theorem e_recv (hK : KX D d s) (hP : va_P D vwCl ws H) (hj : ws[j]? = some (fa, .inr (3 + kd, eF x kd nu sp st nd))) {C : String} (hC : (vwCl[3 + kd]?).map (fun q => q.1) = some C) : ∃ cellB : Cell, H[fa]? = some cellB ∧ cellB.vm.isStatics = false ∧ s.vm.findClass C = some cellB.cls := by
  obtain ⟨q, hq, e⟩ := Option.map_eq_some_iff.mp hC
  subst e
  exact va_recv hK.1.1 hP hq hj
end XE
