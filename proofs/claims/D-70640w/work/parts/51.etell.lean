/-! eaters: what they tell, and what they are sniffed at -/
set_option maxRecDepth 100000
section ES
variable {p : Program} {l : Launch} {e : Env} {R : Room} {s : State} {m : MethodId} {args : Array Value} {below : List Frame} {meth : Method} {c : Code} {H : Heap} {locs : List Loc} {cells slots : Nat} {Q : State → Prop}
variable {cc : ByteArray} {pc : Nat} {ls : Array Slot} {rest : List Value} {D : va_G} {d : Nat → ClassId} {ws : va_W} {fa j x kd nu sp st nd : Nat}
theorem es4 (hx : p.tables.exec = Jvm.exec) (hb : c.code = cc) (hts : ∀ w ∈ lw_all, w.before args s = true) (hown : s.vm.findClass RX4 = some m.cls) (hK : KX D d s) (hP : va_P D vwCl ws H) (hj : ws[j]? = some (fa, .inr (3 + kd, eF x kd nu sp st nd))) (hkd : kd < 3) (h1 : 1 ≤ kd) (hdg : decode cc pc = .ok (.getfield 1, 3)) (kk : W p l e R s m args below meth c H locs cells slots Q (F0 m (pc + 3) ls (.ref x :: rest))) : W p l e R s m args below meth c H locs cells slots Q (F0 m pc ls (.ref fa :: rest)) := by
  rcases kd3 hkd with h | h | h
  · omega
  · subst h; exact va_get (D := D) (ci := 4) (v := .ref x) (C := RX4) (T := TX4) (N := 6) hx hb hts in_X4 hown hK.1.1 hP j hj rfl 5 (by decide) (hts _ q447) (fun _ h9 => h9) rfl hdg kk
  · subst h; exact va_get (D := D) (ci := 5) (v := .ref x) (C := RX5) (T := TX5) (N := 7) hx hb hts in_X5 hown hK.1.1 hP j hj rfl 5 (by decide) (hts _ q447) (fun _ h9 => h9) rfl hdg kk
theorem es5 (hx : p.tables.exec = Jvm.exec) (hb : c.code = cc) (hts : ∀ w ∈ lw_all, w.before args s = true) (hown : s.vm.findClass RX5 = some m.cls) (hK : KX D d s) (hP : va_P D vwCl ws H) (hj : ws[j]? = some (fa, .inr (3 + kd, eF x kd nu sp st nd))) (hkd : kd < 3) (h2 : 2 ≤ kd) (hdg : decode cc pc = .ok (.getfield 1, 3)) (kk : W p l e R s m args below meth c H locs cells slots Q (F0 m (pc + 3) ls (.ref x :: rest))) : W p l e R s m args below meth c H locs cells slots Q (F0 m pc ls (.ref fa :: rest)) := by
  rcases kd3 hkd with h | h | h
  · omega
  · omega
  · subst h; exact va_get (D := D) (ci := 5) (v := .ref x) (C := RX5) (T := TX5) (N := 7) hx hb hts in_X5 hown hK.1.1 hP j hj rfl 6 (by decide) (hts _ q462) (fun _ h9 => h9) rfl hdg kk
end ES
set_option maxHeartbeats 4000000 in
set_option maxRecDepth 100000 in
theorem cE_plain (l : Launch) (D : va_G) (d : Nat → ClassId) (H00 : Heap) (B : Nat → Nat) (τ : Nat → Nat → Int32) (ea : Nat) (hs : Nat → Option Nat) (ρ : va_W) (fa j kd nu sp st nd : Nat) (hj : ρ[j]? = some (fa, .inr (3 + kd, eF (B 0) kd nu sp st nd))) (hkd : kd < 3) : cU l (KX D d) H00 D yX3_plain cX3_plain 1 (some .int) (rc 1 0 0) [.ref fa] (xw d B τ ea hs ρ) (fun r0 ws => r0 = some (.int (nI sp)) ∧ ws = xw d B (put2 τ 1 0 (31 * τ 1 0 + 1)) ea hs ρ) := by
  refine cU_start RX3 rfl (by decide) (Nat.le_of_ble_eq_true rfl) ?_
  intro p e s m below meth c A hx hb hml hown hts hr hlk hnm hK hA hAN hZ hu ls hl
  have hl : lv_has ls 1 [(0, .ref fa)] := hl
  refine lv_aload_n hx hb dX3_plain_0 rfl (lv_at hl 0 rfl) ?_
  refine eg4 hx hb hts hown hK hu.1 (show (xw d B τ ea hs ρ)[j + 14]? = _ from hj) hkd dX3_plain_1 ?_
  refine lv_iconst (v := 1) hx hb dX3_plain_4 (by decide) ?_
  refine callU_N (rest := []) hx hb hml hown hts KX_st hK hA hAN hZ (cX_begins l D d H00 B τ ea hs ρ 1) (wX0_begins_nX3 hts hK ⟨Nat.le_of_ble_eq_true rfl, Nat.le_of_ble_eq_true rfl⟩) (x_recv hK hu.1) hu rfl hl.1 rfl (Nat.le_of_ble_eq_true rfl) dX3_plain_5 ⟨Nat.le_of_ble_eq_true rfl, Nat.le_of_ble_eq_true rfl⟩ (fun r ws H locs hpo hu => ?_)
  obtain ⟨rfl, rfl⟩ := hpo
  show W _ _ _ _ _ _ _ _ _ _ _ _ _ _ _ (F0 _ 8 _ [])
  refine lv_aload_n hx hb dX3_plain_8 rfl (lv_at hl 0 rfl) ?_
  refine eg1 hx hb hts hown hK hu.1 (show (xw d B (put2 τ 1 0 (31 * τ 1 0 + 1)) ea hs ρ)[j + 14]? = _ from hj) hkd dX3_plain_9 ?_
  exact rU_i hx hb hr hlk hu dX3_plain_12 (Nat.le_of_ble_eq_true rfl) (Nat.le_of_ble_eq_true rfl) (⟨rfl, rfl⟩)
set_option maxHeartbeats 4000000 in
set_option maxRecDepth 100000 in
theorem cE_usual (l : Launch) (D : va_G) (d : Nat → ClassId) (H00 : Heap) (B : Nat → Nat) (τ : Nat → Nat → Int32) (ea : Nat) (hs : Nat → Option Nat) (ρ : va_W) (fa j kd nu sp st nd : Nat) (hj : ρ[j]? = some (fa, .inr (3 + kd, eF (B 0) kd nu sp st nd))) (hkd : kd < 3) : cU l (KX D d) H00 D yX3_usual cX3_usual 1 (some .int) (rc 1 0 0) [.ref fa] (xw d B τ ea hs ρ) (fun r0 ws => r0 = some (.int (nI nu)) ∧ ws = xw d B (put2 τ 1 0 (31 * τ 1 0 + 4)) ea hs ρ) := by
  refine cU_start RX3 rfl (by decide) (Nat.le_of_ble_eq_true rfl) ?_
  intro p e s m below meth c A hx hb hml hown hts hr hlk hnm hK hA hAN hZ hu ls hl
  have hl : lv_has ls 1 [(0, .ref fa)] := hl
  refine lv_aload_n hx hb dX3_usual_0 rfl (lv_at hl 0 rfl) ?_
  refine eg4 hx hb hts hown hK hu.1 (show (xw d B τ ea hs ρ)[j + 14]? = _ from hj) hkd dX3_usual_1 ?_
  refine lv_iconst (v := 4) hx hb dX3_usual_4 (by decide) ?_
  refine callU_N (rest := []) hx hb hml hown hts KX_st hK hA hAN hZ (cX_begins l D d H00 B τ ea hs ρ 4) (wX0_begins_nX3 hts hK ⟨Nat.le_of_ble_eq_true rfl, Nat.le_of_ble_eq_true rfl⟩) (x_recv hK hu.1) hu rfl hl.1 rfl (Nat.le_of_ble_eq_true rfl) dX3_usual_5 ⟨Nat.le_of_ble_eq_true rfl, Nat.le_of_ble_eq_true rfl⟩ (fun r ws H locs hpo hu => ?_)
  obtain ⟨rfl, rfl⟩ := hpo
  show W _ _ _ _ _ _ _ _ _ _ _ _ _ _ _ (F0 _ 8 _ [])
  refine lv_aload_n hx hb dX3_usual_8 rfl (lv_at hl 0 rfl) ?_
  refine eg0 hx hb hts hown hK hu.1 (show (xw d B (put2 τ 1 0 (31 * τ 1 0 + 4)) ea hs ρ)[j + 14]? = _ from hj) hkd dX3_usual_9 ?_
  exact rU_i hx hb hr hlk hu dX3_usual_12 (Nat.le_of_ble_eq_true rfl) (Nat.le_of_ble_eq_true rfl) (⟨rfl, rfl⟩)
set_option maxHeartbeats 4000000 in
set_option maxRecDepth 100000 in
theorem cE_tell (l : Launch) (D : va_G) (d : Nat → ClassId) (H00 : Heap) (B : Nat → Nat) (τ : Nat → Nat → Int32) (ea : Nat) (hs : Nat → Option Nat) (ρ : va_W) (fa j kd nu sp st nd : Nat) (hj : ρ[j]? = some (fa, .inr (3 + kd, eF (B 0) kd nu sp st nd))) (hkd : kd < 3) : cU l (KX D d) H00 D yX3_tell cX3_tell 1 (some .int) (rc 2 0 0) [.ref fa] (xw d B τ ea hs ρ) (fun r0 ws => r0 = some (.int (nI sp)) ∧ ws = xw d B (put2 τ 1 0 (31 * τ 1 0 + 1)) ea hs ρ) := by
  refine cU_start RX3 rfl (by decide) (Nat.le_of_ble_eq_true rfl) ?_
  intro p e s m below meth c A hx hb hml hown hts hr hlk hnm hK hA hAN hZ hu ls hl
  have hl : lv_has ls 1 [(0, .ref fa)] := hl
  refine lv_aload_n hx hb dX3_tell_0 rfl (lv_at hl 0 rfl) ?_
  have hjw := (show (xw d B τ ea hs ρ)[j + 14]? = _ from hj)
  rcases kd3 hkd with h | h | h
  · subst h
    refine callU_O (rest := []) hx hb hml hown hts KX_st hK hA hAN hZ (cE_plain l D d H00 B τ ea hs ρ fa j 0 nu sp st nd hj hkd) (wX3_plain_X3_0 hts ⟨Nat.le_of_ble_eq_true rfl, Nat.le_of_ble_eq_true rfl⟩) (e_recv hK hu.1 hjw rfl) hu rfl hl.1 rfl (Nat.le_of_ble_eq_true rfl) dX3_tell_1 ⟨Nat.le_of_ble_eq_true rfl, Nat.le_of_ble_eq_true rfl⟩ (fun r ws H locs hpo hu => ?_)
    obtain ⟨rfl, rfl⟩ := hpo
    show W _ _ _ _ _ _ _ _ _ _ _ _ _ _ _ (F0 _ 4 _ [.int (nI sp)])
    exact rU_i hx hb hr hlk hu dX3_tell_4 (Nat.le_of_ble_eq_true rfl) (Nat.le_of_ble_eq_true rfl) (⟨rfl, rfl⟩)
  · subst h
    refine callU_O (rest := []) hx hb hml hown hts KX_st hK hA hAN hZ (cE_plain l D d H00 B τ ea hs ρ fa j 1 nu sp st nd hj hkd) (wX3_plain_X3_1 hts ⟨Nat.le_of_ble_eq_true rfl, Nat.le_of_ble_eq_true rfl⟩) (e_recv hK hu.1 hjw rfl) hu rfl hl.1 rfl (Nat.le_of_ble_eq_true rfl) dX3_tell_1 ⟨Nat.le_of_ble_eq_true rfl, Nat.le_of_ble_eq_true rfl⟩ (fun r ws H locs hpo hu => ?_)
    obtain ⟨rfl, rfl⟩ := hpo
    show W _ _ _ _ _ _ _ _ _ _ _ _ _ _ _ (F0 _ 4 _ [.int (nI sp)])
    exact rU_i hx hb hr hlk hu dX3_tell_4 (Nat.le_of_ble_eq_true rfl) (Nat.le_of_ble_eq_true rfl) (⟨rfl, rfl⟩)
  · subst h
    refine callU_O (rest := []) hx hb hml hown hts KX_st hK hA hAN hZ (cE_plain l D d H00 B τ ea hs ρ fa j 2 nu sp st nd hj hkd) (wX3_plain_X3_2 hts ⟨Nat.le_of_ble_eq_true rfl, Nat.le_of_ble_eq_true rfl⟩) (e_recv hK hu.1 hjw rfl) hu rfl hl.1 rfl (Nat.le_of_ble_eq_true rfl) dX3_tell_1 ⟨Nat.le_of_ble_eq_true rfl, Nat.le_of_ble_eq_true rfl⟩ (fun r ws H locs hpo hu => ?_)
    obtain ⟨rfl, rfl⟩ := hpo
    show W _ _ _ _ _ _ _ _ _ _ _ _ _ _ _ (F0 _ 4 _ [.int (nI sp)])
    exact rU_i hx hb hr hlk hu dX3_tell_4 (Nat.le_of_ble_eq_true rfl) (Nat.le_of_ble_eq_true rfl) (⟨rfl, rfl⟩)
set_option maxHeartbeats 4000000 in
set_option maxRecDepth 100000 in
theorem cS_tell (l : Launch) (D : va_G) (d : Nat → ClassId) (H00 : Heap) (B : Nat → Nat) (τ : Nat → Nat → Int32) (ea : Nat) (hs : Nat → Option Nat) (ρ : va_W) (fa j kd nu sp st nd : Nat) (hj : ρ[j]? = some (fa, .inr (3 + kd, eF (B 0) kd nu sp st nd))) (hkd : kd < 3) (h1 : 1 ≤ kd) : cU l (KX D d) H00 D yX4_tell cX4_tell 1 (some .int) (rc 3 0 0) [.ref fa] (xw d B τ ea hs ρ) (fun r0 ws => r0 = some (.int (nI sp + 100)) ∧ ws = xw d B (put2 (put2 τ 1 0 (31 * τ 1 0 + 2)) 1 0 (31 * (put2 τ 1 0 (31 * τ 1 0 + 2)) 1 0 + 1)) ea hs ρ) := by
  refine cU_start RX4 rfl (by decide) (Nat.le_of_ble_eq_true rfl) ?_
  intro p e s m below meth c A hx hb hml hown hts hr hlk hnm hK hA hAN hZ hu ls hl
  have hl : lv_has ls 1 [(0, .ref fa)] := hl
  refine lv_aload_n hx hb dX4_tell_0 rfl (lv_at hl 0 rfl) ?_
  refine es4 hx hb hts hown hK hu.1 (show (xw d B τ ea hs ρ)[j + 14]? = _ from hj) hkd h1 dX4_tell_1 ?_
  refine lv_iconst (v := 2) hx hb dX4_tell_4 (by decide) ?_
  refine callU_N (rest := []) hx hb hml hown hts KX_st hK hA hAN hZ (cX_begins l D d H00 B τ ea hs ρ 2) (wX0_begins_nX4 hts hK ⟨Nat.le_of_ble_eq_true rfl, Nat.le_of_ble_eq_true rfl⟩) (x_recv hK hu.1) hu rfl hl.1 rfl (Nat.le_of_ble_eq_true rfl) dX4_tell_5 ⟨Nat.le_of_ble_eq_true rfl, Nat.le_of_ble_eq_true rfl⟩ (fun r ws H locs hpo hu => ?_)
  obtain ⟨rfl, rfl⟩ := hpo
  show W _ _ _ _ _ _ _ _ _ _ _ _ _ _ _ (F0 _ 8 _ [])
  refine lv_aload_n hx hb dX4_tell_8 rfl (lv_at hl 0 rfl) ?_
  have hjw := (show (xw d B (put2 τ 1 0 (31 * τ 1 0 + 2)) ea hs ρ)[j + 14]? = _ from hj)
  rcases kd3 hkd with h | h | h
  · omega
  · subst h; obtain ⟨cC, hat⟩ := e_at (kd := 1) hK rfl
    refine callU_P (rest := []) hat hx hb hml hown hts KX_st hK hA hAN hZ (cE_tell l D d H00 B (put2 τ 1 0 (31 * τ 1 0 + 2)) ea hs ρ fa j 1 nu sp st nd hj hkd) (wX3_tell_sX4 hts ⟨Nat.le_of_ble_eq_true rfl, Nat.le_of_ble_eq_true rfl⟩) (e_recv hK hu.1 hjw rfl) hu rfl hl.1 rfl (Nat.le_of_ble_eq_true rfl) dX4_tell_9 ⟨Nat.le_of_ble_eq_true rfl, Nat.le_of_ble_eq_true rfl⟩ (fun r ws H locs hpo hu => ?_)
    obtain ⟨rfl, rfl⟩ := hpo
    show W _ _ _ _ _ _ _ _ _ _ _ _ _ _ _ (F0 _ 12 _ [.int (nI sp)])
    refine lv_bipush (v := 100) hx hb dX4_tell_12 (by decide) ?_
    refine lv_iadd hx hb dX4_tell_14 ?_
    exact rU_i hx hb hr hlk hu dX4_tell_15 (Nat.le_of_ble_eq_true rfl) (Nat.le_of_ble_eq_true rfl) (⟨rfl, rfl⟩)
  · subst h; obtain ⟨cC, hat⟩ := e_at (kd := 2) hK rfl
    refine callU_P (rest := []) hat hx hb hml hown hts KX_st hK hA hAN hZ (cE_tell l D d H00 B (put2 τ 1 0 (31 * τ 1 0 + 2)) ea hs ρ fa j 2 nu sp st nd hj hkd) (wX3_tell_sX4 hts ⟨Nat.le_of_ble_eq_true rfl, Nat.le_of_ble_eq_true rfl⟩) (e_recv hK hu.1 hjw rfl) hu rfl hl.1 rfl (Nat.le_of_ble_eq_true rfl) dX4_tell_9 ⟨Nat.le_of_ble_eq_true rfl, Nat.le_of_ble_eq_true rfl⟩ (fun r ws H locs hpo hu => ?_)
    obtain ⟨rfl, rfl⟩ := hpo
    show W _ _ _ _ _ _ _ _ _ _ _ _ _ _ _ (F0 _ 12 _ [.int (nI sp)])
    refine lv_bipush (v := 100) hx hb dX4_tell_12 (by decide) ?_
    refine lv_iadd hx hb dX4_tell_14 ?_
    exact rU_i hx hb hr hlk hu dX4_tell_15 (Nat.le_of_ble_eq_true rfl) (Nat.le_of_ble_eq_true rfl) (⟨rfl, rfl⟩)
set_option maxHeartbeats 4000000 in
set_option maxRecDepth 100000 in
theorem cT_tell (l : Launch) (D : va_G) (d : Nat → ClassId) (H00 : Heap) (B : Nat → Nat) (τ : Nat → Nat → Int32) (ea : Nat) (hs : Nat → Option Nat) (ρ : va_W) (fa j kd nu sp st nd : Nat) (hj : ρ[j]? = some (fa, .inr (3 + kd, eF (B 0) kd nu sp st nd))) (hkd : kd < 3) (h2 : 2 ≤ kd) : cU l (KX D d) H00 D yX5_tell cX5_tell 1 (some .int) (rc 4 0 0) [.ref fa] (xw d B τ ea hs ρ) (fun r0 ws => r0 = some (.int (nI sp + 100 + nI sp)) ∧ ws = xw d B (put2 (put2 (put2 (put2 τ 1 0 (31 * τ 1 0 + 3)) 1 0 (31 * (put2 τ 1 0 (31 * τ 1 0 + 3)) 1 0 + 2)) 1 0 (31 * (put2 (put2 τ 1 0 (31 * τ 1 0 + 3)) 1 0 (31 * (put2 τ 1 0 (31 * τ 1 0 + 3)) 1 0 + 2)) 1 0 + 1)) 1 0 (31 * (put2 (put2 (put2 τ 1 0 (31 * τ 1 0 + 3)) 1 0 (31 * (put2 τ 1 0 (31 * τ 1 0 + 3)) 1 0 + 2)) 1 0 (31 * (put2 (put2 τ 1 0 (31 * τ 1 0 + 3)) 1 0 (31 * (put2 τ 1 0 (31 * τ 1 0 + 3)) 1 0 + 2)) 1 0 + 1)) 1 0 + 1)) ea hs ρ) := by
  refine cU_start RX5 rfl (by decide) (Nat.le_of_ble_eq_true rfl) ?_
  intro p e s m below meth c A hx hb hml hown hts hr hlk hnm hK hA hAN hZ hu ls hl
  have hl : lv_has ls 1 [(0, .ref fa)] := hl
  refine lv_aload_n hx hb dX5_tell_0 rfl (lv_at hl 0 rfl) ?_
  refine es5 hx hb hts hown hK hu.1 (show (xw d B τ ea hs ρ)[j + 14]? = _ from hj) hkd h2 dX5_tell_1 ?_
  refine lv_iconst (v := 3) hx hb dX5_tell_4 (by decide) ?_
  refine callU_N (rest := []) hx hb hml hown hts KX_st hK hA hAN hZ (cX_begins l D d H00 B τ ea hs ρ 3) (wX0_begins_nX5 hts hK ⟨Nat.le_of_ble_eq_true rfl, Nat.le_of_ble_eq_true rfl⟩) (x_recv hK hu.1) hu rfl hl.1 rfl (Nat.le_of_ble_eq_true rfl) dX5_tell_5 ⟨Nat.le_of_ble_eq_true rfl, Nat.le_of_ble_eq_true rfl⟩ (fun r ws H locs hpo hu => ?_)
  obtain ⟨rfl, rfl⟩ := hpo
  show W _ _ _ _ _ _ _ _ _ _ _ _ _ _ _ (F0 _ 8 _ [])
  refine lv_aload_n hx hb dX5_tell_8 rfl (lv_at hl 0 rfl) ?_
  have h : kd = 2 := by omega
  subst h
  obtain ⟨cC, hat⟩ := e_at (kd := 2) hK rfl
  refine callU_P (rest := []) hat hx hb hml hown hts KX_st hK hA hAN hZ (cS_tell l D d H00 B (put2 τ 1 0 (31 * τ 1 0 + 3)) ea hs ρ fa j 2 nu sp st nd hj hkd (by omega)) (wX4_tell_sX5 hts ⟨Nat.le_of_ble_eq_true rfl, Nat.le_of_ble_eq_true rfl⟩) (e_recv hK hu.1 (show (xw d B (put2 τ 1 0 (31 * τ 1 0 + 3)) ea hs ρ)[j + 14]? = _ from hj) rfl) hu rfl hl.1 rfl (Nat.le_of_ble_eq_true rfl) dX5_tell_9 ⟨Nat.le_of_ble_eq_true rfl, Nat.le_of_ble_eq_true rfl⟩ (fun r ws H locs hpo hu => ?_)
  obtain ⟨rfl, rfl⟩ := hpo
  show W _ _ _ _ _ _ _ _ _ _ _ _ _ _ _ (F0 _ 12 _ [.int (nI sp + 100)])
  refine lv_aload_n hx hb dX5_tell_12 rfl (lv_at hl 0 rfl) ?_
  refine callU_O (rest := [.int (nI sp + 100)]) hx hb hml hown hts KX_st hK hA hAN hZ (cE_plain l D d H00 B (put2 (put2 (put2 τ 1 0 (31 * τ 1 0 + 3)) 1 0 (31 * (put2 τ 1 0 (31 * τ 1 0 + 3)) 1 0 + 2)) 1 0 (31 * (put2 (put2 τ 1 0 (31 * τ 1 0 + 3)) 1 0 (31 * (put2 τ 1 0 (31 * τ 1 0 + 3)) 1 0 + 2)) 1 0 + 1)) ea hs ρ fa j 2 nu sp st nd hj hkd) (wX3_plain_X5_2 hts ⟨Nat.le_of_ble_eq_true rfl, Nat.le_of_ble_eq_true rfl⟩) (e_recv hK hu.1 (show (xw d B (put2 (put2 (put2 τ 1 0 (31 * τ 1 0 + 3)) 1 0 (31 * (put2 τ 1 0 (31 * τ 1 0 + 3)) 1 0 + 2)) 1 0 (31 * (put2 (put2 τ 1 0 (31 * τ 1 0 + 3)) 1 0 (31 * (put2 τ 1 0 (31 * τ 1 0 + 3)) 1 0 + 2)) 1 0 + 1)) ea hs ρ)[j + 14]? = _ from hj) rfl) hu rfl hl.1 rfl (Nat.le_of_ble_eq_true rfl) dX5_tell_13 ⟨Nat.le_of_ble_eq_true rfl, Nat.le_of_ble_eq_true rfl⟩ (fun r ws H locs hpo hu => ?_)
  obtain ⟨rfl, rfl⟩ := hpo
  show W _ _ _ _ _ _ _ _ _ _ _ _ _ _ _ (F0 _ 16 _ [.int (nI sp), .int (nI sp + 100)])
  refine lv_iadd hx hb dX5_tell_16 ?_
  exact rU_i hx hb hr hlk hu dX5_tell_17 (Nat.le_of_ble_eq_true rfl) (Nat.le_of_ble_eq_true rfl) (⟨rfl, rfl⟩)
set_option maxHeartbeats 4000000 in
set_option maxRecDepth 100000 in
theorem cT_sniff (l : Launch) (D : va_G) (d : Nat → ClassId) (H00 : Heap) (B : Nat → Nat) (τ : Nat → Nat → Int32) (ea : Nat) (hs : Nat → Option Nat) (ρ : va_W) (fa j kd nu sp st nd : Nat) (hj : ρ[j]? = some (fa, .inr (3 + kd, eF (B 0) kd nu sp st nd))) (hkd : kd < 3) (h2 : 2 ≤ kd) : cU l (KX D d) H00 D yX5_sniff cX5_sniff 1 (some .int) (rc 1 0 0) [.ref fa] (xw d B τ ea hs ρ) (fun r0 ws => r0 = some (.int (40)) ∧ ws = xw d B (put2 τ 1 0 (31 * τ 1 0 + 5)) ea hs ρ) := by
  refine cU_start RX5 rfl (by decide) (Nat.le_of_ble_eq_true rfl) ?_
  intro p e s m below meth c A hx hb hml hown hts hr hlk hnm hK hA hAN hZ hu ls hl
  have hl : lv_has ls 1 [(0, .ref fa)] := hl
  refine lv_aload_n hx hb dX5_sniff_0 rfl (lv_at hl 0 rfl) ?_
  refine es5 hx hb hts hown hK hu.1 (show (xw d B τ ea hs ρ)[j + 14]? = _ from hj) hkd h2 dX5_sniff_1 ?_
  refine lv_iconst (v := 5) hx hb dX5_sniff_4 (by decide) ?_
  refine callU_N (rest := []) hx hb hml hown hts KX_st hK hA hAN hZ (cX_begins l D d H00 B τ ea hs ρ 5) (wX0_begins_nX5 hts hK ⟨Nat.le_of_ble_eq_true rfl, Nat.le_of_ble_eq_true rfl⟩) (x_recv hK hu.1) hu rfl hl.1 rfl (Nat.le_of_ble_eq_true rfl) dX5_sniff_5 ⟨Nat.le_of_ble_eq_true rfl, Nat.le_of_ble_eq_true rfl⟩ (fun r ws H locs hpo hu => ?_)
  obtain ⟨rfl, rfl⟩ := hpo
  show W _ _ _ _ _ _ _ _ _ _ _ _ _ _ _ (F0 _ 8 _ [])
  refine lv_bipush (v := 40) hx hb dX5_sniff_8 (by decide) ?_
  exact rU_i hx hb hr hlk hu dX5_sniff_10 (Nat.le_of_ble_eq_true rfl) (Nat.le_of_ble_eq_true rfl) (⟨rfl, rfl⟩)
