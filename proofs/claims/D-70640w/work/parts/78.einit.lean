/-! an eater is made -/
section EI
variable {p : Program} {l : Launch} {e : Env} {R : Room} {s : State} {m : MethodId} {args : Array Value} {below : List Frame} {meth : Method} {c : Code} {H : Heap} {locs : List Loc} {cells slots : Nat} {Q : State → Prop}
variable {cc : ByteArray} {pc nL : Nat} {ls : Array Slot} {rest : List Value} {D : va_G} {d : Nat → ClassId} {A : Nat → Prop} {H0 : Heap} {B : Nat → Nat} {τ : Nat → Nat → Int32} {ea : Nat} {hs : Nat → Option Nat} {ρ : va_W} {fa kd : Nat} {fs : List Value}
theorem ei_set (x y : Nat × va_E) : (xw d B τ ea hs (ρ ++ [x])).set (ρ.length + 14) y = xw d B τ ea hs (ρ ++ [y]) := by
  show xw d B τ ea hs ((ρ ++ [x]).set ρ.length y) = _
  rw [app_set]
theorem ei_at (x : Nat × va_E) : (xw d B τ ea hs (ρ ++ [x]))[ρ.length + 14]? = some x := app_last
theorem ei0 {z : Int32} (hx : p.tables.exec = Jvm.exec) (hb : c.code = cc) (hts : ∀ w ∈ lw_all, w.before args s = true) (hown : s.vm.findClass RX3 = some m.cls) (hK : KX D d s) (hnm : meth.name = "<init>") (hu : uW D A H0 H locs (xw d B τ ea hs (ρ ++ [(fa, .inr (3 + kd, fs))]))) (hkd : kd < 3) (hfs : fs.length = 5 + kd) (hdg : decode cc pc = .ok (.putfield 15, 3)) (kk : ∀ (H1 : Heap) (locs1 : List Loc), uW D A H0 H1 locs1 (xw d B τ ea hs (ρ ++ [(fa, .inr (3 + kd, fs.set 0 (.int z)))])) → W p l e R s m args below meth c H1 locs1 cells slots Q (F0 m (pc + 3) ls rest)) : W p l e R s m args below meth c H locs cells slots Q (F0 m pc ls ((.int z) :: .ref fa :: rest)) := by
  rcases kd3 hkd with h | h | h
  · subst h
    exact vb_putF (D := D) (ci := 3) (C := RX3) (T := TX3) (N := 5) (v := (.int z)) (ty := .int) hx hb hts in_X3 (vb_apart hts in_X3 tyX3 tyX3_ok nmO3 hK.1.1 rfl) hown hK.1.1 hu.1 hu.2.1 hu.2.2 (ρ.length + 14) (ei_at _) rfl 0 (by decide) (hts _ q422) (fun _ h9 => h9) rfl hnm rfl (by decide +kernel) rfl rfl (by omega) hdg (fun H1 locs1 hP hD hS => by rw [ei_set] at hP hD; exact kk H1 locs1 ⟨hP, hD, hS⟩)
  · subst h
    exact vb_putF (D := D) (ci := 4) (C := RX4) (T := TX4) (N := 6) (v := (.int z)) (ty := .int) hx hb hts in_X4 (vb_apart hts in_X4 tyX4 tyX4_ok nmO4 hK.1.1 rfl) hown hK.1.1 hu.1 hu.2.1 hu.2.2 (ρ.length + 14) (ei_at _) rfl 0 (by decide) (hts _ q422) (fun _ h9 => h9) rfl hnm rfl (by decide +kernel) rfl rfl (by omega) hdg (fun H1 locs1 hP hD hS => by rw [ei_set] at hP hD; exact kk H1 locs1 ⟨hP, hD, hS⟩)
  · subst h
    exact vb_putF (D := D) (ci := 5) (C := RX5) (T := TX5) (N := 7) (v := (.int z)) (ty := .int) hx hb hts in_X5 (vb_apart hts in_X5 tyX5 tyX5_ok nmO5 hK.1.1 rfl) hown hK.1.1 hu.1 hu.2.1 hu.2.2 (ρ.length + 14) (ei_at _) rfl 0 (by decide) (hts _ q422) (fun _ h9 => h9) rfl hnm rfl (by decide +kernel) rfl rfl (by omega) hdg (fun H1 locs1 hP hD hS => by rw [ei_set] at hP hD; exact kk H1 locs1 ⟨hP, hD, hS⟩)
theorem ei1 {z : Int32} (hx : p.tables.exec = Jvm.exec) (hb : c.code = cc) (hts : ∀ w ∈ lw_all, w.before args s = true) (hown : s.vm.findClass RX3 = some m.cls) (hK : KX D d s) (hnm : meth.name = "<init>") (hu : uW D A H0 H locs (xw d B τ ea hs (ρ ++ [(fa, .inr (3 + kd, fs))]))) (hkd : kd < 3) (hfs : fs.length = 5 + kd) (hdg : decode cc pc = .ok (.putfield 26, 3)) (kk : ∀ (H1 : Heap) (locs1 : List Loc), uW D A H0 H1 locs1 (xw d B τ ea hs (ρ ++ [(fa, .inr (3 + kd, fs.set 1 (.int z)))])) → W p l e R s m args below meth c H1 locs1 cells slots Q (F0 m (pc + 3) ls rest)) : W p l e R s m args below meth c H locs cells slots Q (F0 m pc ls ((.int z) :: .ref fa :: rest)) := by
  rcases kd3 hkd with h | h | h
  · subst h
    exact vb_putF (D := D) (ci := 3) (C := RX3) (T := TX3) (N := 5) (v := (.int z)) (ty := .int) hx hb hts in_X3 (vb_apart hts in_X3 tyX3 tyX3_ok nmO3 hK.1.1 rfl) hown hK.1.1 hu.1 hu.2.1 hu.2.2 (ρ.length + 14) (ei_at _) rfl 1 (by decide) (hts _ q423) (fun _ h9 => h9) rfl hnm rfl (by decide +kernel) rfl rfl (by omega) hdg (fun H1 locs1 hP hD hS => by rw [ei_set] at hP hD; exact kk H1 locs1 ⟨hP, hD, hS⟩)
  · subst h
    exact vb_putF (D := D) (ci := 4) (C := RX4) (T := TX4) (N := 6) (v := (.int z)) (ty := .int) hx hb hts in_X4 (vb_apart hts in_X4 tyX4 tyX4_ok nmO4 hK.1.1 rfl) hown hK.1.1 hu.1 hu.2.1 hu.2.2 (ρ.length + 14) (ei_at _) rfl 1 (by decide) (hts _ q423) (fun _ h9 => h9) rfl hnm rfl (by decide +kernel) rfl rfl (by omega) hdg (fun H1 locs1 hP hD hS => by rw [ei_set] at hP hD; exact kk H1 locs1 ⟨hP, hD, hS⟩)
  · subst h
    exact vb_putF (D := D) (ci := 5) (C := RX5) (T := TX5) (N := 7) (v := (.int z)) (ty := .int) hx hb hts in_X5 (vb_apart hts in_X5 tyX5 tyX5_ok nmO5 hK.1.1 rfl) hown hK.1.1 hu.1 hu.2.1 hu.2.2 (ρ.length + 14) (ei_at _) rfl 1 (by decide) (hts _ q423) (fun _ h9 => h9) rfl hnm rfl (by decide +kernel) rfl rfl (by omega) hdg (fun H1 locs1 hP hD hS => by rw [ei_set] at hP hD; exact kk H1 locs1 ⟨hP, hD, hS⟩)
theorem ei2 {z : Int32} (hx : p.tables.exec = Jvm.exec) (hb : c.code = cc) (hts : ∀ w ∈ lw_all, w.before args s = true) (hown : s.vm.findClass RX3 = some m.cls) (hK : KX D d s) (hnm : meth.name = "<init>") (hu : uW D A H0 H locs (xw d B τ ea hs (ρ ++ [(fa, .inr (3 + kd, fs))]))) (hkd : kd < 3) (hfs : fs.length = 5 + kd) (hdg : decode cc pc = .ok (.putfield 23, 3)) (kk : ∀ (H1 : Heap) (locs1 : List Loc), uW D A H0 H1 locs1 (xw d B τ ea hs (ρ ++ [(fa, .inr (3 + kd, fs.set 2 (.int z)))])) → W p l e R s m args below meth c H1 locs1 cells slots Q (F0 m (pc + 3) ls rest)) : W p l e R s m args below meth c H locs cells slots Q (F0 m pc ls ((.int z) :: .ref fa :: rest)) := by
  rcases kd3 hkd with h | h | h
  · subst h
    exact vb_put (D := D) (ci := 3) (C := RX3) (T := TX3) (N := 5) (v := (.int z)) (ty := .int) hx hb hts in_X3 (vb_apart hts in_X3 tyX3 tyX3_ok nmO3 hK.1.1 rfl) hown hK.1.1 hu.1 hu.2.1 hu.2.2 (ρ.length + 14) (ei_at _) rfl 2 (by decide) (hts _ q425) (fun _ h9 => h9) rfl (by decide +kernel) rfl rfl (by omega) hdg (fun H1 locs1 hP hD hS => by rw [ei_set] at hP hD; exact kk H1 locs1 ⟨hP, hD, hS⟩)
  · subst h
    exact vb_put (D := D) (ci := 4) (C := RX4) (T := TX4) (N := 6) (v := (.int z)) (ty := .int) hx hb hts in_X4 (vb_apart hts in_X4 tyX4 tyX4_ok nmO4 hK.1.1 rfl) hown hK.1.1 hu.1 hu.2.1 hu.2.2 (ρ.length + 14) (ei_at _) rfl 2 (by decide) (hts _ q425) (fun _ h9 => h9) rfl (by decide +kernel) rfl rfl (by omega) hdg (fun H1 locs1 hP hD hS => by rw [ei_set] at hP hD; exact kk H1 locs1 ⟨hP, hD, hS⟩)
  · subst h
    exact vb_put (D := D) (ci := 5) (C := RX5) (T := TX5) (N := 7) (v := (.int z)) (ty := .int) hx hb hts in_X5 (vb_apart hts in_X5 tyX5 tyX5_ok nmO5 hK.1.1 rfl) hown hK.1.1 hu.1 hu.2.1 hu.2.2 (ρ.length + 14) (ei_at _) rfl 2 (by decide) (hts _ q425) (fun _ h9 => h9) rfl (by decide +kernel) rfl rfl (by omega) hdg (fun H1 locs1 hP hD hS => by rw [ei_set] at hP hD; exact kk H1 locs1 ⟨hP, hD, hS⟩)
theorem ei3 {z : Int32} (hx : p.tables.exec = Jvm.exec) (hb : c.code = cc) (hts : ∀ w ∈ lw_all, w.before args s = true) (hown : s.vm.findClass RX3 = some m.cls) (hK : KX D d s) (hnm : meth.name = "<init>") (hu : uW D A H0 H locs (xw d B τ ea hs (ρ ++ [(fa, .inr (3 + kd, fs))]))) (hkd : kd < 3) (hfs : fs.length = 5 + kd) (hdg : decode cc pc = .ok (.putfield 29, 3)) (kk : ∀ (H1 : Heap) (locs1 : List Loc), uW D A H0 H1 locs1 (xw d B τ ea hs (ρ ++ [(fa, .inr (3 + kd, fs.set 3 (.int z)))])) → W p l e R s m args below meth c H1 locs1 cells slots Q (F0 m (pc + 3) ls rest)) : W p l e R s m args below meth c H locs cells slots Q (F0 m pc ls ((.int z) :: .ref fa :: rest)) := by
  rcases kd3 hkd with h | h | h
  · subst h
    exact vb_put (D := D) (ci := 3) (C := RX3) (T := TX3) (N := 5) (v := (.int z)) (ty := .int) hx hb hts in_X3 (vb_apart hts in_X3 tyX3 tyX3_ok nmO3 hK.1.1 rfl) hown hK.1.1 hu.1 hu.2.1 hu.2.2 (ρ.length + 14) (ei_at _) rfl 3 (by decide) (hts _ q427) (fun _ h9 => h9) rfl (by decide +kernel) rfl rfl (by omega) hdg (fun H1 locs1 hP hD hS => by rw [ei_set] at hP hD; exact kk H1 locs1 ⟨hP, hD, hS⟩)
  · subst h
    exact vb_put (D := D) (ci := 4) (C := RX4) (T := TX4) (N := 6) (v := (.int z)) (ty := .int) hx hb hts in_X4 (vb_apart hts in_X4 tyX4 tyX4_ok nmO4 hK.1.1 rfl) hown hK.1.1 hu.1 hu.2.1 hu.2.2 (ρ.length + 14) (ei_at _) rfl 3 (by decide) (hts _ q427) (fun _ h9 => h9) rfl (by decide +kernel) rfl rfl (by omega) hdg (fun H1 locs1 hP hD hS => by rw [ei_set] at hP hD; exact kk H1 locs1 ⟨hP, hD, hS⟩)
  · subst h
    exact vb_put (D := D) (ci := 5) (C := RX5) (T := TX5) (N := 7) (v := (.int z)) (ty := .int) hx hb hts in_X5 (vb_apart hts in_X5 tyX5 tyX5_ok nmO5 hK.1.1 rfl) hown hK.1.1 hu.1 hu.2.1 hu.2.2 (ρ.length + 14) (ei_at _) rfl 3 (by decide) (hts _ q427) (fun _ h9 => h9) rfl (by decide +kernel) rfl rfl (by omega) hdg (fun H1 locs1 hP hD hS => by rw [ei_set] at hP hD; exact kk H1 locs1 ⟨hP, hD, hS⟩)
theorem ei4 (hx : p.tables.exec = Jvm.exec) (hb : c.code = cc) (hts : ∀ w ∈ lw_all, w.before args s = true) (hown : s.vm.findClass RX3 = some m.cls) (hK : KX D d s) (hnm : meth.name = "<init>") (hu : uW D A H0 H locs (xw d B τ ea hs (ρ ++ [(fa, .inr (3 + kd, fs))]))) (hkd : kd < 3) (hfs : fs.length = 5 + kd) (hdg : decode cc pc = .ok (.putfield 3, 3)) (kk : ∀ (H1 : Heap) (locs1 : List Loc), uW D A H0 H1 locs1 (xw d B τ ea hs (ρ ++ [(fa, .inr (3 + kd, fs.set 4 (.ref (B 0))))])) → W p l e R s m args below meth c H1 locs1 cells slots Q (F0 m (pc + 3) ls rest)) : W p l e R s m args below meth c H locs cells slots Q (F0 m pc ls ((.ref (B 0)) :: .ref fa :: rest)) := by
  rcases kd3 hkd with h | h | h
  · subst h
    exact vb_putF (D := D) (ci := 3) (C := RX3) (T := TX3) (N := 5) (v := (.ref (B 0))) (ty := .object "MustardFast") hx hb hts in_X3 (vb_apart hts in_X3 tyX3 tyX3_ok nmO3 hK.1.1 rfl) hown hK.1.1 hu.1 hu.2.1 hu.2.2 (ρ.length + 14) (ei_at _) rfl 4 (by decide) (hts _ q429) (fun _ h9 => h9) rfl hnm rfl (by decide +kernel) rfl rfl (by omega) hdg (fun H1 locs1 hP hD hS => by rw [ei_set] at hP hD; exact kk H1 locs1 ⟨hP, hD, hS⟩)
  · subst h
    exact vb_putF (D := D) (ci := 4) (C := RX4) (T := TX4) (N := 6) (v := (.ref (B 0))) (ty := .object "MustardFast") hx hb hts in_X4 (vb_apart hts in_X4 tyX4 tyX4_ok nmO4 hK.1.1 rfl) hown hK.1.1 hu.1 hu.2.1 hu.2.2 (ρ.length + 14) (ei_at _) rfl 4 (by decide) (hts _ q429) (fun _ h9 => h9) rfl hnm rfl (by decide +kernel) rfl rfl (by omega) hdg (fun H1 locs1 hP hD hS => by rw [ei_set] at hP hD; exact kk H1 locs1 ⟨hP, hD, hS⟩)
  · subst h
    exact vb_putF (D := D) (ci := 5) (C := RX5) (T := TX5) (N := 7) (v := (.ref (B 0))) (ty := .object "MustardFast") hx hb hts in_X5 (vb_apart hts in_X5 tyX5 tyX5_ok nmO5 hK.1.1 rfl) hown hK.1.1 hu.1 hu.2.1 hu.2.2 (ρ.length + 14) (ei_at _) rfl 4 (by decide) (hts _ q429) (fun _ h9 => h9) rfl hnm rfl (by decide +kernel) rfl rfl (by omega) hdg (fun H1 locs1 hP hD hS => by rw [ei_set] at hP hD; exact kk H1 locs1 ⟨hP, hD, hS⟩)
theorem ei5 (hx : p.tables.exec = Jvm.exec) (hb : c.code = cc) (hts : ∀ w ∈ lw_all, w.before args s = true) (hown : s.vm.findClass RX4 = some m.cls) (hK : KX D d s) (hnm : meth.name = "<init>") (hu : uW D A H0 H locs (xw d B τ ea hs (ρ ++ [(fa, .inr (3 + kd, fs))]))) (hkd : kd < 3) (hge : 1 ≤ kd) (hfs : fs.length = 5 + kd) (hdg : decode cc pc = .ok (.putfield 1, 3)) (kk : ∀ (H1 : Heap) (locs1 : List Loc), uW D A H0 H1 locs1 (xw d B τ ea hs (ρ ++ [(fa, .inr (3 + kd, fs.set 5 (.ref (B 0))))])) → W p l e R s m args below meth c H1 locs1 cells slots Q (F0 m (pc + 3) ls rest)) : W p l e R s m args below meth c H locs cells slots Q (F0 m pc ls ((.ref (B 0)) :: .ref fa :: rest)) := by
  rcases kd3 hkd with h | h | h
  · omega
  · subst h
    exact vb_putF (D := D) (ci := 4) (C := RX4) (T := TX4) (N := 6) (v := (.ref (B 0))) (ty := .object "MustardFast") hx hb hts in_X4 (vb_apart hts in_X4 tyX4 tyX4_ok nmO4 hK.1.1 rfl) hown hK.1.1 hu.1 hu.2.1 hu.2.2 (ρ.length + 14) (ei_at _) rfl 5 (by decide) (hts _ q447) (fun _ h9 => h9) rfl hnm rfl (by decide +kernel) rfl rfl (by omega) hdg (fun H1 locs1 hP hD hS => by rw [ei_set] at hP hD; exact kk H1 locs1 ⟨hP, hD, hS⟩)
  · subst h
    exact vb_putF (D := D) (ci := 5) (C := RX5) (T := TX5) (N := 7) (v := (.ref (B 0))) (ty := .object "MustardFast") hx hb hts in_X5 (vb_apart hts in_X5 tyX5 tyX5_ok nmO5 hK.1.1 rfl) hown hK.1.1 hu.1 hu.2.1 hu.2.2 (ρ.length + 14) (ei_at _) rfl 5 (by decide) (hts _ q447) (fun _ h9 => h9) rfl hnm rfl (by decide +kernel) rfl rfl (by omega) hdg (fun H1 locs1 hP hD hS => by rw [ei_set] at hP hD; exact kk H1 locs1 ⟨hP, hD, hS⟩)
theorem ei6 (hx : p.tables.exec = Jvm.exec) (hb : c.code = cc) (hts : ∀ w ∈ lw_all, w.before args s = true) (hown : s.vm.findClass RX5 = some m.cls) (hK : KX D d s) (hnm : meth.name = "<init>") (hu : uW D A H0 H locs (xw d B τ ea hs (ρ ++ [(fa, .inr (3 + kd, fs))]))) (hkd : kd < 3) (hge : 2 ≤ kd) (hfs : fs.length = 5 + kd) (hdg : decode cc pc = .ok (.putfield 1, 3)) (kk : ∀ (H1 : Heap) (locs1 : List Loc), uW D A H0 H1 locs1 (xw d B τ ea hs (ρ ++ [(fa, .inr (3 + kd, fs.set 6 (.ref (B 0))))])) → W p l e R s m args below meth c H1 locs1 cells slots Q (F0 m (pc + 3) ls rest)) : W p l e R s m args below meth c H locs cells slots Q (F0 m pc ls ((.ref (B 0)) :: .ref fa :: rest)) := by
  rcases kd3 hkd with h | h | h
  · omega
  · omega
  · subst h
    exact vb_putF (D := D) (ci := 5) (C := RX5) (T := TX5) (N := 7) (v := (.ref (B 0))) (ty := .object "MustardFast") hx hb hts in_X5 (vb_apart hts in_X5 tyX5 tyX5_ok nmO5 hK.1.1 rfl) hown hK.1.1 hu.1 hu.2.1 hu.2.2 (ρ.length + 14) (ei_at _) rfl 6 (by decide) (hts _ q462) (fun _ h9 => h9) rfl hnm rfl (by decide +kernel) rfl rfl (by omega) hdg (fun H1 locs1 hP hD hS => by rw [ei_set] at hP hD; exact kk H1 locs1 ⟨hP, hD, hS⟩)
end EI
set_option maxHeartbeats 4000000 in
set_option maxRecDepth 100000 in
theorem cE_init (l : Launch) (D : va_G) (d : Nat → ClassId) (H00 : Heap) (B : Nat → Nat) (τ : Nat → Nat → Int32) (ea : Nat) (hs : Nat → Option Nat) (ρ : va_W) (fa kd a : Nat) (tl : List Value) (hkd : kd < 3) (htl : tl.length = kd) (ha : a < 4) : cU l (KX D d) H00 D yX3_init cX3_init 3 none (rc 1 0 0) [.ref fa, .ref (B 0), .int (nI a)] (xw d B τ ea hs (ρ ++ [(fa, .inr (3 + kd, [.int 0, .int 0, .int 0, .int 0, .null] ++ tl))])) (fun r0 ws => r0 = none ∧ ws = xw d B τ ea hs (ρ ++ [(fa, .inr (3 + kd, [.int (nI a), .int (τ 13 (4 * a + 2)), .int (τ 13 (4 * a + 1)), .int (τ 13 (4 * a + 3)), .ref (B 0)] ++ tl))])) := by
  refine cU_start RX3 rfl (by decide) (Nat.le_of_ble_eq_true rfl) ?_
  intro p e s m below meth c A hx hb hml hown hts hr hlk hnm hK hA hAN hZ hu ls hl
  have hnm := hnm rfl
  have hl : lv_has ls 3 [(0, .ref fa), (1, .ref (B 0)), (2, .int (nI a))] := hl
  refine lv_aload_n hx hb dX3_init_0 rfl (lv_at hl 0 rfl) ?_
  refine lv_aload_n hx hb dX3_init_1 rfl (lv_at hl 1 rfl) ?_
  refine ei4 hx hb hts hown hK hnm hu hkd (by simp; omega) dX3_init_2 (fun H locs hu => ?_)
  refine lv_aload_n hx hb dX3_init_5 rfl (lv_at hl 0 rfl) ?_
  refine W.objInit hx hb hown (hts _ q421) (hts _ q82) (hts _ q83) rfl (by rw [hml]; exact hl.1) rfl dX3_init_6 (Nat.le_of_ble_eq_true rfl) (Nat.le_of_ble_eq_true rfl) ?_
  refine lv_aload_n hx hb dX3_init_9 rfl (lv_at hl 0 rfl) ?_
  refine lv_iload_n hx hb dX3_init_10 rfl (lv_at hl 2 rfl) ?_
  refine ei0 hx hb hts hown hK hnm hu hkd (by simp; omega) dX3_init_11 (fun H locs hu => ?_)
  refine lv_aload_n hx hb dX3_init_14 rfl (lv_at hl 0 rfl) ?_
  refine lv_aload_n hx hb dX3_init_15 rfl (lv_at hl 1 rfl) ?_
  refine xn13 hx hb hts hown hK hu.1 dX3_init_16 ?_
  refine lv_iconst (v := nI 4) hx hb dX3_init_19 (by decide) ?_
  refine lv_iload_n hx hb dX3_init_20 rfl (lv_at hl 2 rfl) ?_
  refine lv_imul hx hb dX3_init_21 ?_
  refine top_i (y := nI (4 * a)) (by rw [pk_mul]) ?_
  refine lv_iconst (v := nI 1) hx hb dX3_init_22 (by decide) ?_
  refine lv_iadd hx hb dX3_init_23 ?_
  refine top_i (nI_add (4 * a) 1) ?_
  refine xa13 hx hb hK hu.1 (j := 4 * a + 1) (by omega) dX3_init_24 ?_
  refine ei2 hx hb hts hown hK hnm hu hkd (by simp; omega) dX3_init_25 (fun H locs hu => ?_)
  refine lv_aload_n hx hb dX3_init_28 rfl (lv_at hl 0 rfl) ?_
  refine lv_aload_n hx hb dX3_init_29 rfl (lv_at hl 1 rfl) ?_
  refine xn13 hx hb hts hown hK hu.1 dX3_init_30 ?_
  refine lv_iconst (v := nI 4) hx hb dX3_init_33 (by decide) ?_
  refine lv_iload_n hx hb dX3_init_34 rfl (lv_at hl 2 rfl) ?_
  refine lv_imul hx hb dX3_init_35 ?_
  refine top_i (y := nI (4 * a)) (by rw [pk_mul]) ?_
  refine lv_iconst (v := nI 2) hx hb dX3_init_36 (by decide) ?_
  refine lv_iadd hx hb dX3_init_37 ?_
  refine top_i (nI_add (4 * a) 2) ?_
  refine xa13 hx hb hK hu.1 (j := 4 * a + 2) (by omega) dX3_init_38 ?_
  refine ei1 hx hb hts hown hK hnm hu hkd (by simp; omega) dX3_init_39 (fun H locs hu => ?_)
  refine lv_aload_n hx hb dX3_init_42 rfl (lv_at hl 0 rfl) ?_
  refine lv_aload_n hx hb dX3_init_43 rfl (lv_at hl 1 rfl) ?_
  refine xn13 hx hb hts hown hK hu.1 dX3_init_44 ?_
  refine lv_iconst (v := nI 4) hx hb dX3_init_47 (by decide) ?_
  refine lv_iload_n hx hb dX3_init_48 rfl (lv_at hl 2 rfl) ?_
  refine lv_imul hx hb dX3_init_49 ?_
  refine top_i (y := nI (4 * a)) (by rw [pk_mul]) ?_
  refine lv_iconst (v := nI 3) hx hb dX3_init_50 (by decide) ?_
  refine lv_iadd hx hb dX3_init_51 ?_
  refine top_i (nI_add (4 * a) 3) ?_
  refine xa13 hx hb hK hu.1 (j := 4 * a + 3) (by omega) dX3_init_52 ?_
  refine ei3 hx hb hts hown hK hnm hu hkd (by simp; omega) dX3_init_53 (fun H locs hu => ?_)
  exact rU_v hx hb hr hlk hu dX3_init_56 (Nat.le_of_ble_eq_true rfl) (Nat.le_of_ble_eq_true rfl) ⟨rfl, rfl⟩
theorem wX3_init_X4 {R : Room} {s : State} {args : Array Value} {rm : Room} (hts : ∀ w ∈ lw_all, w.before args s = true) (hR : rm.frames + 1 ≤ R.frames ∧ 8 + (3 + 11) + rm.locals ≤ R.locals) : CallB R s args RX4 7 yX3_init cX3_init 3 none (ws_ yX3_init cX3_init 3 none) rm rm.cells rm.slots 2 ∧ yX3_init.name = "<init>" ∧ (Cond.instanceMethod yX3_init).before args s = true := ⟨callB_of 2 hts (lw_meth q420) rfl rfl rfl (hts _ q68) (hts _ q446) (by decide +kernel) hR, rfl, hts _ q419⟩
theorem wX4_init_X5 {R : Room} {s : State} {args : Array Value} {rm : Room} (hts : ∀ w ∈ lw_all, w.before args s = true) (hR : rm.frames + 1 ≤ R.frames ∧ 8 + (3 + 11) + rm.locals ≤ R.locals) : CallB R s args RX5 7 yX4_init cX4_init 3 none (ws_ yX4_init cX4_init 3 none) rm rm.cells rm.slots 2 ∧ yX4_init.name = "<init>" ∧ (Cond.instanceMethod yX4_init).before args s = true := ⟨callB_of 2 hts (lw_meth q445) rfl rfl rfl (hts _ q69) (hts _ q461) (by decide +kernel) hR, rfl, hts _ q444⟩
theorem wX3_init_X0 {R : Room} {s : State} {args : Array Value} {rm : Room} (hts : ∀ w ∈ lw_all, w.before args s = true) (hR : rm.frames + 1 ≤ R.frames ∧ 8 + (3 + 11) + rm.locals ≤ R.locals) : CallB R s args RX0 69 yX3_init cX3_init 3 none (ws_ yX3_init cX3_init 3 none) rm rm.cells rm.slots 2 ∧ yX3_init.name = "<init>" ∧ (Cond.instanceMethod yX3_init).before args s = true := ⟨callB_of 2 hts (lw_meth q420) rfl rfl rfl (hts _ q68) (hts _ q418) (by decide +kernel) hR, rfl, hts _ q419⟩
theorem wX4_init_X0 {R : Room} {s : State} {args : Array Value} {rm : Room} (hts : ∀ w ∈ lw_all, w.before args s = true) (hR : rm.frames + 1 ≤ R.frames ∧ 8 + (3 + 11) + rm.locals ≤ R.locals) : CallB R s args RX0 74 yX4_init cX4_init 3 none (ws_ yX4_init cX4_init 3 none) rm rm.cells rm.slots 2 ∧ yX4_init.name = "<init>" ∧ (Cond.instanceMethod yX4_init).before args s = true := ⟨callB_of 2 hts (lw_meth q445) rfl rfl rfl (hts _ q69) (hts _ q443) (by decide +kernel) hR, rfl, hts _ q444⟩
theorem wX5_init_X0 {R : Room} {s : State} {args : Array Value} {rm : Room} (hts : ∀ w ∈ lw_all, w.before args s = true) (hR : rm.frames + 1 ≤ R.frames ∧ 8 + (3 + 11) + rm.locals ≤ R.locals) : CallB R s args RX0 77 yX5_init cX5_init 3 none (ws_ yX5_init cX5_init 3 none) rm rm.cells rm.slots 2 ∧ yX5_init.name = "<init>" ∧ (Cond.instanceMethod yX5_init).before args s = true := ⟨callB_of 2 hts (lw_meth q460) rfl rfl rfl (hts _ q70) (hts _ q458) (by decide +kernel) hR, rfl, hts _ q459⟩
set_option maxHeartbeats 4000000 in
set_option maxRecDepth 100000 in
theorem cS_init (l : Launch) (D : va_G) (d : Nat → ClassId) (H00 : Heap) (B : Nat → Nat) (τ : Nat → Nat → Int32) (ea : Nat) (hs : Nat → Option Nat) (ρ : va_W) (fa kd a : Nat) (tl : List Value) (hkd : kd < 3) (hge : 1 ≤ kd) (htl : tl.length + 1 = kd) (ha : a < 4) : cU l (KX D d) H00 D yX4_init cX4_init 3 none (rc 2 0 0) [.ref fa, .ref (B 0), .int (nI a)] (xw d B τ ea hs (ρ ++ [(fa, .inr (3 + kd, [.int 0, .int 0, .int 0, .int 0, .null] ++ .null :: tl))])) (fun r0 ws => r0 = none ∧ ws = xw d B τ ea hs (ρ ++ [(fa, .inr (3 + kd, [.int (nI a), .int (τ 13 (4 * a + 2)), .int (τ 13 (4 * a + 1)), .int (τ 13 (4 * a + 3)), .ref (B 0)] ++ .ref (B 0) :: tl))])) := by
  refine cU_start RX4 rfl (by decide) (Nat.le_of_ble_eq_true rfl) ?_
  intro p e s m below meth c A hx hb hml hown hts hr hlk hnm hK hA hAN hZ hu ls hl
  have hnm := hnm rfl
  have hl : lv_has ls 3 [(0, .ref fa), (1, .ref (B 0)), (2, .int (nI a))] := hl
  refine lv_aload_n hx hb dX4_init_0 rfl (lv_at hl 0 rfl) ?_
  refine lv_aload_n hx hb dX4_init_1 rfl (lv_at hl 1 rfl) ?_
  refine ei5 hx hb hts hown hK hnm hu hkd hge (by simp; omega) dX4_init_2 (fun H locs hu => ?_)
  refine lv_aload_n hx hb dX4_init_5 rfl (lv_at hl 0 rfl) ?_
  refine lv_aload_n hx hb dX4_init_6 rfl (lv_at hl 1 rfl) ?_
  refine lv_iload_n hx hb dX4_init_7 rfl (lv_at hl 2 rfl) ?_
  refine callU_I (rest := []) hx hb hml hown hts KX_st hK hA hAN hZ (cE_init l D d H00 B τ ea hs ρ fa kd a (.ref (B 0) :: tl) hkd (by simp; omega) ha) (wX3_init_X4 hts ⟨Nat.le_of_ble_eq_true rfl, Nat.le_of_ble_eq_true rfl⟩) hu rfl hl.1 rfl (Nat.le_of_ble_eq_true rfl) dX4_init_8 ⟨Nat.le_of_ble_eq_true rfl, Nat.le_of_ble_eq_true rfl⟩ (fun r ws H locs hpo hu => ?_)
  obtain ⟨rfl, rfl⟩ := hpo
  exact rU_v hx hb hr hlk hu dX4_init_11 (Nat.le_of_ble_eq_true rfl) (Nat.le_of_ble_eq_true rfl) ⟨rfl, rfl⟩
set_option maxHeartbeats 4000000 in
set_option maxRecDepth 100000 in
theorem cT_init (l : Launch) (D : va_G) (d : Nat → ClassId) (H00 : Heap) (B : Nat → Nat) (τ : Nat → Nat → Int32) (ea : Nat) (hs : Nat → Option Nat) (ρ : va_W) (fa a : Nat) (ha : a < 4) : cU l (KX D d) H00 D yX5_init cX5_init 3 none (rc 3 0 0) [.ref fa, .ref (B 0), .int (nI a)] (xw d B τ ea hs (ρ ++ [(fa, .inr (3 + 2, [.int 0, .int 0, .int 0, .int 0, .null] ++ [.null, .null]))])) (fun r0 ws => r0 = none ∧ ws = xw d B τ ea hs (ρ ++ [(fa, .inr (3 + 2, [.int (nI a), .int (τ 13 (4 * a + 2)), .int (τ 13 (4 * a + 1)), .int (τ 13 (4 * a + 3)), .ref (B 0)] ++ [.ref (B 0), .ref (B 0)]))])) := by
  refine cU_start RX5 rfl (by decide) (Nat.le_of_ble_eq_true rfl) ?_
  intro p e s m below meth c A hx hb hml hown hts hr hlk hnm hK hA hAN hZ hu ls hl
  have hnm := hnm rfl
  have hl : lv_has ls 3 [(0, .ref fa), (1, .ref (B 0)), (2, .int (nI a))] := hl
  refine lv_aload_n hx hb dX5_init_0 rfl (lv_at hl 0 rfl) ?_
  refine lv_aload_n hx hb dX5_init_1 rfl (lv_at hl 1 rfl) ?_
  refine ei6 (kd := 2) hx hb hts hown hK hnm hu (by decide) (by decide) rfl dX5_init_2 (fun H locs hu => ?_)
  refine lv_aload_n hx hb dX5_init_5 rfl (lv_at hl 0 rfl) ?_
  refine lv_aload_n hx hb dX5_init_6 rfl (lv_at hl 1 rfl) ?_
  refine lv_iload_n hx hb dX5_init_7 rfl (lv_at hl 2 rfl) ?_
  refine callU_I (rest := []) hx hb hml hown hts KX_st hK hA hAN hZ (cS_init l D d H00 B τ ea hs ρ fa 2 a [.ref (B 0)] (by decide) (by decide) rfl ha) (wX4_init_X5 hts ⟨Nat.le_of_ble_eq_true rfl, Nat.le_of_ble_eq_true rfl⟩) hu rfl hl.1 rfl (Nat.le_of_ble_eq_true rfl) dX5_init_8 ⟨Nat.le_of_ble_eq_true rfl, Nat.le_of_ble_eq_true rfl⟩ (fun r ws H locs hpo hu => ?_)
  obtain ⟨rfl, rfl⟩ := hpo
  exact rU_v hx hb hr hlk hu dX5_init_11 (Nat.le_of_ble_eq_true rfl) (Nat.le_of_ble_eq_true rfl) ⟨rfl, rfl⟩
set_option maxHeartbeats 4000000 in
set_option maxRecDepth 100000 in
theorem cX_newEater (l : Launch) (D : va_G) (d : Nat → ClassId) (H00 : Heap) (B : Nat → Nat) (τ : Nat → Nat → Int32) (ea : Nat) (hs : Nat → Option Nat) (ρ : va_W) (a kd st sp nd : Nat) (ha : a < 4) (hkd : kd < 3) (h0 : τ 13 (4 * a) = nI kd) (h1 : τ 13 (4 * a + 1) = nI st) (h2 : τ 13 (4 * a + 2) = nI sp) (h3 : τ 13 (4 * a + 3) = nI nd) : cU l (KX D d) H00 D yX0_newEater cX0_newEater 3 (some (.object "MustardFast$Eater")) (rc 4 1 7) [.ref (B 0), .int (nI a)] (xw d B τ ea hs ρ) (fun r0 ws => ∃ fa, r0 = some (.ref fa) ∧ ws = xw d B τ ea hs (ρ ++ [(fa, .inr (3 + kd, eF (B 0) kd a sp st nd))])) := by
  refine cU_start RX0 rfl (by decide) (Nat.le_of_ble_eq_true rfl) ?_
  intro p e s m below meth c A hx hb hml hown hts hr hlk hnm hK hA hAN hZ hu ls hl
  have hl : lv_has ls 3 [(0, .ref (B 0)), (1, .int (nI a))] := hl
  refine lv_aload_n hx hb dX0_newEater_0 rfl (lv_at hl 0 rfl) ?_
  refine xg13 hx hb hts hown hK hu.1 dX0_newEater_1 ?_
  refine lv_iconst (v := nI 4) hx hb dX0_newEater_4 (by decide) ?_
  refine lv_iload_n hx hb dX0_newEater_5 rfl (lv_at hl 1 rfl) ?_
  refine lv_imul hx hb dX0_newEater_6 ?_
  refine top_i (y := nI (4 * a)) (by rw [pk_mul]) ?_
  refine xa13 hx hb hK hu.1 (j := 4 * a) (by omega) dX0_newEater_7 ?_
  refine top_i h0 ?_
  refine lv_istore_n (lv' := [(2, .int (nI kd)), (0, .ref (B 0)), (1, .int (nI a))]) hx hb dX0_newEater_8 rfl hl (by decide) rfl (fun ls hl => ?_)
  refine lv_iload_n hx hb dX0_newEater_9 rfl (lv_at hl 0 rfl) ?_
  rcases kd3 hkd with h | h | h
  · subst h
    refine lv_if_ne (tgt := 25) hx hb dX0_newEater_10 (by decide) (fun c0 => absurd rfl c0) (fun _ => ?_)
    refine va_new (D := D) (ci := 3) (C := RX3) (T := TX3) (N := 5) (fs := [.int 0, .int 0, .int 0, .int 0, .null]) hx hb hts in_X3 tyX3 tyX3_ok hown (hts _ q416) (hts _ q417) (hts _ q68) hK.1.1 hu.1 hu.2.1 hu.2.2 hA rfl (by decide) (Nat.le_of_ble_eq_true rfl) (Nat.le_of_ble_eq_true rfl) dX0_newEater_13 (fun q H g1 g2 g3 => ?_)
    have hu : uW D A s.heap H [] (xw d B τ ea hs (ρ ++ [(q, .inr (3 + 0, [.int 0, .int 0, .int 0, .int 0, .null]))])) := ⟨g1, g2, g3⟩
    refine lv_dup hx hb dX0_newEater_16 rfl ?_
    refine lv_aload_n hx hb dX0_newEater_17 rfl (lv_at hl 1 rfl) ?_
    refine lv_iload_n hx hb dX0_newEater_18 rfl (lv_at hl 2 rfl) ?_
    refine callU_I (rest := [.ref q]) hx hb hml hown hts KX_st hK hA hAN hZ (cE_init l D d H00 B τ ea hs ρ q 0 a [] (by decide) rfl ha) (wX3_init_X0 hts ⟨Nat.le_of_ble_eq_true rfl, Nat.le_of_ble_eq_true rfl⟩) hu rfl hl.1 rfl (Nat.le_of_ble_eq_true rfl) dX0_newEater_19 ⟨Nat.le_of_ble_eq_true rfl, Nat.le_of_ble_eq_true rfl⟩ (fun r ws H locs hpo hu => ?_)
    obtain ⟨rfl, rfl⟩ := hpo
    refine lv_goto (tgt := 51) hx hb dX0_newEater_22 (by decide) ?_
    refine rU_a hx hb hr (Or.inl ⟨_, rfl⟩) hlk hu dX0_newEater_51 (Nat.le_of_ble_eq_true rfl) (Nat.le_of_ble_eq_true rfl) ⟨q, rfl, ?_⟩
    rw [h1, h2, h3]
    rfl
  · subst h
    refine lv_if_ne (tgt := 25) hx hb dX0_newEater_10 (by decide) (fun _ => ?_) (fun c0 => absurd c0 (by decide))
    refine lv_iload_n hx hb dX0_newEater_25 rfl (lv_at hl 0 rfl) ?_
    refine lv_iconst (v := 1) hx hb dX0_newEater_26 (by decide) ?_
    refine lv_icmp_ne (tgt := 42) hx hb dX0_newEater_27 (by decide) (fun c0 => absurd rfl c0) (fun _ => ?_)
    refine va_new (D := D) (ci := 4) (C := RX4) (T := TX4) (N := 6) (fs := [.int 0, .int 0, .int 0, .int 0, .null] ++ [.null]) hx hb hts in_X4 tyX4 tyX4_ok hown (hts _ q441) (hts _ q442) (hts _ q69) hK.1.1 hu.1 hu.2.1 hu.2.2 hA rfl (by decide) (Nat.le_of_ble_eq_true rfl) (Nat.le_of_ble_eq_true rfl) dX0_newEater_30 (fun q H g1 g2 g3 => ?_)
    have hu : uW D A s.heap H [] (xw d B τ ea hs (ρ ++ [(q, .inr (3 + 1, [.int 0, .int 0, .int 0, .int 0, .null] ++ [.null]))])) := ⟨g1, g2, g3⟩
    refine lv_dup hx hb dX0_newEater_33 rfl ?_
    refine lv_aload_n hx hb dX0_newEater_34 rfl (lv_at hl 1 rfl) ?_
    refine lv_iload_n hx hb dX0_newEater_35 rfl (lv_at hl 2 rfl) ?_
    refine callU_I (rest := [.ref q]) hx hb hml hown hts KX_st hK hA hAN hZ (cS_init l D d H00 B τ ea hs ρ q 1 a [] (by decide) (by decide) rfl ha) (wX4_init_X0 hts ⟨Nat.le_of_ble_eq_true rfl, Nat.le_of_ble_eq_true rfl⟩) hu rfl hl.1 rfl (Nat.le_of_ble_eq_true rfl) dX0_newEater_36 ⟨Nat.le_of_ble_eq_true rfl, Nat.le_of_ble_eq_true rfl⟩ (fun r ws H locs hpo hu => ?_)
    obtain ⟨rfl, rfl⟩ := hpo
    refine lv_goto (tgt := 51) hx hb dX0_newEater_39 (by decide) ?_
    refine rU_a hx hb hr (Or.inl ⟨_, rfl⟩) hlk hu dX0_newEater_51 (Nat.le_of_ble_eq_true rfl) (Nat.le_of_ble_eq_true rfl) ⟨q, rfl, ?_⟩
    rw [h1, h2, h3]
    rfl
  · subst h
    refine lv_if_ne (tgt := 25) hx hb dX0_newEater_10 (by decide) (fun _ => ?_) (fun c0 => absurd c0 (by decide))
    refine lv_iload_n hx hb dX0_newEater_25 rfl (lv_at hl 0 rfl) ?_
    refine lv_iconst (v := 1) hx hb dX0_newEater_26 (by decide) ?_
    refine lv_icmp_ne (tgt := 42) hx hb dX0_newEater_27 (by decide) (fun _ => ?_) (fun c0 => absurd c0 (by decide))
    refine va_new (D := D) (ci := 5) (C := RX5) (T := TX5) (N := 7) (fs := [.int 0, .int 0, .int 0, .int 0, .null] ++ [.null, .null]) hx hb hts in_X5 tyX5 tyX5_ok hown (hts _ q456) (hts _ q457) (hts _ q70) hK.1.1 hu.1 hu.2.1 hu.2.2 hA rfl (by decide) (Nat.le_of_ble_eq_true rfl) (Nat.le_of_ble_eq_true rfl) dX0_newEater_42 (fun q H g1 g2 g3 => ?_)
    have hu : uW D A s.heap H [] (xw d B τ ea hs (ρ ++ [(q, .inr (3 + 2, [.int 0, .int 0, .int 0, .int 0, .null] ++ [.null, .null]))])) := ⟨g1, g2, g3⟩
    refine lv_dup hx hb dX0_newEater_45 rfl ?_
    refine lv_aload_n hx hb dX0_newEater_46 rfl (lv_at hl 1 rfl) ?_
    refine lv_iload_n hx hb dX0_newEater_47 rfl (lv_at hl 2 rfl) ?_
    refine callU_I (rest := [.ref q]) hx hb hml hown hts KX_st hK hA hAN hZ (cT_init l D d H00 B τ ea hs ρ q a ha) (wX5_init_X0 hts ⟨Nat.le_of_ble_eq_true rfl, Nat.le_of_ble_eq_true rfl⟩) hu rfl hl.1 rfl (Nat.le_of_ble_eq_true rfl) dX0_newEater_48 ⟨Nat.le_of_ble_eq_true rfl, Nat.le_of_ble_eq_true rfl⟩ (fun r ws H locs hpo hu => ?_)
    obtain ⟨rfl, rfl⟩ := hpo
    refine rU_a hx hb hr (Or.inl ⟨_, rfl⟩) hlk hu dX0_newEater_51 (Nat.le_of_ble_eq_true rfl) (Nat.le_of_ble_eq_true rfl) ⟨q, rfl, ?_⟩
    rw [h1, h2, h3]
    rfl
