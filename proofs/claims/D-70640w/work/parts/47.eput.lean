/-! puts into an eater's cell: classes with two fields of one name (this$0 of Eater, Sly, Stranger) -/
set_option maxRecDepth 100000
theorem fin_apart {args : Array Value} {s : State} {C O f d O' f' d' : String} (h : (Cond.laysFinal C O f d).before args s = true) (h' : (Cond.laysFinal C O' f' d').before args s = true)
    {cf kf fi fd cf' kf' fi' fd'} (hi : s.fieldFound? O f d = some (cf, kf, fi, fd)) (hi' : s.fieldFound? O' f' d' = some (cf', kf', fi', fd')) (hne : O ≠ O') : fd.slot ≠ fd'.slot := by
  obtain ⟨a, _, c1, k1, _, g, ha, _, hg, _, _, _, ho, _, r, hr, hn, _, _⟩ := Cond.laysFinal_spec h
  obtain ⟨a', _, c2, k2, _, g', ha', _, hg', _, _, _, ho', _, r', hr', hn', _, _⟩ := Cond.laysFinal_spec h'
  cases hi.symm.trans hg
  cases hi'.symm.trans hg'
  cases ha.symm.trans ha'
  intro hs
  rw [hs] at hr
  cases hr.symm.trans hr'
  obtain ⟨q1, w1, n1⟩ := Vm.findClass_spec ho
  obtain ⟨q2, w2, n2⟩ := Vm.findClass_spec ho'
  cases w1.symm.trans (State.fieldFound?_spec hg).1
  cases w2.symm.trans (State.fieldFound?_spec hg').1
  exact hne (by rw [← n1, ← n2, ← hn, ← hn'])
section EP
variable {p : Program} {l : Launch} {e : Env} {R : Room} {s : State} {m : MethodId} {args : Array Value} {below : List Frame} {meth : Method} {c : Code} {H : Heap} {locs : List Loc} {cells slots : Nat} {Q : State → Prop}
variable {cc : ByteArray} {pc : Nat} {ls : Array Slot} {rest : List Value} {D : va_G} {cl : List vw_C} {tys : List (ClassId × FieldType)} {A : Nat → Prop} {H0 : Heap} {ws : va_W} {a : Nat}
theorem vb_apart {C : String} {T : u_T} {N ci : Nat} {Ts : List Cond} (hts : ∀ w ∈ Ts, w.before args s = true) (hin : ∀ w ∈ u_ws C T N, w ∈ Ts) (ty : Nat → FieldType) (hty : ∀ k, k < N → parseFieldDescriptor (T k).2.2.1 = some (ty k)) (hnm : ∀ a, a < N → ∀ b, b < N → a ≠ b → (T a).2.1 ≠ (T b).2.1 ∨ ((T a).2.2.2 = true ∧ (T b).2.2.2 = true ∧ (T a).1 ≠ (T b).1)) (hK : va_K D cl tys s) (hc : cl[ci]? = some (C, T, N)) : ∀ x y, x < N → y < N → x ≠ y → (D.2 ci) x ≠ (D.2 ci) y := by
  intro x y hx hy hne
  obtain ⟨hS, -⟩ := hK.1 ci _ hc
  obtain ⟨_, _, _, fa, hia, ea⟩ := hS x hx
  obtain ⟨_, _, _, fb, hib, eb⟩ := hS y hy
  rw [← ea, ← eb]
  rcases hnm x hx y hy hne with h | ⟨h1, h2, h3⟩
  · refine u_apart (u_lays hts hin hx) (u_lays hts hin hy) hia hib ?_
    rw [(State.fieldFound?_type hia (hty x hx)).1, (State.fieldFound?_type hib (hty y hy)).1]
    exact h
  · have l1 := hts _ (hin _ (u_in_lay hx))
    have l2 := hts _ (hin _ (u_in_lay hy))
    unfold u_lay at l1 l2
    rw [if_pos h1] at l1
    rw [if_pos h2] at l2
    exact fin_apart l1 l2 hia hib h3
/-- a nest mate's field that isn't final -/
theorem vb_putN (hexec : p.tables.exec = Jvm.exec) (hb : c.code = cc) {own ref C host : String} {T : u_T} {N ci index : Nat} {Ts : List Cond} (hts : ∀ w ∈ Ts, w.before args s = true) (hin : ∀ w ∈ u_ws C T N, w ∈ Ts) (hap : ∀ x y, x < N → y < N → x ≠ y → (D.2 ci) x ≠ (D.2 ci) y) (hown : s.vm.findClass own = some m.cls) (hK : va_K D cl tys s) (hP : va_P D cl ws H) (hD : va_D A ws) (hS0 : va_S A H0 H locs) (q0 : Nat) {fs : List Value} (he : ws[q0]? = some (a, .inr (ci, fs))) (hc : cl[ci]? = some (C, T, N)) (k : Nat) (hk : k < N) (hlink : (Cond.fieldLinkNest own index ref (T k).2.1 (T k).2.2.1 host).before args s = true) (hsame : ∀ x, s.fieldFound? (T k).1 (T k).2.1 (T k).2.2.1 = some x → s.fieldFound? ref (T k).2.1 (T k).2.2.1 = some x) (hfin : (T k).2.2.2 = false) {ty : FieldType} {v : Value} (hd : parseFieldDescriptor (T k).2.2.1 = some ty) (hn : narrow ty v = v) (hfit : fits ty v = true) (hl : k < fs.length)
    (hdg : decode cc pc = .ok (.putfield index, 3)) (kk : ∀ (H1 : Heap) (locs1 : List Loc), va_P D cl (ws.set q0 (a, .inr (ci, fs.set k v))) H1 → va_D A (ws.set q0 (a, .inr (ci, fs.set k v))) → va_S A H0 H1 locs1 → W p l e R s m args below meth c H1 locs1 cells slots Q (F0 m (pc + 3) ls rest)) : W p l e R s m args below meth c H locs cells slots Q (F0 m pc ls (v :: .ref a :: rest)) := by
  obtain ⟨r, h1, cell, q1, q2, q3, q4⟩ := hP q0 _ he
  have hr : r = (C, T, N) := Option.some.inj (h1.symm.trans hc)
  subst hr
  obtain ⟨hS, hfc, kC, hkC, hkind⟩ := hK.1 ci _ hc
  obtain ⟨cf, kf, fi, f, hi, hsl⟩ := hS k hk
  have hlay := hts _ (hin _ (u_in_lay hk))
  unfold u_lay at hlay
  rw [if_neg (by rw [hfin]; decide)] at hlay
  have hst := (u_facts hfc hkC (u_lays hts hin hk) hi).1
  have h6 := u_store hfc hkC hkind hlay hi hd hn hfit
  refine va_WputK hexec hb (f := f) hown hlink (hsame _ hi) hst (by rw [q2]; exact h6) q1 q3 (by rw [hsl]; exact k2_hasslot (q4 k hk)) rfl rfl hdg fun H' e1 e2 e3 => ?_
  rw [hsl] at e1 ⊢
  exact kk H' _ (hP.set hD he ⟨_, hc, t_OB.to (V := updV (vp_V fs) k v) ⟨_, e1, q2, q3, t_set q4 hap hk v⟩ (fun j _ => vp_updV_set hl v j)⟩ e3) (hD.set he) (hS0.put e2 e3 (hD.2 q0 _ he))
/-- an own field that isn't final -/
theorem vb_put (hexec : p.tables.exec = Jvm.exec) (hb : c.code = cc) {own ref C : String} {T : u_T} {N ci index : Nat} {Ts : List Cond} (hts : ∀ w ∈ Ts, w.before args s = true) (hin : ∀ w ∈ u_ws C T N, w ∈ Ts) (hap : ∀ x y, x < N → y < N → x ≠ y → (D.2 ci) x ≠ (D.2 ci) y) (hown : s.vm.findClass own = some m.cls) (hK : va_K D cl tys s) (hP : va_P D cl ws H) (hD : va_D A ws) (hS0 : va_S A H0 H locs) (q0 : Nat) {fs : List Value} (he : ws[q0]? = some (a, .inr (ci, fs))) (hc : cl[ci]? = some (C, T, N)) (k : Nat) (hk : k < N) (hlink : (Cond.fieldLink own index ref (T k).2.1 (T k).2.2.1).before args s = true) (hsame : ∀ x, s.fieldFound? (T k).1 (T k).2.1 (T k).2.2.1 = some x → s.fieldFound? ref (T k).2.1 (T k).2.2.1 = some x) (hfin : (T k).2.2.2 = false) {ty : FieldType} {v : Value} (hd : parseFieldDescriptor (T k).2.2.1 = some ty) (hn : narrow ty v = v) (hfit : fits ty v = true) (hl : k < fs.length)
    (hdg : decode cc pc = .ok (.putfield index, 3)) (kk : ∀ (H1 : Heap) (locs1 : List Loc), va_P D cl (ws.set q0 (a, .inr (ci, fs.set k v))) H1 → va_D A (ws.set q0 (a, .inr (ci, fs.set k v))) → va_S A H0 H1 locs1 → W p l e R s m args below meth c H1 locs1 cells slots Q (F0 m (pc + 3) ls rest)) : W p l e R s m args below meth c H locs cells slots Q (F0 m pc ls (v :: .ref a :: rest)) := by
  obtain ⟨r, h1, cell, q1, q2, q3, q4⟩ := hP q0 _ he
  have hr : r = (C, T, N) := Option.some.inj (h1.symm.trans hc)
  subst hr
  obtain ⟨hS, hfc, kC, hkC, hkind⟩ := hK.1 ci _ hc
  obtain ⟨cf, kf, fi, f, hi, hsl⟩ := hS k hk
  have hlay := hts _ (hin _ (u_in_lay hk))
  unfold u_lay at hlay
  rw [if_neg (by rw [hfin]; decide)] at hlay
  have hst := (u_facts hfc hkC (u_lays hts hin hk) hi).1
  have h6 := u_store hfc hkC hkind hlay hi hd hn hfit
  refine W.putK hexec hb (f := f) ⟨hown, hlink, ⟨_, _, _, hsame _ hi⟩, hst⟩ (by rw [q2]; exact h6) q1 q3 (by rw [hsl]; exact k2_hasslot (q4 k hk)) rfl rfl hdg fun H' e1 e2 e3 => ?_
  rw [hsl] at e1 ⊢
  exact kk H' _ (hP.set hD he ⟨_, hc, t_OB.to (V := updV (vp_V fs) k v) ⟨_, e1, q2, q3, t_set q4 hap hk v⟩ (fun j _ => vp_updV_set hl v j)⟩ e3) (hD.set he) (hS0.put e2 e3 (hD.2 q0 _ he))
/-- an own final field, in a constructor -/
theorem vb_putF (hexec : p.tables.exec = Jvm.exec) (hb : c.code = cc) {own ref C : String} {T : u_T} {N ci index : Nat} {Ts : List Cond} (hts : ∀ w ∈ Ts, w.before args s = true) (hin : ∀ w ∈ u_ws C T N, w ∈ Ts) (hap : ∀ x y, x < N → y < N → x ≠ y → (D.2 ci) x ≠ (D.2 ci) y) (hown : s.vm.findClass own = some m.cls) (hK : va_K D cl tys s) (hP : va_P D cl ws H) (hD : va_D A ws) (hS0 : va_S A H0 H locs) (q0 : Nat) {fs : List Value} (he : ws[q0]? = some (a, .inr (ci, fs))) (hc : cl[ci]? = some (C, T, N)) (k : Nat) (hk : k < N) (hlink : (Cond.fieldLink own index ref (T k).2.1 (T k).2.2.1).before args s = true) (hsame : ∀ x, s.fieldFound? (T k).1 (T k).2.1 (T k).2.2.1 = some x → s.fieldFound? ref (T k).2.1 (T k).2.2.1 = some x) (hfin : (T k).2.2.2 = true) (hin2 : meth.name = "<init>") (hdecl : (T k).1 = own) {ty : FieldType} {v : Value} (hd : parseFieldDescriptor (T k).2.2.1 = some ty) (hn : narrow ty v = v) (hfit : fits ty v = true) (hl : k < fs.length)
    (hdg : decode cc pc = .ok (.putfield index, 3)) (kk : ∀ (H1 : Heap) (locs1 : List Loc), va_P D cl (ws.set q0 (a, .inr (ci, fs.set k v))) H1 → va_D A (ws.set q0 (a, .inr (ci, fs.set k v))) → va_S A H0 H1 locs1 → W p l e R s m args below meth c H1 locs1 cells slots Q (F0 m (pc + 3) ls rest)) : W p l e R s m args below meth c H locs cells slots Q (F0 m pc ls (v :: .ref a :: rest)) := by
  obtain ⟨r, h1, cell, q1, q2, q3, q4⟩ := hP q0 _ he
  have hr : r = (C, T, N) := Option.some.inj (h1.symm.trans hc)
  subst hr
  obtain ⟨hS, hfc, kC, hkC, hkind⟩ := hK.1 ci _ hc
  obtain ⟨cf, kf, fi, f, hi, hsl⟩ := hS k hk
  have hlay := hts _ (hin _ (u_in_lay hk))
  unfold u_lay at hlay
  rw [if_pos hfin] at hlay
  have hst := (u_facts hfc hkC (u_lays hts hin hk) hi).1
  have hcf : m.cls = cf := by
    obtain ⟨_, _, c', _, _, _, -, -, hf', -, -, -, hown2, -⟩ := Cond.laysFinal_spec hlay
    have e1 : c' = cf := by have := hi.symm.trans hf'; simp at this; exact this.1.symm
    rw [hdecl] at hown2
    rw [← e1]; exact Option.some.inj (hown.symm.trans hown2)
  have h6 := u_fits hfc hkC hkind (Or.inr hlay) hi hd hn hfit
  refine W.putFinK hexec hb hown hlink (hsame _ hi) hst hcf hin2 (by rw [q2]; exact h6) q1 q3 (by rw [hsl]; exact k2_hasslot (q4 k hk)) rfl rfl hdg fun H' e1 e2 e3 => ?_
  rw [hsl] at e1 ⊢
  exact kk H' _ (hP.set hD he ⟨_, hc, t_OB.to (V := updV (vp_V fs) k v) ⟨_, e1, q2, q3, t_set q4 hap hk v⟩ (fun j _ => vp_updV_set hl v j)⟩ e3) (hD.set he) (hS0.put e2 e3 (hD.2 q0 _ he))
end EP
theorem nmO3 : ∀ a, a < 5 → ∀ b, b < 5 → a ≠ b → (TX3 a).2.1 ≠ (TX3 b).2.1 ∨ ((TX3 a).2.2.2 = true ∧ (TX3 b).2.2.2 = true ∧ (TX3 a).1 ≠ (TX3 b).1) := by decide +kernel
theorem nmO4 : ∀ a, a < 6 → ∀ b, b < 6 → a ≠ b → (TX4 a).2.1 ≠ (TX4 b).2.1 ∨ ((TX4 a).2.2.2 = true ∧ (TX4 b).2.2.2 = true ∧ (TX4 a).1 ≠ (TX4 b).1) := by decide +kernel
theorem nmO5 : ∀ a, a < 7 → ∀ b, b < 7 → a ≠ b → (TX5 a).2.1 ≠ (TX5 b).2.1 ∨ ((TX5 a).2.2.2 = true ∧ (TX5 b).2.2.2 = true ∧ (TX5 a).1 ≠ (TX5 b).1) := by decide +kernel
section XP2
variable {p : Program} {l : Launch} {e : Env} {R : Room} {s : State} {m : MethodId} {args : Array Value} {below : List Frame} {meth : Method} {c : Code} {H : Heap} {locs : List Loc} {cells slots : Nat} {Q : State → Prop}
variable {cc : ByteArray} {pc nL : Nat} {ls : Array Slot} {rest : List Value} {D : va_G} {d : Nat → ClassId} {A : Nat → Prop} {H0 : Heap} {B : Nat → Nat} {τ : Nat → Nat → Int32} {ea e0 : Nat} {hs : Nat → Option Nat} {ρ : va_W} {n a v : Nat} {E : Nat → Nat → Nat} {F : Nat → Nat}
theorem xr_putneed (hx : p.tables.exec = Jvm.exec) (hb : c.code = cc) (hown : s.vm.findClass RX0 = some m.cls) (hts : ∀ w ∈ lw_all, w.before args s = true) (hK : KX D d s) (hu : uW D A H0 H locs (xw d B τ ea hs ρ)) (hE : xEat ρ (B 0) τ n E F) (ha : a < n) (hv : v < 7) (hdg : decode cc pc = .ok (.putfield 204, 3)) (kk : ∀ (H1 : Heap) (locs1 : List Loc) (ρ1 : va_W), xMv ρ ρ1 → xEat ρ1 (B 0) τ n (upN E 3 a v) F → uW D A H0 H1 locs1 (xw d B τ ea hs ρ1) → W p l e R s m args below meth c H1 locs1 cells slots Q (F0 m (pc + 3) ls rest)) : W p l e R s m args below meth c H locs cells slots Q (F0 m pc ls (.int (nI v) :: .ref (F a) :: rest)) := by
  obtain ⟨j, kd, hj, hkd, h1, h2, h3, hek, hek3⟩ := hE.2 a ha
  have hk2 := xEat_need hE ha hj hkd h1 h2 hek hek3 hv
  have hm2 := set_mv (z := (3 + kd, eF (B 0) kd a (E 2 a) (E 1 a) v)) hj
  have hjw : (xw d B τ ea hs ρ)[j + 14]? = some (F a, .inr (3 + kd, eF (B 0) kd a (E 2 a) (E 1 a) (E 3 a))) := hj
  rcases kd3 hkd with h | h | h
  · subst h
    exact vb_putN (D := D) (ci := 3) (C := RX3) (T := TX3) (N := 5) (v := .int (nI v)) (ty := .int) hx hb hts in_X3 (vb_apart hts in_X3 tyX3 tyX3_ok nmO3 hK.1.1 rfl) hown hK.1.1 hu.1 hu.2.1 hu.2.2 (j + 14) hjw rfl 3 (by decide) (hK.f 3 rfl _) (fun _ h9 => h9) rfl (by decide +kernel) rfl rfl (Nat.le_of_ble_eq_true rfl) hdg (fun H1 locs1 hP hD hS => kk H1 locs1 _ hm2 hk2 ⟨hP, hD, hS⟩)
  · subst h
    exact vb_putN (D := D) (ci := 4) (C := RX4) (T := TX4) (N := 6) (v := .int (nI v)) (ty := .int) hx hb hts in_X4 (vb_apart hts in_X4 tyX4 tyX4_ok nmO4 hK.1.1 rfl) hown hK.1.1 hu.1 hu.2.1 hu.2.2 (j + 14) hjw rfl 3 (by decide) (hK.f 3 rfl _) (fun _ h9 => h9) rfl (by decide +kernel) rfl rfl (Nat.le_of_ble_eq_true rfl) hdg (fun H1 locs1 hP hD hS => kk H1 locs1 _ hm2 hk2 ⟨hP, hD, hS⟩)
  · subst h
    exact vb_putN (D := D) (ci := 5) (C := RX5) (T := TX5) (N := 7) (v := .int (nI v)) (ty := .int) hx hb hts in_X5 (vb_apart hts in_X5 tyX5 tyX5_ok nmO5 hK.1.1 rfl) hown hK.1.1 hu.1 hu.2.1 hu.2.2 (j + 14) hjw rfl 3 (by decide) (hK.f 3 rfl _) (fun _ h9 => h9) rfl (by decide +kernel) rfl rfl (Nat.le_of_ble_eq_true rfl) hdg (fun H1 locs1 hP hD hS => kk H1 locs1 _ hm2 hk2 ⟨hP, hD, hS⟩)
theorem xr_putstay (hx : p.tables.exec = Jvm.exec) (hb : c.code = cc) (hown : s.vm.findClass RX0 = some m.cls) (hts : ∀ w ∈ lw_all, w.before args s = true) (hK : KX D d s) (hu : uW D A H0 H locs (xw d B τ ea hs ρ)) (hE : xEat ρ (B 0) τ n E F) (ha : a < n) (hv : v < 7) (hdg : decode cc pc = .ok (.putfield 198, 3)) (kk : ∀ (H1 : Heap) (locs1 : List Loc) (ρ1 : va_W), xMv ρ ρ1 → xEat ρ1 (B 0) τ n (upN E 1 a v) F → uW D A H0 H1 locs1 (xw d B τ ea hs ρ1) → W p l e R s m args below meth c H1 locs1 cells slots Q (F0 m (pc + 3) ls rest)) : W p l e R s m args below meth c H locs cells slots Q (F0 m pc ls (.int (nI v) :: .ref (F a) :: rest)) := by
  obtain ⟨j, kd, hj, hkd, h1, h2, h3, hek, hek3⟩ := hE.2 a ha
  have hk2 := xEat_stay hE ha hj hkd h2 h3 hek hek3 hv
  have hm2 := set_mv (z := (3 + kd, eF (B 0) kd a (E 2 a) v (E 3 a))) hj
  have hjw : (xw d B τ ea hs ρ)[j + 14]? = some (F a, .inr (3 + kd, eF (B 0) kd a (E 2 a) (E 1 a) (E 3 a))) := hj
  rcases kd3 hkd with h | h | h
  · subst h
    exact vb_putN (D := D) (ci := 3) (C := RX3) (T := TX3) (N := 5) (v := .int (nI v)) (ty := .int) hx hb hts in_X3 (vb_apart hts in_X3 tyX3 tyX3_ok nmO3 hK.1.1 rfl) hown hK.1.1 hu.1 hu.2.1 hu.2.2 (j + 14) hjw rfl 2 (by decide) (hK.f 2 rfl _) (fun _ h9 => h9) rfl (by decide +kernel) rfl rfl (Nat.le_of_ble_eq_true rfl) hdg (fun H1 locs1 hP hD hS => kk H1 locs1 _ hm2 hk2 ⟨hP, hD, hS⟩)
  · subst h
    exact vb_putN (D := D) (ci := 4) (C := RX4) (T := TX4) (N := 6) (v := .int (nI v)) (ty := .int) hx hb hts in_X4 (vb_apart hts in_X4 tyX4 tyX4_ok nmO4 hK.1.1 rfl) hown hK.1.1 hu.1 hu.2.1 hu.2.2 (j + 14) hjw rfl 2 (by decide) (hK.f 2 rfl _) (fun _ h9 => h9) rfl (by decide +kernel) rfl rfl (Nat.le_of_ble_eq_true rfl) hdg (fun H1 locs1 hP hD hS => kk H1 locs1 _ hm2 hk2 ⟨hP, hD, hS⟩)
  · subst h
    exact vb_putN (D := D) (ci := 5) (C := RX5) (T := TX5) (N := 7) (v := .int (nI v)) (ty := .int) hx hb hts in_X5 (vb_apart hts in_X5 tyX5 tyX5_ok nmO5 hK.1.1 rfl) hown hK.1.1 hu.1 hu.2.1 hu.2.2 (j + 14) hjw rfl 2 (by decide) (hK.f 2 rfl _) (fun _ h9 => h9) rfl (by decide +kernel) rfl rfl (Nat.le_of_ble_eq_true rfl) hdg (fun H1 locs1 hP hD hS => kk H1 locs1 _ hm2 hk2 ⟨hP, hD, hS⟩)
end XP2
