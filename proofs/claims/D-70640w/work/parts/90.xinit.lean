/-! X is made -/
theorem uW_put {D : va_G} {A : Nat → Prop} {H0 H : Heap} {locs : List Loc} {ws : va_W} {j x : Nat} {y y' : va_E} (hu : uW D A H0 H locs ws) (hj : ws[j]? = some (x, y)) (h : va_at D vwCl (x, y) H → va_at D vwCl (x, y') H) : uW D A H0 H locs (ws.set j (x, y')) :=
  ⟨hu.1.set hu.2.1 hj (h (hu.1 j _ hj)) (fun _ _ => rfl), hu.2.1.set hj, hu.2.2⟩
theorem vp_cell_eqq {cA : ClassId} {n : Nat} {g g' : Nat → Option Nat} (h : ∀ t, t < n → g t = g' t) : vp_cell cA (n, .inr (.inr (.inr (.inr g)))) = vp_cell cA (n, .inr (.inr (.inr (.inr g')))) := by
  rw [vp_cell_q, vp_cell_q]
  unfold arrV
  have e : (Array.ofFn (n := n) fun j => (va_rf (g j.val))) = Array.ofFn (n := n) fun j => va_rf (g' j.val) := by
    congr 1
    funext j
    rw [h j.val j.isLt]
  rw [e]
def xI0 : Nat → Nat → Int32 := fun k _ => match k with | 6 => -9 | _ => 0
theorem xRep_0 (d : Nat → ClassId) (B : Nat → Nat) (e0 : Nat) (F : Nat → Nat) : xRep d B e0 s0 xI0 e0 (fun _ => none) [] F :=
  ⟨⟨by decide, by decide, Iff.rfl, by decide, fun a h => absurd h (Nat.not_lt_zero a), fun a h => absurd h (Nat.not_lt_zero a), fun k v h => by cases h⟩, rfl, rfl, rfl, rfl, fun a h => absurd h (Nat.not_lt_zero a), rfl, ⟨by decide, fun a h => absurd h (Nat.not_lt_zero a)⟩, ⟨rfl, Or.inl ⟨rfl, rfl⟩⟩, ⟨rfl, fun a h => absurd h (Nat.not_lt_zero a)⟩, fun k hk => rfl, fun k k' fa _ _ h => by cases h⟩
theorem wJ0_init_J1 {R : Room} {s : State} {args : Array Value} {rm : Room} (hts : ∀ w ∈ lw_all, w.before args s = true) (hR : rm.frames + 1 ≤ R.frames ∧ 8 + (1 + 11) + rm.locals ≤ R.locals) : CallB R s args RJ1 1 yJ0_init cJ0_init 1 none (ws_ yJ0_init cJ0_init 1 none) rm rm.cells rm.slots 0 ∧ yJ0_init.name = "<init>" ∧ (Cond.instanceMethod yJ0_init).before args s = true := ⟨callB_of 0 hts (lw_meth q94) rfl rfl rfl (hts _ q52) (hts _ q92) (by decide +kernel) hR, rfl, hts _ q93⟩
theorem wJ1_init_J2 {R : Room} {s : State} {args : Array Value} {rm : Room} (hts : ∀ w ∈ lw_all, w.before args s = true) (hR : rm.frames + 1 ≤ R.frames ∧ 8 + (1 + 11) + rm.locals ≤ R.locals) : CallB R s args RJ2 1 yJ1_init cJ1_init 1 none (ws_ yJ1_init cJ1_init 1 none) rm rm.cells rm.slots 0 ∧ yJ1_init.name = "<init>" ∧ (Cond.instanceMethod yJ1_init).before args s = true := ⟨callB_of 0 hts (lw_meth q91) rfl rfl rfl (hts _ q53) (hts _ q89) (by decide +kernel) hR, rfl, hts _ q90⟩
theorem wJ2_init_X0 {R : Room} {s : State} {args : Array Value} {rm : Room} (hts : ∀ w ∈ lw_all, w.before args s = true) (hR : rm.frames + 1 ≤ R.frames ∧ 8 + (1 + 11) + rm.locals ≤ R.locals) : CallB R s args RX0 11 yJ2_init cJ2_init 1 none (ws_ yJ2_init cJ2_init 1 none) rm rm.cells rm.slots 0 ∧ yJ2_init.name = "<init>" ∧ (Cond.instanceMethod yJ2_init).before args s = true := ⟨callB_of 0 hts (lw_meth q88) rfl rfl rfl (hts _ q54) (hts _ q86) (by decide +kernel) hR, rfl, hts _ q87⟩
theorem wX1_init_n {D : va_G} {d : Nat → ClassId} {R : Room} {s : State} {args : Array Value} {rm : Room} (hts : ∀ w ∈ lw_all, w.before args s = true) (hK : KX D d s) (hR : rm.frames + 1 ≤ R.frames ∧ 8 + (1 + 11) + rm.locals ≤ R.locals) : va_CN R s args RX0 279 yX1_init RX0 cX1_init 1 none (ws_ yX1_init cX1_init 1 none) rm rm.cells rm.slots 0 ∧ yX1_init.name = "<init>" ∧ (Cond.instanceMethod yX1_init).before args s = true := ⟨va_cnB 0 hts (lw_meth q118) rfl rfl rfl (hK.m 0 rfl) (hts _ q55) (by decide +kernel) hR, rfl, hts _ q117⟩
set_option maxHeartbeats 4000000 in
set_option maxRecDepth 100000 in
theorem cJ0_init0 (l : Launch) (D : va_G) (d : Nat → ClassId) (H00 : Heap) (x : Nat) (ws : va_W) : cU l (KX D d) H00 D yJ0_init cJ0_init 1 none (rc 1 0 0) [.ref x] ws (fun r0 ws' => r0 = none ∧ ws' = ws) := by
  refine cU_start RJ0 rfl (by decide) (Nat.le_of_ble_eq_true rfl) ?_
  intro p e s m below meth c A hx hb hml hown hts hr hlk hnm hK hA hAN hZ hu ls hl
  have hl : lv_has ls 1 [(0, .ref x)] := hl
  refine lv_aload_n hx hb dJ0_init_0 rfl (lv_at hl 0 rfl) ?_
  refine W.objInit hx hb hown (hts _ q95) (hts _ q82) (hts _ q83) rfl (by rw [hml]; exact hl.1) rfl dJ0_init_1 (Nat.le_of_ble_eq_true rfl) (Nat.le_of_ble_eq_true rfl) ?_
  exact rU_v hx hb hr hlk hu dJ0_init_4 (Nat.le_of_ble_eq_true rfl) (Nat.le_of_ble_eq_true rfl) ⟨rfl, rfl⟩
set_option maxHeartbeats 4000000 in
set_option maxRecDepth 100000 in
theorem cX1_init0 (l : Launch) (D : va_G) (d : Nat → ClassId) (H00 : Heap) (x : Nat) (ws : va_W) : cU l (KX D d) H00 D yX1_init cX1_init 1 none (rc 1 0 0) [.ref x] ws (fun r0 ws' => r0 = none ∧ ws' = ws) := by
  refine cU_start RX1 rfl (by decide) (Nat.le_of_ble_eq_true rfl) ?_
  intro p e s m below meth c A hx hb hml hown hts hr hlk hnm hK hA hAN hZ hu ls hl
  have hl : lv_has ls 1 [(0, .ref x)] := hl
  refine lv_aload_n hx hb dX1_init_0 rfl (lv_at hl 0 rfl) ?_
  refine W.objInit hx hb hown (hts _ q119) (hts _ q82) (hts _ q83) rfl (by rw [hml]; exact hl.1) rfl dX1_init_1 (Nat.le_of_ble_eq_true rfl) (Nat.le_of_ble_eq_true rfl) ?_
  exact rU_v hx hb hr hlk hu dX1_init_4 (Nat.le_of_ble_eq_true rfl) (Nat.le_of_ble_eq_true rfl) ⟨rfl, rfl⟩
set_option maxHeartbeats 4000000 in
set_option maxRecDepth 100000 in
theorem cJ1_init0 (l : Launch) (D : va_G) (d : Nat → ClassId) (H00 : Heap) (x : Nat) (c0 : Nat × va_E) : cU l (KX D d) H00 D yJ1_init cJ1_init 1 none (rc 2 0 0) [.ref x] [c0, (x, .inr (6, [.int 0, .null, .int 0]))] (fun r0 ws' => r0 = none ∧ ws' = [c0, (x, .inr (6, [.int 0, .null, .int 0]))]) := by
  refine cU_start RJ1 rfl (by decide) (Nat.le_of_ble_eq_true rfl) ?_
  intro p e s m below meth c A hx hb hml hown hts hr hlk hnm hK hA hAN hZ hu ls hl
  have hl : lv_has ls 1 [(0, .ref x)] := hl
  refine lv_aload_n hx hb dJ1_init_0 rfl (lv_at hl 0 rfl) ?_
  refine callU_I (rest := []) hx hb hml hown hts KX_st hK hA hAN hZ (cJ0_init0 l D d H00 x _) (wJ0_init_J1 hts ⟨Nat.le_of_ble_eq_true rfl, Nat.le_of_ble_eq_true rfl⟩) hu rfl hl.1 rfl (Nat.le_of_ble_eq_true rfl) dJ1_init_1 ⟨Nat.le_of_ble_eq_true rfl, Nat.le_of_ble_eq_true rfl⟩ (fun r ws H locs hpo hu => ?_)
  obtain ⟨rfl, rfl⟩ := hpo
  refine lv_aload_n hx hb dJ1_init_4 rfl (lv_at hl 0 rfl) ?_
  refine lv_iconst (v := 0) hx hb dJ1_init_5 (by decide) ?_
  refine va_put (D := D) (ci := 6) (v := .int 0) (ty := .int) (C := RJ2) (T := TJ2) (N := 3) hx hb hts in_J2 tyJ2 tyJ2_ok nmJ2 hown hK.1.1 hu.1 hu.2.1 hu.2.2 1 rfl rfl 0 (by decide) (hts _ q100) (fun _ h9 => h9) rfl (by decide +kernel) rfl rfl (Nat.le_of_ble_eq_true rfl) dJ1_init_6 (fun H locs hP hD hS => ?_)
  have hu : uW D A s.heap H locs [c0, (x, .inr (6, [.int 0, .null, .int 0]))] := ⟨hP, hD, hS⟩
  exact rU_v hx hb hr hlk hu dJ1_init_9 (Nat.le_of_ble_eq_true rfl) (Nat.le_of_ble_eq_true rfl) ⟨rfl, rfl⟩
set_option maxHeartbeats 4000000 in
set_option maxRecDepth 100000 in
theorem cJ2_init0 (l : Launch) (D : va_G) (d : Nat → ClassId) (e0 : Nat) (H00 : Heap) (x : Nat) (c0 : Nat × va_E) : cU l (KE D d e0 H00) H00 D yJ2_init cJ2_init 1 none (rc 3 0 0) [.ref x] [c0, (x, .inr (6, [.int 0, .null, .int 0]))] (fun r0 ws' => r0 = none ∧ ws' = [c0, (x, .inr (6, [.int 0, .ref e0, .int 0]))]) := by
  refine cU_start RJ2 rfl (by decide) (Nat.le_of_ble_eq_true rfl) ?_
  intro p e s m below meth c A hx hb hml hown hts hr hlk hnm hK hA hAN hZ hu ls hl
  have hl : lv_has ls 1 [(0, .ref x)] := hl
  have hZs := (hK.2.2.2.2.2.2.1.1.narrow (B := A) hAN).kept (H1 := s.heap) (fun a h _ => hZ.2 a h)
  refine lv_aload_n hx hb dJ2_init_0 rfl (lv_at hl 0 rfl) ?_
  refine callU_I (rest := []) hx hb hml hown hts KX_st hK.1 hA hAN hZ (cJ1_init0 l D d H00 x c0) (wJ1_init_J2 hts ⟨Nat.le_of_ble_eq_true rfl, Nat.le_of_ble_eq_true rfl⟩) hu rfl hl.1 rfl (Nat.le_of_ble_eq_true rfl) dJ2_init_1 ⟨Nat.le_of_ble_eq_true rfl, Nat.le_of_ble_eq_true rfl⟩ (fun r ws H locs hpo hu => ?_)
  obtain ⟨rfl, rfl⟩ := hpo
  refine lv_aload_n hx hb dJ2_init_4 rfl (lv_at hl 0 rfl) ?_
  refine va_gets hx hb hZs hu.2.2 hown (hts _ q96) (fun _ h9 => h9) dJ2_init_5 ?_
  refine va_put (D := D) (ci := 6) (v := .ref e0) (ty := .array (.object "java/lang/Object")) (C := RJ2) (T := TJ2) (N := 3) hx hb hts in_J2 tyJ2 tyJ2_ok nmJ2 hown hK.1.1.1 hu.1 hu.2.1 hu.2.2 1 rfl rfl 1 (by decide) (hts _ q98) (fun _ h9 => h9) rfl (by decide +kernel) rfl rfl (Nat.le_of_ble_eq_true rfl) dJ2_init_8 (fun H locs hP hD hS => ?_)
  have hu : uW D A s.heap H locs [c0, (x, .inr (6, [.int 0, .ref e0, .int 0]))] := ⟨hP, hD, hS⟩
  exact rU_v hx hb hr hlk hu dJ2_init_11 (Nat.le_of_ble_eq_true rfl) (Nat.le_of_ble_eq_true rfl) ⟨rfl, rfl⟩
set_option maxHeartbeats 4000000 in
set_option maxRecDepth 100000 in
theorem cX_places (l : Launch) (D : va_G) (d : Nat → ClassId) (H00 : Heap) (c0 c1 c2 c3 c4 c5 c6 c7 c8 : Nat × va_E) : cU l (KX D d) H00 D yX0_places cX0_places 3 (some (.array (.object "MustardFast$Place"))) (rc 2 5 8) [.int (nI 4)] [c0, c1, c2, c3, c4, c5, c6, c7, c8] (fun r0 ws' => ∃ q p0 p1 p2 p3 : Nat, r0 = some (.ref q) ∧ ws' = [c0, c1, c2, c3, c4, c5, c6, c7, c8, (q, rfE (d 5) 4 (va_up (va_up (va_up (va_up (fun _ => none) 0 (some p0)) 1 (some p1)) 2 (some p2)) 3 (some p3))), (p0, .inr (2, [.null])), (p1, .inr (2, [.null])), (p2, .inr (2, [.null])), (p3, .inr (2, [.null]))]) := by
  refine cU_start RX0 rfl (by decide) (Nat.le_of_ble_eq_true rfl) ?_
  intro p e s m below meth c A hx hb hml hown hts hr hlk hnm hK hA hAN hZ hu ls hl
  have hl : lv_has ls 3 [(0, .int (nI 4))] := hl
  refine lv_iload_n hx hb dX0_places_0 rfl (lv_at hl 0 rfl) ?_
  refine va_newq hx hb hown (hts _ q113) hK.2.2.2.2.2.2.1.1 hK.1.1 hu.1 hu.2.1 hu.2.2 hA (N' := 4) (nI_pos (by decide)) (nI_clamp (by decide)) (by decide) (Nat.le_of_ble_eq_true rfl) (Nat.le_of_ble_eq_true rfl) dX0_places_1 (fun q cA H hKn g1 g2 g3 => ?_)
  obtain ⟨_, _, -, -, -, hfA⟩ := (hKn.2 6 _ rfl).2
  have e5 : cA = d 5 := Option.some.inj (hfA.symm.trans hK.2.2.2.2.2.2.2.2.1)
  subst e5
  have hu : uW D A s.heap H [] [c0, c1, c2, c3, c4, c5, c6, c7, c8, (q, rfE (d 5) 4 (fun _ => none))] := ⟨g1, g2, g3⟩
  refine lv_astore_n (lv' := [(1, .ref q), (0, .int (nI 4))]) hx hb dX0_places_4 rfl hl (by decide) rfl (fun ls hl => ?_)
  refine lv_iconst (v := nI 0) hx hb dX0_places_5 (by decide) ?_
  refine lv_istore_n (lv' := [(2, .int (nI 0)), (1, .ref q), (0, .int (nI 4))]) hx hb dX0_places_6 rfl hl (by decide) rfl (fun ls hl => ?_)
  refine lv_iload_n hx hb dX0_places_7 rfl (lv_at hl 0 rfl) ?_
  refine lv_iload_n hx hb dX0_places_8 rfl (lv_at hl 2 rfl) ?_
  refine nc_ge (tgt := 28) hx hb dX0_places_9 (by decide) (by decide) (by decide) (fun h9 => absurd h9 (by decide)) (fun _ => ?_)
  refine lv_aload_n hx hb dX0_places_12 rfl (lv_at hl 1 rfl) ?_
  refine lv_iload_n hx hb dX0_places_13 rfl (lv_at hl 0 rfl) ?_
  refine va_new (D := D) (ci := 2) (C := RX1) (T := TX1) (N := 1) (fs := [.null]) hx hb hts in_X1 tyX1 tyX1_ok hown (hts _ q113) (hts _ q115) (hts _ q55) hK.1.1 hu.1 hu.2.1 hu.2.2 hA rfl (by decide) (Nat.le_of_ble_eq_true rfl) (Nat.le_of_ble_eq_true rfl) dX0_places_14 (fun p0 H g1 g2 g3 => ?_)
  have hu : uW D A s.heap H [] [c0, c1, c2, c3, c4, c5, c6, c7, c8, (q, rfE (d 5) 4 (fun _ => none)), (p0, .inr (2, [.null]))] := ⟨g1, g2, g3⟩
  refine lv_dup hx hb dX0_places_17 rfl ?_
  refine callU_NI (rest := [.ref p0, .int (nI 0), .ref q]) hx hb hml hown hts KX_st hK hA hAN hZ (cX1_init0 l D d H00 p0 _) (wX1_init_n hts hK ⟨Nat.le_of_ble_eq_true rfl, Nat.le_of_ble_eq_true rfl⟩) hu rfl hl.1 rfl (Nat.le_of_ble_eq_true rfl) dX0_places_18 ⟨Nat.le_of_ble_eq_true rfl, Nat.le_of_ble_eq_true rfl⟩ (fun r ws H locs hpo hu => ?_)
  obtain ⟨rfl, rfl⟩ := hpo
  refine va_astq hx hb hK.1.1 hu.1 hu.2.1 hu.2.2 9 5 10 2 rfl rfl rfl rfl (vp_in_nI (n := 0) (by decide) (by decide)) dX0_places_21 (fun H locs g1 g2 g3 => ?_)
  rw [nI_clamp (by decide)] at g1 g2
  have hu : uW D A s.heap H locs [c0, c1, c2, c3, c4, c5, c6, c7, c8, (q, rfE (d 5) 4 (va_up (fun _ => none) 0 (some p0))), (p0, .inr (2, [.null]))] := ⟨g1, g2, g3⟩
  refine lv_iinc (v := nI 1) (lv' := [(2, .int (nI 1)), (1, .ref q), (0, .int (nI 4))]) hx hb dX0_places_22 hl (k := 0) rfl (inc_nI _) (by decide) rfl (fun ls hl => ?_)
  refine lv_goto (tgt := 7) hx hb dX0_places_25 (by decide) ?_
  refine lv_iload_n hx hb dX0_places_7 rfl (lv_at hl 0 rfl) ?_
  refine lv_iload_n hx hb dX0_places_8 rfl (lv_at hl 2 rfl) ?_
  refine nc_ge (tgt := 28) hx hb dX0_places_9 (by decide) (by decide) (by decide) (fun h9 => absurd h9 (by decide)) (fun _ => ?_)
  refine lv_aload_n hx hb dX0_places_12 rfl (lv_at hl 1 rfl) ?_
  refine lv_iload_n hx hb dX0_places_13 rfl (lv_at hl 0 rfl) ?_
  refine va_new (D := D) (ci := 2) (C := RX1) (T := TX1) (N := 1) (fs := [.null]) hx hb hts in_X1 tyX1 tyX1_ok hown (hts _ q113) (hts _ q115) (hts _ q55) hK.1.1 hu.1 hu.2.1 hu.2.2 hA rfl (by decide) (Nat.le_of_ble_eq_true rfl) (Nat.le_of_ble_eq_true rfl) dX0_places_14 (fun p1 H g1 g2 g3 => ?_)
  have hu : uW D A s.heap H locs [c0, c1, c2, c3, c4, c5, c6, c7, c8, (q, rfE (d 5) 4 (va_up (fun _ => none) 0 (some p0))), (p0, .inr (2, [.null])), (p1, .inr (2, [.null]))] := ⟨g1, g2, g3⟩
  refine lv_dup hx hb dX0_places_17 rfl ?_
  refine callU_NI (rest := [.ref p1, .int (nI 1), .ref q]) hx hb hml hown hts KX_st hK hA hAN hZ (cX1_init0 l D d H00 p1 _) (wX1_init_n hts hK ⟨Nat.le_of_ble_eq_true rfl, Nat.le_of_ble_eq_true rfl⟩) hu rfl hl.1 rfl (Nat.le_of_ble_eq_true rfl) dX0_places_18 ⟨Nat.le_of_ble_eq_true rfl, Nat.le_of_ble_eq_true rfl⟩ (fun r ws H locs hpo hu => ?_)
  obtain ⟨rfl, rfl⟩ := hpo
  refine va_astq hx hb hK.1.1 hu.1 hu.2.1 hu.2.2 9 5 11 2 rfl rfl rfl rfl (vp_in_nI (n := 1) (by decide) (by decide)) dX0_places_21 (fun H locs g1 g2 g3 => ?_)
  rw [nI_clamp (by decide)] at g1 g2
  have hu : uW D A s.heap H locs [c0, c1, c2, c3, c4, c5, c6, c7, c8, (q, rfE (d 5) 4 (va_up (va_up (fun _ => none) 0 (some p0)) 1 (some p1))), (p0, .inr (2, [.null])), (p1, .inr (2, [.null]))] := ⟨g1, g2, g3⟩
  refine lv_iinc (v := nI 2) (lv' := [(2, .int (nI 2)), (1, .ref q), (0, .int (nI 4))]) hx hb dX0_places_22 hl (k := 0) rfl (inc_nI _) (by decide) rfl (fun ls hl => ?_)
  refine lv_goto (tgt := 7) hx hb dX0_places_25 (by decide) ?_
  refine lv_iload_n hx hb dX0_places_7 rfl (lv_at hl 0 rfl) ?_
  refine lv_iload_n hx hb dX0_places_8 rfl (lv_at hl 2 rfl) ?_
  refine nc_ge (tgt := 28) hx hb dX0_places_9 (by decide) (by decide) (by decide) (fun h9 => absurd h9 (by decide)) (fun _ => ?_)
  refine lv_aload_n hx hb dX0_places_12 rfl (lv_at hl 1 rfl) ?_
  refine lv_iload_n hx hb dX0_places_13 rfl (lv_at hl 0 rfl) ?_
  refine va_new (D := D) (ci := 2) (C := RX1) (T := TX1) (N := 1) (fs := [.null]) hx hb hts in_X1 tyX1 tyX1_ok hown (hts _ q113) (hts _ q115) (hts _ q55) hK.1.1 hu.1 hu.2.1 hu.2.2 hA rfl (by decide) (Nat.le_of_ble_eq_true rfl) (Nat.le_of_ble_eq_true rfl) dX0_places_14 (fun p2 H g1 g2 g3 => ?_)
  have hu : uW D A s.heap H locs [c0, c1, c2, c3, c4, c5, c6, c7, c8, (q, rfE (d 5) 4 (va_up (va_up (fun _ => none) 0 (some p0)) 1 (some p1))), (p0, .inr (2, [.null])), (p1, .inr (2, [.null])), (p2, .inr (2, [.null]))] := ⟨g1, g2, g3⟩
  refine lv_dup hx hb dX0_places_17 rfl ?_
  refine callU_NI (rest := [.ref p2, .int (nI 2), .ref q]) hx hb hml hown hts KX_st hK hA hAN hZ (cX1_init0 l D d H00 p2 _) (wX1_init_n hts hK ⟨Nat.le_of_ble_eq_true rfl, Nat.le_of_ble_eq_true rfl⟩) hu rfl hl.1 rfl (Nat.le_of_ble_eq_true rfl) dX0_places_18 ⟨Nat.le_of_ble_eq_true rfl, Nat.le_of_ble_eq_true rfl⟩ (fun r ws H locs hpo hu => ?_)
  obtain ⟨rfl, rfl⟩ := hpo
  refine va_astq hx hb hK.1.1 hu.1 hu.2.1 hu.2.2 9 5 12 2 rfl rfl rfl rfl (vp_in_nI (n := 2) (by decide) (by decide)) dX0_places_21 (fun H locs g1 g2 g3 => ?_)
  rw [nI_clamp (by decide)] at g1 g2
  have hu : uW D A s.heap H locs [c0, c1, c2, c3, c4, c5, c6, c7, c8, (q, rfE (d 5) 4 (va_up (va_up (va_up (fun _ => none) 0 (some p0)) 1 (some p1)) 2 (some p2))), (p0, .inr (2, [.null])), (p1, .inr (2, [.null])), (p2, .inr (2, [.null]))] := ⟨g1, g2, g3⟩
  refine lv_iinc (v := nI 3) (lv' := [(2, .int (nI 3)), (1, .ref q), (0, .int (nI 4))]) hx hb dX0_places_22 hl (k := 0) rfl (inc_nI _) (by decide) rfl (fun ls hl => ?_)
  refine lv_goto (tgt := 7) hx hb dX0_places_25 (by decide) ?_
  refine lv_iload_n hx hb dX0_places_7 rfl (lv_at hl 0 rfl) ?_
  refine lv_iload_n hx hb dX0_places_8 rfl (lv_at hl 2 rfl) ?_
  refine nc_ge (tgt := 28) hx hb dX0_places_9 (by decide) (by decide) (by decide) (fun h9 => absurd h9 (by decide)) (fun _ => ?_)
  refine lv_aload_n hx hb dX0_places_12 rfl (lv_at hl 1 rfl) ?_
  refine lv_iload_n hx hb dX0_places_13 rfl (lv_at hl 0 rfl) ?_
  refine va_new (D := D) (ci := 2) (C := RX1) (T := TX1) (N := 1) (fs := [.null]) hx hb hts in_X1 tyX1 tyX1_ok hown (hts _ q113) (hts _ q115) (hts _ q55) hK.1.1 hu.1 hu.2.1 hu.2.2 hA rfl (by decide) (Nat.le_of_ble_eq_true rfl) (Nat.le_of_ble_eq_true rfl) dX0_places_14 (fun p3 H g1 g2 g3 => ?_)
  have hu : uW D A s.heap H locs [c0, c1, c2, c3, c4, c5, c6, c7, c8, (q, rfE (d 5) 4 (va_up (va_up (va_up (fun _ => none) 0 (some p0)) 1 (some p1)) 2 (some p2))), (p0, .inr (2, [.null])), (p1, .inr (2, [.null])), (p2, .inr (2, [.null])), (p3, .inr (2, [.null]))] := ⟨g1, g2, g3⟩
  refine lv_dup hx hb dX0_places_17 rfl ?_
  refine callU_NI (rest := [.ref p3, .int (nI 3), .ref q]) hx hb hml hown hts KX_st hK hA hAN hZ (cX1_init0 l D d H00 p3 _) (wX1_init_n hts hK ⟨Nat.le_of_ble_eq_true rfl, Nat.le_of_ble_eq_true rfl⟩) hu rfl hl.1 rfl (Nat.le_of_ble_eq_true rfl) dX0_places_18 ⟨Nat.le_of_ble_eq_true rfl, Nat.le_of_ble_eq_true rfl⟩ (fun r ws H locs hpo hu => ?_)
  obtain ⟨rfl, rfl⟩ := hpo
  refine va_astq hx hb hK.1.1 hu.1 hu.2.1 hu.2.2 9 5 13 2 rfl rfl rfl rfl (vp_in_nI (n := 3) (by decide) (by decide)) dX0_places_21 (fun H locs g1 g2 g3 => ?_)
  rw [nI_clamp (by decide)] at g1 g2
  have hu : uW D A s.heap H locs [c0, c1, c2, c3, c4, c5, c6, c7, c8, (q, rfE (d 5) 4 (va_up (va_up (va_up (va_up (fun _ => none) 0 (some p0)) 1 (some p1)) 2 (some p2)) 3 (some p3))), (p0, .inr (2, [.null])), (p1, .inr (2, [.null])), (p2, .inr (2, [.null])), (p3, .inr (2, [.null]))] := ⟨g1, g2, g3⟩
  refine lv_iinc (v := nI 4) (lv' := [(2, .int (nI 4)), (1, .ref q), (0, .int (nI 4))]) hx hb dX0_places_22 hl (k := 0) rfl (inc_nI _) (by decide) rfl (fun ls hl => ?_)
  refine lv_goto (tgt := 7) hx hb dX0_places_25 (by decide) ?_
  refine lv_iload_n hx hb dX0_places_7 rfl (lv_at hl 0 rfl) ?_
  refine lv_iload_n hx hb dX0_places_8 rfl (lv_at hl 2 rfl) ?_
  refine nc_ge (tgt := 28) hx hb dX0_places_9 (by decide) (by decide) (by decide) (fun _ => ?_) (fun h9 => absurd h9 (by decide))
  refine lv_aload_n hx hb dX0_places_28 rfl (lv_at hl 1 rfl) ?_
  exact rU_a hx hb hr (Or.inr ⟨_, rfl⟩) hlk hu dX0_places_29 (Nat.le_of_ble_eq_true rfl) (Nat.le_of_ble_eq_true rfl) ⟨q, p0, p1, p2, p3, rfl, rfl⟩
set_option maxHeartbeats 4000000 in
set_option maxRecDepth 100000 in
theorem cX_init (l : Launch) (D : va_G) (d : Nat → ClassId) (e0 : Nat) (H00 : Heap) (x : Nat) : cU l (KE D d e0 H00) H00 D yX0_init cX0_init 1 none (rc 4 13 71) [.ref x] [(x, .inr (0, [.int 0, .int 0, .null, .int 0, .int 0, .null, .int 0, .int 0, .int 0, .int 0, .int 0, .int 0, .null, .null, .int 0, .null, .null, .null, .null, .null]))] (fun r0 ws => r0 = none ∧ ∃ (B : Nat → Nat) (τ : Nat → Nat → Int32) (ea : Nat) (hs : Nat → Option Nat) (F : Nat → Nat), B 0 = x ∧ ws = xw d B τ ea hs [] ∧ xRep d B e0 s0 τ ea hs [] F) := by
  refine cU_start RX0 rfl (by decide) (Nat.le_of_ble_eq_true rfl) ?_
  intro p e s m below meth c A hx hb hml hown hts hr hlk hnm hK hA hAN hZ hu ls hl
  have hnm := hnm rfl
  have hl : lv_has ls 1 [(0, .ref x)] := hl
  refine lv_aload_n hx hb dX0_init_0 rfl (lv_at hl 0 rfl) ?_
  refine W.objInit hx hb hown (hts _ q81) (hts _ q82) (hts _ q83) rfl (by rw [hml]; exact hl.1) rfl dX0_init_1 (Nat.le_of_ble_eq_true rfl) (Nat.le_of_ble_eq_true rfl) ?_
  refine lv_aload_n hx hb dX0_init_4 rfl (lv_at hl 0 rfl) ?_
  refine va_new (D := D) (ci := 6) (C := RJ2) (T := TJ2) (N := 3) (fs := [.int 0, .null, .int 0]) hx hb hts in_J2 tyJ2 tyJ2_ok hown (hts _ q84) (hts _ q85) (hts _ q54) hK.1.1.1 hu.1 hu.2.1 hu.2.2 hA rfl (by decide) (Nat.le_of_ble_eq_true rfl) (Nat.le_of_ble_eq_true rfl) dX0_init_5 (fun la H g1 g2 g3 => ?_)
  have hu : uW D A s.heap H [] [(x, .inr (0, [.int 0, .int 0, .null, .int 0, .int 0, .null, .int 0, .int 0, .int 0, .int 0, .int 0, .int 0, .null, .null, .int 0, .null, .null, .null, .null, .null])), (la, .inr (6, [.int 0, .null, .int 0]))] := ⟨g1, g2, g3⟩
  refine lv_dup hx hb dX0_init_8 rfl ?_
  refine callU_I (rest := [.ref la, .ref x]) hx hb hml hown hts KE_st hK hA hAN hZ (cJ2_init0 l D d e0 H00 la _) (wJ2_init_X0 hts ⟨Nat.le_of_ble_eq_true rfl, Nat.le_of_ble_eq_true rfl⟩) hu rfl hl.1 rfl (Nat.le_of_ble_eq_true rfl) dX0_init_9 ⟨Nat.le_of_ble_eq_true rfl, Nat.le_of_ble_eq_true rfl⟩ (fun r ws H locs hpo hu => ?_)
  obtain ⟨rfl, rfl⟩ := hpo
  refine va_putF (D := D) (ci := 0) (v := .ref la) (ty := (.object "java/util/List")) (C := RX0) (T := TX0) (N := 20) hx hb hts in_X0 tyX0 tyX0_ok nmX0 hown hK.1.1.1 hu.1 hu.2.1 hu.2.2 0 rfl rfl 2 (by decide) (hts _ q128) (fun _ h9 => h9) rfl hnm rfl (by decide +kernel) rfl rfl (Nat.le_of_ble_eq_true rfl) dX0_init_12 (fun H locs hP hD hS => ?_)
  have hu : uW D A s.heap H locs [(x, .inr (0, [.int 0, .int 0, .ref la, .int 0, .int 0, .null, .int 0, .int 0, .int 0, .int 0, .int 0, .int 0, .null, .null, .int 0, .null, .null, .null, .null, .null])), (la, .inr (6, [.int 0, .ref e0, .int 0]))] := ⟨hP, hD, hS⟩
  refine lv_aload_n hx hb dX0_init_15 rfl (lv_at hl 0 rfl) ?_
  refine lv_bipush (v := 6) hx hb dX0_init_16 (by decide) ?_
  refine nw_i (N := 6) hx hb hts hK.1.1 hA hu (by decide) rfl (Nat.le_of_ble_eq_true rfl) (Nat.le_of_ble_eq_true rfl) (Nat.le_of_ble_eq_true rfl) dX0_init_18 (fun b2 H hu => ?_)
  have hu : uW D A s.heap H locs [(x, .inr (0, [.int 0, .int 0, .ref la, .int 0, .int 0, .null, .int 0, .int 0, .int 0, .int 0, .int 0, .int 0, .null, .null, .int 0, .null, .null, .null, .null, .null])), (la, .inr (6, [.int 0, .ref e0, .int 0])), (b2, .inl (d 0, 6, .inl (fun _ => 0)))] := hu
  refine va_putF (D := D) (ci := 0) (v := .ref b2) (ty := (.array .int)) (C := RX0) (T := TX0) (N := 20) hx hb hts in_X0 tyX0 tyX0_ok nmX0 hown hK.1.1.1 hu.1 hu.2.1 hu.2.2 0 rfl rfl 5 (by decide) (hts _ q131) (fun _ h9 => h9) rfl hnm rfl (by decide +kernel) rfl rfl (Nat.le_of_ble_eq_true rfl) dX0_init_20 (fun H locs hP hD hS => ?_)
  have hu : uW D A s.heap H locs [(x, .inr (0, [.int 0, .int 0, .ref la, .int 0, .int 0, .ref b2, .int 0, .int 0, .int 0, .int 0, .int 0, .int 0, .null, .null, .int 0, .null, .null, .null, .null, .null])), (la, .inr (6, [.int 0, .ref e0, .int 0])), (b2, .inl (d 0, 6, .inl (fun _ => 0)))] := ⟨hP, hD, hS⟩
  refine lv_aload_n hx hb dX0_init_23 rfl (lv_at hl 0 rfl) ?_
  refine lv_bipush (v := -9) hx hb dX0_init_24 (by decide) ?_
  refine va_put (D := D) (ci := 0) (v := .int (-9)) (ty := .int) (C := RX0) (T := TX0) (N := 20) hx hb hts in_X0 tyX0 tyX0_ok nmX0 hown hK.1.1.1 hu.1 hu.2.1 hu.2.2 0 rfl rfl 6 (by decide) (hts _ q132) (fun _ h9 => h9) rfl (by decide +kernel) rfl rfl (Nat.le_of_ble_eq_true rfl) dX0_init_26 (fun H locs hP hD hS => ?_)
  have hu : uW D A s.heap H locs [(x, .inr (0, [.int 0, .int 0, .ref la, .int 0, .int 0, .ref b2, .int (-9), .int 0, .int 0, .int 0, .int 0, .int 0, .null, .null, .int 0, .null, .null, .null, .null, .null])), (la, .inr (6, [.int 0, .ref e0, .int 0])), (b2, .inl (d 0, 6, .inl (fun _ => 0)))] := ⟨hP, hD, hS⟩
  refine lv_aload_n hx hb dX0_init_29 rfl (lv_at hl 0 rfl) ?_
  refine lv_bipush (v := 6) hx hb dX0_init_30 (by decide) ?_
  refine nw_i (N := 6) hx hb hts hK.1.1 hA hu (by decide) rfl (Nat.le_of_ble_eq_true rfl) (Nat.le_of_ble_eq_true rfl) (Nat.le_of_ble_eq_true rfl) dX0_init_32 (fun b3 H hu => ?_)
  have hu : uW D A s.heap H locs [(x, .inr (0, [.int 0, .int 0, .ref la, .int 0, .int 0, .ref b2, .int (-9), .int 0, .int 0, .int 0, .int 0, .int 0, .null, .null, .int 0, .null, .null, .null, .null, .null])), (la, .inr (6, [.int 0, .ref e0, .int 0])), (b2, .inl (d 0, 6, .inl (fun _ => 0))), (b3, .inl (d 0, 6, .inl (fun _ => 0)))] := hu
  refine va_putF (D := D) (ci := 0) (v := .ref b3) (ty := (.array .int)) (C := RX0) (T := TX0) (N := 20) hx hb hts in_X0 tyX0 tyX0_ok nmX0 hown hK.1.1.1 hu.1 hu.2.1 hu.2.2 0 rfl rfl 12 (by decide) (hts _ q140) (fun _ h9 => h9) rfl hnm rfl (by decide +kernel) rfl rfl (Nat.le_of_ble_eq_true rfl) dX0_init_34 (fun H locs hP hD hS => ?_)
  have hu : uW D A s.heap H locs [(x, .inr (0, [.int 0, .int 0, .ref la, .int 0, .int 0, .ref b2, .int (-9), .int 0, .int 0, .int 0, .int 0, .int 0, .ref b3, .null, .int 0, .null, .null, .null, .null, .null])), (la, .inr (6, [.int 0, .ref e0, .int 0])), (b2, .inl (d 0, 6, .inl (fun _ => 0))), (b3, .inl (d 0, 6, .inl (fun _ => 0)))] := ⟨hP, hD, hS⟩
  refine lv_aload_n hx hb dX0_init_37 rfl (lv_at hl 0 rfl) ?_
  refine lv_bipush (v := 16) hx hb dX0_init_38 (by decide) ?_
  refine nw_i (N := 16) hx hb hts hK.1.1 hA hu (by decide) rfl (Nat.le_of_ble_eq_true rfl) (Nat.le_of_ble_eq_true rfl) (Nat.le_of_ble_eq_true rfl) dX0_init_40 (fun b4 H hu => ?_)
  have hu : uW D A s.heap H locs [(x, .inr (0, [.int 0, .int 0, .ref la, .int 0, .int 0, .ref b2, .int (-9), .int 0, .int 0, .int 0, .int 0, .int 0, .ref b3, .null, .int 0, .null, .null, .null, .null, .null])), (la, .inr (6, [.int 0, .ref e0, .int 0])), (b2, .inl (d 0, 6, .inl (fun _ => 0))), (b3, .inl (d 0, 6, .inl (fun _ => 0))), (b4, .inl (d 0, 16, .inl (fun _ => 0)))] := hu
  refine va_putF (D := D) (ci := 0) (v := .ref b4) (ty := (.array .int)) (C := RX0) (T := TX0) (N := 20) hx hb hts in_X0 tyX0 tyX0_ok nmX0 hown hK.1.1.1 hu.1 hu.2.1 hu.2.2 0 rfl rfl 13 (by decide) (hts _ q142) (fun _ h9 => h9) rfl hnm rfl (by decide +kernel) rfl rfl (Nat.le_of_ble_eq_true rfl) dX0_init_42 (fun H locs hP hD hS => ?_)
  have hu : uW D A s.heap H locs [(x, .inr (0, [.int 0, .int 0, .ref la, .int 0, .int 0, .ref b2, .int (-9), .int 0, .int 0, .int 0, .int 0, .int 0, .ref b3, .ref b4, .int 0, .null, .null, .null, .null, .null])), (la, .inr (6, [.int 0, .ref e0, .int 0])), (b2, .inl (d 0, 6, .inl (fun _ => 0))), (b3, .inl (d 0, 6, .inl (fun _ => 0))), (b4, .inl (d 0, 16, .inl (fun _ => 0)))] := ⟨hP, hD, hS⟩
  refine lv_aload_n hx hb dX0_init_45 rfl (lv_at hl 0 rfl) ?_
  refine lv_bipush (v := 8) hx hb dX0_init_46 (by decide) ?_
  refine nw_i (N := 8) hx hb hts hK.1.1 hA hu (by decide) rfl (Nat.le_of_ble_eq_true rfl) (Nat.le_of_ble_eq_true rfl) (Nat.le_of_ble_eq_true rfl) dX0_init_48 (fun b5 H hu => ?_)
  have hu : uW D A s.heap H locs [(x, .inr (0, [.int 0, .int 0, .ref la, .int 0, .int 0, .ref b2, .int (-9), .int 0, .int 0, .int 0, .int 0, .int 0, .ref b3, .ref b4, .int 0, .null, .null, .null, .null, .null])), (la, .inr (6, [.int 0, .ref e0, .int 0])), (b2, .inl (d 0, 6, .inl (fun _ => 0))), (b3, .inl (d 0, 6, .inl (fun _ => 0))), (b4, .inl (d 0, 16, .inl (fun _ => 0))), (b5, .inl (d 0, 8, .inl (fun _ => 0)))] := hu
  refine va_putF (D := D) (ci := 0) (v := .ref b5) (ty := (.array .int)) (C := RX0) (T := TX0) (N := 20) hx hb hts in_X0 tyX0 tyX0_ok nmX0 hown hK.1.1.1 hu.1 hu.2.1 hu.2.2 0 rfl rfl 15 (by decide) (hts _ q144) (fun _ h9 => h9) rfl hnm rfl (by decide +kernel) rfl rfl (Nat.le_of_ble_eq_true rfl) dX0_init_50 (fun H locs hP hD hS => ?_)
  have hu : uW D A s.heap H locs [(x, .inr (0, [.int 0, .int 0, .ref la, .int 0, .int 0, .ref b2, .int (-9), .int 0, .int 0, .int 0, .int 0, .int 0, .ref b3, .ref b4, .int 0, .ref b5, .null, .null, .null, .null])), (la, .inr (6, [.int 0, .ref e0, .int 0])), (b2, .inl (d 0, 6, .inl (fun _ => 0))), (b3, .inl (d 0, 6, .inl (fun _ => 0))), (b4, .inl (d 0, 16, .inl (fun _ => 0))), (b5, .inl (d 0, 8, .inl (fun _ => 0)))] := ⟨hP, hD, hS⟩
  refine lv_aload_n hx hb dX0_init_53 rfl (lv_at hl 0 rfl) ?_
  refine lv_bipush (v := 8) hx hb dX0_init_54 (by decide) ?_
  refine nw_i (N := 8) hx hb hts hK.1.1 hA hu (by decide) rfl (Nat.le_of_ble_eq_true rfl) (Nat.le_of_ble_eq_true rfl) (Nat.le_of_ble_eq_true rfl) dX0_init_56 (fun b6 H hu => ?_)
  have hu : uW D A s.heap H locs [(x, .inr (0, [.int 0, .int 0, .ref la, .int 0, .int 0, .ref b2, .int (-9), .int 0, .int 0, .int 0, .int 0, .int 0, .ref b3, .ref b4, .int 0, .ref b5, .null, .null, .null, .null])), (la, .inr (6, [.int 0, .ref e0, .int 0])), (b2, .inl (d 0, 6, .inl (fun _ => 0))), (b3, .inl (d 0, 6, .inl (fun _ => 0))), (b4, .inl (d 0, 16, .inl (fun _ => 0))), (b5, .inl (d 0, 8, .inl (fun _ => 0))), (b6, .inl (d 0, 8, .inl (fun _ => 0)))] := hu
  refine va_putF (D := D) (ci := 0) (v := .ref b6) (ty := (.array .int)) (C := RX0) (T := TX0) (N := 20) hx hb hts in_X0 tyX0 tyX0_ok nmX0 hown hK.1.1.1 hu.1 hu.2.1 hu.2.2 0 rfl rfl 16 (by decide) (hts _ q145) (fun _ h9 => h9) rfl hnm rfl (by decide +kernel) rfl rfl (Nat.le_of_ble_eq_true rfl) dX0_init_58 (fun H locs hP hD hS => ?_)
  have hu : uW D A s.heap H locs [(x, .inr (0, [.int 0, .int 0, .ref la, .int 0, .int 0, .ref b2, .int (-9), .int 0, .int 0, .int 0, .int 0, .int 0, .ref b3, .ref b4, .int 0, .ref b5, .ref b6, .null, .null, .null])), (la, .inr (6, [.int 0, .ref e0, .int 0])), (b2, .inl (d 0, 6, .inl (fun _ => 0))), (b3, .inl (d 0, 6, .inl (fun _ => 0))), (b4, .inl (d 0, 16, .inl (fun _ => 0))), (b5, .inl (d 0, 8, .inl (fun _ => 0))), (b6, .inl (d 0, 8, .inl (fun _ => 0)))] := ⟨hP, hD, hS⟩
  refine lv_aload_n hx hb dX0_init_61 rfl (lv_at hl 0 rfl) ?_
  refine lv_bipush (v := 8) hx hb dX0_init_62 (by decide) ?_
  refine nw_i (N := 8) hx hb hts hK.1.1 hA hu (by decide) rfl (Nat.le_of_ble_eq_true rfl) (Nat.le_of_ble_eq_true rfl) (Nat.le_of_ble_eq_true rfl) dX0_init_64 (fun b7 H hu => ?_)
  have hu : uW D A s.heap H locs [(x, .inr (0, [.int 0, .int 0, .ref la, .int 0, .int 0, .ref b2, .int (-9), .int 0, .int 0, .int 0, .int 0, .int 0, .ref b3, .ref b4, .int 0, .ref b5, .ref b6, .null, .null, .null])), (la, .inr (6, [.int 0, .ref e0, .int 0])), (b2, .inl (d 0, 6, .inl (fun _ => 0))), (b3, .inl (d 0, 6, .inl (fun _ => 0))), (b4, .inl (d 0, 16, .inl (fun _ => 0))), (b5, .inl (d 0, 8, .inl (fun _ => 0))), (b6, .inl (d 0, 8, .inl (fun _ => 0))), (b7, .inl (d 0, 8, .inl (fun _ => 0)))] := hu
  refine va_putF (D := D) (ci := 0) (v := .ref b7) (ty := (.array .int)) (C := RX0) (T := TX0) (N := 20) hx hb hts in_X0 tyX0 tyX0_ok nmX0 hown hK.1.1.1 hu.1 hu.2.1 hu.2.2 0 rfl rfl 17 (by decide) (hts _ q146) (fun _ h9 => h9) rfl hnm rfl (by decide +kernel) rfl rfl (Nat.le_of_ble_eq_true rfl) dX0_init_66 (fun H locs hP hD hS => ?_)
  have hu : uW D A s.heap H locs [(x, .inr (0, [.int 0, .int 0, .ref la, .int 0, .int 0, .ref b2, .int (-9), .int 0, .int 0, .int 0, .int 0, .int 0, .ref b3, .ref b4, .int 0, .ref b5, .ref b6, .ref b7, .null, .null])), (la, .inr (6, [.int 0, .ref e0, .int 0])), (b2, .inl (d 0, 6, .inl (fun _ => 0))), (b3, .inl (d 0, 6, .inl (fun _ => 0))), (b4, .inl (d 0, 16, .inl (fun _ => 0))), (b5, .inl (d 0, 8, .inl (fun _ => 0))), (b6, .inl (d 0, 8, .inl (fun _ => 0))), (b7, .inl (d 0, 8, .inl (fun _ => 0)))] := ⟨hP, hD, hS⟩
  refine lv_aload_n hx hb dX0_init_69 rfl (lv_at hl 0 rfl) ?_
  refine lv_bipush (v := 8) hx hb dX0_init_70 (by decide) ?_
  refine nw_z (N := 8) hx hb hts hK.1.1 hA hu (by decide) rfl (Nat.le_of_ble_eq_true rfl) (Nat.le_of_ble_eq_true rfl) (Nat.le_of_ble_eq_true rfl) dX0_init_72 (fun b8 H hu => ?_)
  have hu : uW D A s.heap H locs [(x, .inr (0, [.int 0, .int 0, .ref la, .int 0, .int 0, .ref b2, .int (-9), .int 0, .int 0, .int 0, .int 0, .int 0, .ref b3, .ref b4, .int 0, .ref b5, .ref b6, .ref b7, .null, .null])), (la, .inr (6, [.int 0, .ref e0, .int 0])), (b2, .inl (d 0, 6, .inl (fun _ => 0))), (b3, .inl (d 0, 6, .inl (fun _ => 0))), (b4, .inl (d 0, 16, .inl (fun _ => 0))), (b5, .inl (d 0, 8, .inl (fun _ => 0))), (b6, .inl (d 0, 8, .inl (fun _ => 0))), (b7, .inl (d 0, 8, .inl (fun _ => 0))), (b8, .inl (d 1, 8, .inl (fun _ => 0)))] := hu
  refine va_putF (D := D) (ci := 0) (v := .ref b8) (ty := (.array .boolean)) (C := RX0) (T := TX0) (N := 20) hx hb hts in_X0 tyX0 tyX0_ok nmX0 hown hK.1.1.1 hu.1 hu.2.1 hu.2.2 0 rfl rfl 18 (by decide) (hts _ q147) (fun _ h9 => h9) rfl hnm rfl (by decide +kernel) rfl rfl (Nat.le_of_ble_eq_true rfl) dX0_init_74 (fun H locs hP hD hS => ?_)
  have hu : uW D A s.heap H locs [(x, .inr (0, [.int 0, .int 0, .ref la, .int 0, .int 0, .ref b2, .int (-9), .int 0, .int 0, .int 0, .int 0, .int 0, .ref b3, .ref b4, .int 0, .ref b5, .ref b6, .ref b7, .ref b8, .null])), (la, .inr (6, [.int 0, .ref e0, .int 0])), (b2, .inl (d 0, 6, .inl (fun _ => 0))), (b3, .inl (d 0, 6, .inl (fun _ => 0))), (b4, .inl (d 0, 16, .inl (fun _ => 0))), (b5, .inl (d 0, 8, .inl (fun _ => 0))), (b6, .inl (d 0, 8, .inl (fun _ => 0))), (b7, .inl (d 0, 8, .inl (fun _ => 0))), (b8, .inl (d 1, 8, .inl (fun _ => 0)))] := ⟨hP, hD, hS⟩
  refine lv_aload_n hx hb dX0_init_77 rfl (lv_at hl 0 rfl) ?_
  refine lv_iconst (v := nI 4) hx hb dX0_init_78 (by decide) ?_
  refine callU_S (rest := [.ref x]) hx hb hml hown hts KX_st hK.1 hA hAN hZ (cX_places l D d H00 _ _ _ _ _ _ _ _ _) (wX0_places hts ⟨Nat.le_of_ble_eq_true rfl, Nat.le_of_ble_eq_true rfl⟩) hu rfl hl.1 rfl (Nat.le_of_ble_eq_true rfl) dX0_init_79 ⟨Nat.le_of_ble_eq_true rfl, Nat.le_of_ble_eq_true rfl⟩ (fun r ws H locs hpo hu => ?_)
  obtain ⟨b9, p0, p1, p2, p3, rfl, rfl⟩ := hpo
  refine va_putF (D := D) (ci := 0) (v := .ref b9) (ty := (.array (.object "MustardFast$Place"))) (C := RX0) (T := TX0) (N := 20) hx hb hts in_X0 tyX0 tyX0_ok nmX0 hown hK.1.1.1 hu.1 hu.2.1 hu.2.2 0 rfl rfl 19 (by decide) (hts _ q148) (fun _ h9 => h9) rfl hnm rfl (by decide +kernel) rfl rfl (Nat.le_of_ble_eq_true rfl) dX0_init_82 (fun H locs hP hD hS => ?_)
  have hu : uW D A s.heap H locs [(x, .inr (0, [.int 0, .int 0, .ref la, .int 0, .int 0, .ref b2, .int (-9), .int 0, .int 0, .int 0, .int 0, .int 0, .ref b3, .ref b4, .int 0, .ref b5, .ref b6, .ref b7, .ref b8, .ref b9])), (la, .inr (6, [.int 0, .ref e0, .int 0])), (b2, .inl (d 0, 6, .inl (fun _ => 0))), (b3, .inl (d 0, 6, .inl (fun _ => 0))), (b4, .inl (d 0, 16, .inl (fun _ => 0))), (b5, .inl (d 0, 8, .inl (fun _ => 0))), (b6, .inl (d 0, 8, .inl (fun _ => 0))), (b7, .inl (d 0, 8, .inl (fun _ => 0))), (b8, .inl (d 1, 8, .inl (fun _ => 0))), (b9, rfE (d 5) 4 (va_up (va_up (va_up (va_up (fun _ => none) 0 (some p0)) 1 (some p1)) 2 (some p2)) 3 (some p3))), (p0, .inr (2, [.null])), (p1, .inr (2, [.null])), (p2, .inr (2, [.null])), (p3, .inr (2, [.null]))] := ⟨hP, hD, hS⟩
  obtain ⟨B, hB⟩ : ∃ B : Nat → Nat, B = (fun k => match k with | 0 => x | 1 => la | 2 => b2 | 3 => b3 | 4 => b4 | 5 => b5 | 6 => b6 | 7 => b7 | 8 => b8 | 9 => b9 | 10 => p0 | 11 => p1 | 12 => p2 | 13 => p3 | _ => 0) := ⟨_, rfl⟩
  have hu := uW_put (j := 9) (x := b9) (y' := .inl (d 5, 4, .inr (.inr (.inr (.inr (fun k => some (B (10 + k)))))))) hu rfl (fun z => by
    have z : H[b9]? = some (vp_cell (d 5) (4, .inr (.inr (.inr (.inr (va_up (va_up (va_up (va_up (fun _ => none) 0 (some p0)) 1 (some p1)) 2 (some p2)) 3 (some p3))))))) := z
    show H[b9]? = some (vp_cell (d 5) (4, .inr (.inr (.inr (.inr (fun k => some (B (10 + k))))))))
    rw [z, vp_cell_eqq]
    intro t ht
    have ht4 : t = 0 ∨ t = 1 ∨ t = 2 ∨ t = 3 := by omega
    rw [hB]
    rcases ht4 with h | h | h | h <;> subst h <;> rfl)
  have hu : uW D A s.heap H locs (xw d B xI0 e0 (fun _ => none) []) := by
    rw [hB] at hu ⊢
    exact hu
  exact rU_v hx hb hr hlk hu dX0_init_85 (Nat.le_of_ble_eq_true rfl) (Nat.le_of_ble_eq_true rfl) ⟨rfl, B, xI0, e0, fun _ => none, fun _ => 0, congrFun hB 0, rfl, xRep_0 d B e0 _⟩
