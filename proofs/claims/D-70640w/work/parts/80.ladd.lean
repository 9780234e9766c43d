/-! the ArrayList: grow, add -/
set_option maxHeartbeats 4000000 in
set_option maxRecDepth 100000 in
theorem cL_grow_2 (l : Launch) (D : va_G) (d : Nat → ClassId) (H00 : Heap) (B : Nat → Nat) (τ : Nat → Nat → Int32) (hs : Nat → Option Nat) (ρ : va_W) (e0 : Nat) : cU l (KE D d e0 H00) H00 D yJ2_grow_2 cJ2_grow_2 4 (some (.array (.object "java/lang/Object"))) (rc 1 1 10) [.ref (B 1), .int (nI 1)] (xw d B τ e0 hs ρ) (fun r0 ws => ∃ q, r0 = some (.ref q) ∧ ws = xw d B τ q hs (ρ ++ [(q, rfE (d 4) 10 (fun _ => none))])) := by
  refine cU_start RJ2 rfl (by decide) (Nat.le_of_ble_eq_true rfl) ?_
  intro p e s m below meth c A hx hb hml hown hts hr hlk hnm hK hA hAN hZ hu ls hl
  have hl : lv_has ls 4 [(0, .ref (B 1)), (1, .int (nI 1))] := hl
  have hT := (hK.2.2.2.2.2.2.1.2.narrow (B := A) hAN).kept (H1 := s.heap) (fun a h _ => hZ.2 a h)
  have hZs := (hK.2.2.2.2.2.2.1.1.narrow (B := A) hAN).kept (H1 := s.heap) (fun a h _ => hZ.2 a h)
  refine lv_aload_n hx hb dJ2_grow_2_0 rfl (lv_at hl 0 rfl) ?_
  refine lg1 hx hb hts hown hK.1 hu.1 dJ2_grow_2_1 ?_
  refine va_tlen hx hb hT hu.2.2 (v := nI 0) rfl dJ2_grow_2_4 ?_
  refine lv_istore_n (lv' := [(2, .int (nI 0)), (0, .ref (B 1)), (1, .int (nI 1))]) hx hb dJ2_grow_2_5 rfl hl (by decide) rfl (fun ls hl => ?_)
  refine lv_iload_n hx hb dJ2_grow_2_6 rfl (lv_at hl 0 rfl) ?_
  refine lv_if_gt (tgt := 20) hx hb dJ2_grow_2_7 (by decide) (fun c0 => absurd c0 (by decide)) (fun _ => ?_)
  refine lv_aload_n hx hb dJ2_grow_2_10 rfl (lv_at hl 1 rfl) ?_
  refine lg1 hx hb hts hown hK.1 hu.1 dJ2_grow_2_11 ?_
  refine va_gets hx hb hZs hu.2.2 hown (hts _ q96) (fun _ h9 => h9) dJ2_grow_2_14 ?_
  refine lv_acmp_eq (rx := some e0) (ry := some e0) (tgt := 45) hx hb dJ2_grow_2_17 (by decide) (fun _ => ?_) (fun c0 => absurd rfl c0)
  refine lv_aload_n hx hb dJ2_grow_2_45 rfl (lv_at hl 1 rfl) ?_
  refine lv_bipush (v := nI 10) hx hb dJ2_grow_2_46 (by decide) ?_
  refine lv_iload_n hx hb dJ2_grow_2_48 rfl (lv_at hl 2 rfl) ?_
  refine va_mmax hx hb (by rw [hml]; exact hl.1.symm) hown (hts _ q530) (hts _ q497) (hts _ q66) (hts _ q498) (Nat.le_of_ble_eq_true rfl) (Nat.le_of_ble_eq_true rfl) (Nat.le_of_ble_eq_true rfl) (Nat.le_of_ble_eq_true rfl) dJ2_grow_2_49 ?_
  refine top_i (y := nI 10) (by decide) ?_
  refine va_newq hx hb hown (hts _ q531) hK.1.2.2.2.2.2.2.1.2 hK.1.1.1 hu.1 hu.2.1 hu.2.2 hA (N' := 10) (nI_pos (by decide)) (nI_clamp (by decide)) (by decide) (Nat.le_of_ble_eq_true rfl) (Nat.le_of_ble_eq_true rfl) dJ2_grow_2_52 (fun q cA H hKn g1 g2 g3 => ?_)
  obtain ⟨_, _, -, -, -, hfA⟩ := (hKn.2 6 _ rfl).2
  have e4 : cA = d 4 := Option.some.inj (hfA.symm.trans hK.1.2.2.2.2.2.2.2.1)
  subst e4
  have hu : uW D A s.heap H [] (xw d B τ e0 hs (ρ ++ [(q, rfE (d 4) 10 (fun _ => none))])) := ⟨g1, g2, g3⟩
  refine lv_dup_x1 hx hb dJ2_grow_2_55 rfl rfl ?_
  refine lput1 hx hb hts hown hK.1 hu dJ2_grow_2_56 (fun H locs hu => ?_)
  exact rU_a hx hb hr (Or.inr ⟨_, rfl⟩) hlk hu dJ2_grow_2_59 (Nat.le_of_ble_eq_true rfl) (Nat.le_of_ble_eq_true rfl) ⟨q, rfl, rfl⟩
set_option maxHeartbeats 4000000 in
set_option maxRecDepth 100000 in
theorem cL_grow (l : Launch) (D : va_G) (d : Nat → ClassId) (H00 : Heap) (B : Nat → Nat) (τ : Nat → Nat → Int32) (hs : Nat → Option Nat) (ρ : va_W) (e0 : Nat) (h21 : τ 21 0 = nI 0) : cU l (KE D d e0 H00) H00 D yJ2_grow cJ2_grow 1 (some (.array (.object "java/lang/Object"))) (rc 2 1 10) [.ref (B 1)] (xw d B τ e0 hs ρ) (fun r0 ws => ∃ q, r0 = some (.ref q) ∧ ws = xw d B τ q hs (ρ ++ [(q, rfE (d 4) 10 (fun _ => none))])) := by
  refine cU_start RJ2 rfl (by decide) (Nat.le_of_ble_eq_true rfl) ?_
  intro p e s m below meth c A hx hb hml hown hts hr hlk hnm hK hA hAN hZ hu ls hl
  have hl : lv_has ls 1 [(0, .ref (B 1))] := hl
  refine lv_aload_n hx hb dJ2_grow_0 rfl (lv_at hl 0 rfl) ?_
  refine lv_aload_n hx hb dJ2_grow_1 rfl (lv_at hl 0 rfl) ?_
  refine lg2 hx hb hts hown hK.1 hu.1 dJ2_grow_2 ?_
  refine top_i h21 ?_
  refine lv_iconst (v := nI 1) hx hb dJ2_grow_5 (by decide) ?_
  refine lv_iadd hx hb dJ2_grow_6 ?_
  refine top_i (nI_add 0 1) ?_
  refine callU_V (rest := []) hx hb hml hown hts KE_st hK hA hAN hZ (cL_grow_2 l D d H00 B τ hs ρ e0) (wJ2_grow_2 hts ⟨Nat.le_of_ble_eq_true rfl, Nat.le_of_ble_eq_true rfl⟩) (l_recv hK.1 hu.1) hu rfl hl.1 rfl (Nat.le_of_ble_eq_true rfl) dJ2_grow_7 ⟨Nat.le_of_ble_eq_true rfl, Nat.le_of_ble_eq_true rfl⟩ (fun r ws H locs hpo hu => ?_)
  obtain ⟨q, rfl, rfl⟩ := hpo
  exact rU_a hx hb hr (Or.inr ⟨_, rfl⟩) hlk hu dJ2_grow_10 (Nat.le_of_ble_eq_true rfl) (Nat.le_of_ble_eq_true rfl) ⟨q, rfl, rfl⟩
