/-! the ArrayList: add -/
theorem xAr_app (ρ z : va_W) : xAr ρ (ρ ++ z) := ⟨fun j a o h => xKp.app ρ z j _ h, fun j a n cA f h => xKp.app ρ z j _ h⟩
set_option maxHeartbeats 4000000 in
set_option maxRecDepth 100000 in
theorem cL_add_2 (l : Launch) (D : va_G) (d : Nat → ClassId) (H00 : Heap) (B : Nat → Nat) (τ : Nat → Nat → Int32) (ea : Nat) (hs : Nat → Option Nat) (ρ : va_W) (e0 n fa jo kd : Nat) (F : Nat → Nat) (fs : List Value) (hn : n < 4) (hkd : kd < 3) (hL : xLst d ρ τ ea e0 n F) (hjo : ρ[jo]? = some (fa, .inr (3 + kd, fs))) : cU l (KE D d e0 H00) H00 D yJ2_add_2 cJ2_add_2 4 none (rc 3 1 10) [.ref (B 1), .ref fa, .ref ea, .int (nI n)] (xw d B τ ea hs ρ) (fun r0 ws => r0 = none ∧ ∃ (ea2 : Nat) (ρ2 : va_W), ws = xw d B (put2 τ 21 0 (nI (n + 1))) ea2 hs ρ2 ∧ xAr ρ ρ2 ∧ xLst d ρ2 (put2 τ 21 0 (nI (n + 1))) ea2 e0 (n + 1) (fun a => if a = n then fa else F a)) := by
  refine cU_start RJ2 rfl (by decide) (Nat.le_of_ble_eq_true rfl) ?_
  intro p e s m below meth c A hx hb hml hown hts hr hlk hnm hK hA hAN hZ hu ls hl
  have hl : lv_has ls 4 [(0, .ref (B 1)), (1, .ref fa), (2, .ref ea), (3, .int (nI n))] := hl
  have htail : ∀ (ea2 : Nat) (ρ1 : va_W) (je : Nat) (f1 : Nat → Option Nat) (H : Heap) (locs : List Loc) (ls : Array Slot), xAr ρ ρ1 → ρ1[je]? = some (ea2, rfE (d 4) 10 f1) → (∀ a, a < n → f1 a = some (F a)) → uW D A s.heap H locs (xw d B τ ea2 hs ρ1) → lv_has ls 4 [(2, .ref ea2), (0, .ref (B 1)), (1, .ref fa), (3, .int (nI n))] → W p l e (rc 3 1 10) s m [.ref (B 1), .ref fa, .ref ea, .int (nI n)].toArray below meth c H locs (0 + 1) (0 + 10) (MQ below (qU D A (fun r0 ws => r0 = none ∧ ∃ (ea2 : Nat) (ρ2 : va_W), ws = xw d B (put2 τ 21 0 (nI (n + 1))) ea2 hs ρ2 ∧ xAr ρ ρ2 ∧ xLst d ρ2 (put2 τ 21 0 (nI (n + 1))) ea2 e0 (n + 1) (fun a => if a = n then fa else F a))) [.ref (B 1), .ref fa, .ref ea, .int (nI n)].toArray s 1 10 A) (F0 m 11 ls []) := by
    intro ea2 ρ1 je f1 H locs ls hAr hje hf1 hu hl
    have hjo1 : (xw d B τ ea2 hs ρ1)[jo + 14]? = some (fa, .inr (3 + kd, fs)) := hAr.1 jo fa _ hjo
    have hjex : (xw d B τ ea2 hs ρ1)[je + 14]? = some (ea2, rfE (d 4) 10 f1) := hje
    refine lv_aload_n hx hb dJ2_add_2_11 rfl (lv_at hl 0 rfl) ?_
    refine lv_iload_n hx hb dJ2_add_2_12 rfl (lv_at hl 3 rfl) ?_
    refine lv_aload_n hx hb dJ2_add_2_13 rfl (lv_at hl 2 rfl) ?_
    have hgo : ∀ (H : Heap) (locs : List Loc), uW D A s.heap H locs (xw d B τ ea2 hs (ρ1.set je (ea2, rfE (d 4) 10 (va_up f1 (nI n).toNatClampNeg (some fa))))) → W p l e (rc 3 1 10) s m [.ref (B 1), .ref fa, .ref ea, .int (nI n)].toArray below meth c H locs (0 + 1) (0 + 10) (MQ below (qU D A (fun r0 ws => r0 = none ∧ ∃ (ea2 : Nat) (ρ2 : va_W), ws = xw d B (put2 τ 21 0 (nI (n + 1))) ea2 hs ρ2 ∧ xAr ρ ρ2 ∧ xLst d ρ2 (put2 τ 21 0 (nI (n + 1))) ea2 e0 (n + 1) (fun a => if a = n then fa else F a))) [.ref (B 1), .ref fa, .ref ea, .int (nI n)].toArray s 1 10 A) (F0 m 15 ls []) := by
      intro H locs hu
      rw [nI_clamp (by omega)] at hu
      refine lv_aload_n hx hb dJ2_add_2_15 rfl (lv_at hl 1 rfl) ?_
      refine lv_iload_n hx hb dJ2_add_2_16 rfl (lv_at hl 3 rfl) ?_
      refine lv_iconst (v := nI 1) hx hb dJ2_add_2_17 (by decide) ?_
      refine lv_iadd hx hb dJ2_add_2_18 ?_
      refine top_i (nI_add n 1) ?_
      refine lput2 hx hb hts hown hK.1 hu dJ2_add_2_19 (fun H locs hu => ?_)
      refine rU_v hx hb hr hlk hu dJ2_add_2_22 (Nat.le_of_ble_eq_true rfl) (Nat.le_of_ble_eq_true rfl) ⟨rfl, ea2, _, rfl, hAr.tr (xAr_set hje), rfl, Or.inr ⟨je, _, set_this hje, fun a ha => ?_⟩⟩
      show va_up f1 n (some fa) a = some (if a = n then fa else F a)
      unfold va_up
      by_cases q : a = n
      · rw [if_pos q, if_pos q]
      · rw [if_neg q, if_neg q]; exact hf1 a (by omega)
    rcases kd3 hkd with h | h | h
    · subst h
      exact va_astqO hx hb hK.1.1.1 hu.1 hu.2.1 hu.2.2 (je + 14) 4 (jo + 14) 3 hjex rfl (hK.1.c 0 rfl) hjo1 rfl (vp_in_nI (n := n) (by omega) (by decide)) dJ2_add_2_14 (fun H locs g1 g2 g3 => hgo H locs ⟨g1, g2, g3⟩)
    · subst h
      exact va_astqO hx hb hK.1.1.1 hu.1 hu.2.1 hu.2.2 (je + 14) 4 (jo + 14) 4 hjex rfl (hK.1.c 1 rfl) hjo1 rfl (vp_in_nI (n := n) (by omega) (by decide)) dJ2_add_2_14 (fun H locs g1 g2 g3 => hgo H locs ⟨g1, g2, g3⟩)
    · subst h
      exact va_astqO hx hb hK.1.1.1 hu.1 hu.2.1 hu.2.2 (je + 14) 4 (jo + 14) 5 hjex rfl (hK.1.c 2 rfl) hjo1 rfl (vp_in_nI (n := n) (by omega) (by decide)) dJ2_add_2_14 (fun H locs g1 g2 g3 => hgo H locs ⟨g1, g2, g3⟩)
  refine lv_iload_n hx hb dJ2_add_2_0 rfl (lv_at hl 3 rfl) ?_
  refine lv_aload_n hx hb dJ2_add_2_1 rfl (lv_at hl 2 rfl) ?_
  obtain ⟨h21, hz | ⟨je, f, hje, hf⟩⟩ := hL
  · obtain ⟨rfl, rfl⟩ := hz
    have hT := (hK.2.2.2.2.2.2.1.2.narrow (B := A) hAN).kept (H1 := s.heap) (fun a h _ => hZ.2 a h)
    refine va_tlen hx hb hT hu.2.2 (v := nI 0) rfl dJ2_add_2_2 ?_
    refine nc_ne (tgt := 11) hx hb dJ2_add_2_3 (by decide) (by decide) (by decide) (fun c0 => absurd rfl c0) (fun _ => ?_)
    refine lv_aload_n hx hb dJ2_add_2_6 rfl (lv_at hl 0 rfl) ?_
    refine callU_V (rest := []) hx hb hml hown hts KE_st hK hA hAN hZ (cL_grow l D d H00 B τ hs ρ ea h21) (wJ2_grow hts ⟨Nat.le_of_ble_eq_true rfl, Nat.le_of_ble_eq_true rfl⟩) (l_recv hK.1 hu.1) hu rfl hl.1 rfl (Nat.le_of_ble_eq_true rfl) dJ2_add_2_7 ⟨Nat.le_of_ble_eq_true rfl, Nat.le_of_ble_eq_true rfl⟩ (fun r ws H locs hpo hu => ?_)
    obtain ⟨q, rfl, rfl⟩ := hpo
    refine lv_astore_n (lv' := [(2, .ref q), (0, .ref (B 1)), (1, .ref fa), (3, .int (nI 0))]) hx hb dJ2_add_2_10 rfl hl (by decide) rfl (fun ls hl => ?_)
    exact htail q _ ρ.length (fun _ => none) H locs ls (xAr_app ρ _) app_last (fun a ha => absurd ha (Nat.not_lt_zero _)) hu hl
  · have hjex : (xw d B τ ea hs ρ)[je + 14]? = some (ea, rfE (d 4) 10 f) := hje
    refine va_alen hx hb hK.1.1.1 hu.1 (je + 14) 4 hjex rfl (v := nI 10) rfl dJ2_add_2_2 ?_
    refine nc_ne (tgt := 11) hx hb dJ2_add_2_3 (by decide) (by omega) (by decide) (fun _ => ?_) (fun c0 => by omega)
    refine W.less (htail ea ρ je f _ _ ls (xAr.rf ρ) hje hf hu ⟨hl.1, hl.2.1, fun q hq => hl.2.2 q ?_⟩) (Nat.le_of_ble_eq_true rfl) (Nat.le_of_ble_eq_true rfl)
    simp only [List.mem_cons, List.not_mem_nil, or_false] at hq ⊢
    rcases hq with h | h | h | h <;> simp [h]
set_option maxHeartbeats 4000000 in
set_option maxRecDepth 100000 in
theorem cL_add (l : Launch) (D : va_G) (d : Nat → ClassId) (H00 : Heap) (B : Nat → Nat) (τ : Nat → Nat → Int32) (ea : Nat) (hs : Nat → Option Nat) (ρ : va_W) (e0 n fa jo kd : Nat) (F : Nat → Nat) (fs : List Value) (hn : n < 4) (hkd : kd < 3) (hL : xLst d ρ τ ea e0 n F) (hjo : ρ[jo]? = some (fa, .inr (3 + kd, fs))) : cU l (KE D d e0 H00) H00 D yJ2_add cJ2_add 2 (some .boolean) (rc 4 1 10) [.ref (B 1), .ref fa] (xw d B τ ea hs ρ) (fun r0 ws => r0 = some (.int (bI true)) ∧ ∃ (v20 : Int32) (ea2 : Nat) (ρ2 : va_W), ws = xw d B (put2 (put2 τ 20 0 v20) 21 0 (nI (n + 1))) ea2 hs ρ2 ∧ xAr ρ ρ2 ∧ xLst d ρ2 (put2 (put2 τ 20 0 v20) 21 0 (nI (n + 1))) ea2 e0 (n + 1) (fun a => if a = n then fa else F a)) := by
  refine cU_start RJ2 rfl (by decide) (Nat.le_of_ble_eq_true rfl) ?_
  intro p e s m below meth c A hx hb hml hown hts hr hlk hnm hK hA hAN hZ hu ls hl
  have hl : lv_has ls 2 [(0, .ref (B 1)), (1, .ref fa)] := hl
  refine lv_aload_n hx hb dJ2_add_0 rfl (lv_at hl 0 rfl) ?_
  refine lv_dup hx hb dJ2_add_1 rfl ?_
  refine lg0 hx hb hts hown hK.1 hu.1 (u_same (hts _ q102)) dJ2_add_2 ?_
  refine lv_iconst (v := 1) hx hb dJ2_add_5 (by decide) ?_
  refine lv_iadd hx hb dJ2_add_6 ?_
  refine lput0 hx hb hts hown hK.1 hu dJ2_add_7 (fun H locs hu => ?_)
  refine lv_aload_n hx hb dJ2_add_10 rfl (lv_at hl 0 rfl) ?_
  refine lv_aload_n hx hb dJ2_add_11 rfl (lv_at hl 1 rfl) ?_
  refine lv_aload_n hx hb dJ2_add_12 rfl (lv_at hl 0 rfl) ?_
  refine lg1 hx hb hts hown hK.1 hu.1 dJ2_add_13 ?_
  refine lv_aload_n hx hb dJ2_add_16 rfl (lv_at hl 0 rfl) ?_
  refine lg2 hx hb hts hown hK.1 hu.1 dJ2_add_17 ?_
  refine top_i (y := nI n) hL.1 ?_
  refine callU_V (rest := []) hx hb hml hown hts KE_st hK hA hAN hZ (cL_add_2 l D d H00 B (put2 τ 20 0 (τ 20 0 + 1)) ea hs ρ e0 n fa jo kd F fs hn hkd hL hjo) (wJ2_add_2 hts ⟨Nat.le_of_ble_eq_true rfl, Nat.le_of_ble_eq_true rfl⟩) (l_recv hK.1 hu.1) hu rfl hl.1 rfl (Nat.le_of_ble_eq_true rfl) dJ2_add_20 ⟨Nat.le_of_ble_eq_true rfl, Nat.le_of_ble_eq_true rfl⟩ (fun r ws H locs hpo hu => ?_)
  obtain ⟨rfl, ea2, ρ2, rfl, h1, h2⟩ := hpo
  refine lv_iconst (v := 1) hx hb dJ2_add_23 (by decide) ?_
  exact rU_z hx hb hr hlk hu dJ2_add_24 (Nat.le_of_ble_eq_true rfl) (Nat.le_of_ble_eq_true rfl) (b := true) rfl ⟨rfl, _, ea2, ρ2, rfl, h1, h2⟩
