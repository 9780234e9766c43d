/-! eaters: kinds, lasts -/
set_option maxHeartbeats 4000000 in
set_option maxRecDepth 100000 in
theorem cE_kind (l : Launch) (D : va_G) (d : Nat → ClassId) (B : Nat → Nat) (τ : Nat → Nat → Int32) (ea : Nat) (hs : Nat → Option Nat) (ρ : va_W) (fa j kd nu sp st nd : Nat) (hj : (xw d B τ ea hs ρ)[j]? = some (fa, .inr (3 + kd, eF (B 0) kd nu sp st nd))) (hkd : kd < 3)  : cR l (KX D d) yX3_kind cX3_kind 1 (some .int) (rk 0) [.ref fa] (va_P D vwCl (xw d B τ ea hs ρ)) (.int (nI 0)) := by
  refine cR_start RX3 rfl (by decide) (Nat.le_of_ble_eq_true rfl) ?_
  intro p e s m below meth c hx hb hml hown hts hr hlk hK hP ls hl
  have hl : lv_has ls 1 [(0, .ref fa)] := hl
  refine lv_iconst (v := nI 0) hx hb dX3_kind_0 (by decide) ?_
  exact rR_i hx hb hr hlk dX3_kind_1 (rfl)

set_option maxHeartbeats 4000000 in
set_option maxRecDepth 100000 in
theorem cS_kind (l : Launch) (D : va_G) (d : Nat → ClassId) (B : Nat → Nat) (τ : Nat → Nat → Int32) (ea : Nat) (hs : Nat → Option Nat) (ρ : va_W) (fa j kd nu sp st nd : Nat) (hj : (xw d B τ ea hs ρ)[j]? = some (fa, .inr (3 + kd, eF (B 0) kd nu sp st nd))) (hkd : kd < 3)  : cR l (KX D d) yX4_kind cX4_kind 1 (some .int) (rk 0) [.ref fa] (va_P D vwCl (xw d B τ ea hs ρ)) (.int (nI 1)) := by
  refine cR_start RX4 rfl (by decide) (Nat.le_of_ble_eq_true rfl) ?_
  intro p e s m below meth c hx hb hml hown hts hr hlk hK hP ls hl
  have hl : lv_has ls 1 [(0, .ref fa)] := hl
  refine lv_iconst (v := nI 1) hx hb dX4_kind_0 (by decide) ?_
  exact rR_i hx hb hr hlk dX4_kind_1 (rfl)

set_option maxHeartbeats 4000000 in
set_option maxRecDepth 100000 in
theorem cT_kind (l : Launch) (D : va_G) (d : Nat → ClassId) (B : Nat → Nat) (τ : Nat → Nat → Int32) (ea : Nat) (hs : Nat → Option Nat) (ρ : va_W) (fa j kd nu sp st nd : Nat) (hj : (xw d B τ ea hs ρ)[j]? = some (fa, .inr (3 + kd, eF (B 0) kd nu sp st nd))) (hkd : kd < 3)  : cR l (KX D d) yX5_kind cX5_kind 1 (some .int) (rk 0) [.ref fa] (va_P D vwCl (xw d B τ ea hs ρ)) (.int (nI 2)) := by
  refine cR_start RX5 rfl (by decide) (Nat.le_of_ble_eq_true rfl) ?_
  intro p e s m below meth c hx hb hml hown hts hr hlk hK hP ls hl
  have hl : lv_has ls 1 [(0, .ref fa)] := hl
  refine lv_iconst (v := nI 2) hx hb dX5_kind_0 (by decide) ?_
  exact rR_i hx hb hr hlk dX5_kind_1 (rfl)

set_option maxHeartbeats 4000000 in
set_option maxRecDepth 100000 in
theorem cE_lasts (l : Launch) (D : va_G) (d : Nat → ClassId) (B : Nat → Nat) (τ : Nat → Nat → Int32) (ea : Nat) (hs : Nat → Option Nat) (ρ : va_W) (fa j kd nu sp st nd : Nat) (k0 : Nat) (hj : (xw d B τ ea hs ρ)[j]? = some (fa, .inr (3 + kd, eF (B 0) kd nu sp st nd))) (hkd : kd < 3) : cR l (KX D d) yX3_lasts cX3_lasts 1 (some .int) (rk k0) [.ref fa] (va_P D vwCl (xw d B τ ea hs ρ)) (.int (nI st)) := by
  refine cR_start RX3 rfl (by decide) (Nat.le_of_ble_eq_true rfl) ?_
  intro p e s m below meth c hx hb hml hown hts hr hlk hK hP ls hl
  have hl : lv_has ls 1 [(0, .ref fa)] := hl
  refine lv_aload_n hx hb dX3_lasts_0 rfl (lv_at hl 0 rfl) ?_
  refine eg2 hx hb hts hown hK hP hj hkd dX3_lasts_1 ?_
  exact rR_i hx hb hr hlk dX3_lasts_4 (rfl)

set_option maxHeartbeats 4000000 in
set_option maxRecDepth 100000 in
theorem cS_lasts (l : Launch) (D : va_G) (d : Nat → ClassId) (B : Nat → Nat) (τ : Nat → Nat → Int32) (ea : Nat) (hs : Nat → Option Nat) (ρ : va_W) (fa j kd nu sp st nd : Nat) (hj : (xw d B τ ea hs ρ)[j]? = some (fa, .inr (3 + kd, eF (B 0) kd nu sp st nd))) (hkd : kd < 3) (hst : st < 7) : cR l (KX D d) yX4_lasts cX4_lasts 1 (some .int) (rk 2) [.ref fa] (va_P D vwCl (xw d B τ ea hs ρ)) (.int (nI (st - 1))) := by
  refine cR_start RX4 rfl (by decide) (Nat.le_of_ble_eq_true rfl) ?_
  intro p e s m below meth c hx hb hml hown hts hr hlk hK hP ls hl
  have hl : lv_has ls 1 [(0, .ref fa)] := hl
  refine lv_iconst (v := 0) hx hb dX4_lasts_0 (by decide) ?_
  refine lv_aload_n hx hb dX4_lasts_1 rfl (lv_at hl 0 rfl) ?_
  refine callR_PE (rest := [.int 0]) hx hb hml hown hts hK hP hj hkd (cE_lasts l D d B τ ea hs ρ fa j kd nu sp st nd 1 hj hkd) (wX3_lasts_sX4 hts ⟨Nat.le_of_ble_eq_true rfl, Nat.le_of_ble_eq_true rfl⟩) hP rfl hl.1 rfl (Nat.le_of_ble_eq_true rfl) dX4_lasts_2 ⟨Nat.zero_le _, Nat.zero_le _⟩ ?_
  refine lv_iconst (v := 1) hx hb dX4_lasts_5 (by decide) ?_
  refine lv_isub hx hb dX4_lasts_6 ?_
  refine va_mmax hx hb (by rw [hml]; exact hl.1.symm) hown (hts _ q591) (hts _ q497) (hts _ q66) (hts _ q498) (Nat.le_of_ble_eq_true rfl) (Nat.le_of_ble_eq_true rfl) (Nat.le_of_ble_eq_true rfl) (Nat.le_of_ble_eq_true rfl) dX4_lasts_7 ?_
  refine top_i (y := nI (st - 1)) (mx_nI _ hst) ?_
  exact rR_i hx hb hr hlk dX4_lasts_10 (rfl)

set_option maxHeartbeats 4000000 in
set_option maxRecDepth 100000 in
theorem cS_lasts3 (l : Launch) (D : va_G) (d : Nat → ClassId) (B : Nat → Nat) (τ : Nat → Nat → Int32) (ea : Nat) (hs : Nat → Option Nat) (ρ : va_W) (fa j kd nu sp st nd : Nat) (hj : (xw d B τ ea hs ρ)[j]? = some (fa, .inr (3 + kd, eF (B 0) kd nu sp st nd))) (hkd : kd < 3) (hst : st < 7) : cR l (KX D d) yX4_lasts cX4_lasts 1 (some .int) (rk 3) [.ref fa] (va_P D vwCl (xw d B τ ea hs ρ)) (.int (nI (st - 1))) := by
  refine cR_start RX4 rfl (by decide) (Nat.le_of_ble_eq_true rfl) ?_
  intro p e s m below meth c hx hb hml hown hts hr hlk hK hP ls hl
  have hl : lv_has ls 1 [(0, .ref fa)] := hl
  refine lv_iconst (v := 0) hx hb dX4_lasts_0 (by decide) ?_
  refine lv_aload_n hx hb dX4_lasts_1 rfl (lv_at hl 0 rfl) ?_
  refine callR_PE (rest := [.int 0]) hx hb hml hown hts hK hP hj hkd (cE_lasts l D d B τ ea hs ρ fa j kd nu sp st nd 1 hj hkd) (wX3_lasts_sX4 hts ⟨Nat.le_of_ble_eq_true rfl, Nat.le_of_ble_eq_true rfl⟩) hP rfl hl.1 rfl (Nat.le_of_ble_eq_true rfl) dX4_lasts_2 ⟨Nat.zero_le _, Nat.zero_le _⟩ ?_
  refine lv_iconst (v := 1) hx hb dX4_lasts_5 (by decide) ?_
  refine lv_isub hx hb dX4_lasts_6 ?_
  refine va_mmax hx hb (by rw [hml]; exact hl.1.symm) hown (hts _ q591) (hts _ q497) (hts _ q66) (hts _ q498) (Nat.le_of_ble_eq_true rfl) (Nat.le_of_ble_eq_true rfl) (Nat.le_of_ble_eq_true rfl) (Nat.le_of_ble_eq_true rfl) dX4_lasts_7 ?_
  refine top_i (y := nI (st - 1)) (mx_nI _ hst) ?_
  exact rR_i hx hb hr hlk dX4_lasts_10 (rfl)

set_option maxHeartbeats 4000000 in
set_option maxRecDepth 100000 in
theorem cT_lasts (l : Launch) (D : va_G) (d : Nat → ClassId) (B : Nat → Nat) (τ : Nat → Nat → Int32) (ea : Nat) (hs : Nat → Option Nat) (ρ : va_W) (fa j kd nu sp st nd : Nat) (hj : (xw d B τ ea hs ρ)[j]? = some (fa, .inr (3 + kd, eF (B 0) kd nu sp st nd))) (hkd : kd < 3) (hst : st < 7) : cR l (KX D d) yX5_lasts cX5_lasts 1 (some .int) (rk 3) [.ref fa] (va_P D vwCl (xw d B τ ea hs ρ)) (.int (nI ((st - 1) / 2))) := by
  refine cR_start RX5 rfl (by decide) (Nat.le_of_ble_eq_true rfl) ?_
  intro p e s m below meth c hx hb hml hown hts hr hlk hK hP ls hl
  have hl : lv_has ls 1 [(0, .ref fa)] := hl
  refine lv_aload_n hx hb dX5_lasts_0 rfl (lv_at hl 0 rfl) ?_
  refine callR_PE (rest := []) hx hb hml hown hts hK hP hj hkd (cS_lasts l D d B τ ea hs ρ fa j kd nu sp st nd hj hkd hst) (wX4_lasts_sX5 hts ⟨Nat.le_of_ble_eq_true rfl, Nat.le_of_ble_eq_true rfl⟩) hP rfl hl.1 rfl (Nat.le_of_ble_eq_true rfl) dX5_lasts_1 ⟨Nat.zero_le _, Nat.zero_le _⟩ ?_
  refine lv_iconst (v := 2) hx hb dX5_lasts_4 (by decide) ?_
  refine lv_idiv hx hb dX5_lasts_5 (by decide) ?_
  exact rR_i hx hb hr hlk dX5_lasts_6 (by rw [dv_nI _ (by omega)])

set_option maxHeartbeats 4000000 in
set_option maxRecDepth 100000 in
theorem cE_lastsNow (l : Launch) (D : va_G) (d : Nat → ClassId) (B : Nat → Nat) (τ : Nat → Nat → Int32) (ea : Nat) (hs : Nat → Option Nat) (ρ : va_W) (fa j kd nu sp st nd : Nat) (ek : Nat) (hj : (xw d B τ ea hs ρ)[j]? = some (fa, .inr (3 + kd, eF (B 0) kd nu sp st nd))) (hkd : kd < 3) (hst : st < 7) (hek : (τ 6 0 = nI nu ∧ τ 7 0 = nI ek) ∨ (¬ τ 6 0 = nI nu ∧ ek = kd)) (hek3 : ek < 3) : cR l (KX D d) yX3_lastsNow cX3_lastsNow 1 (some .int) (rk 4) [.ref fa] (va_P D vwCl (xw d B τ ea hs ρ)) (.int (nI (laN ek st))) := by
  refine cR_start RX3 rfl (by decide) (Nat.le_of_ble_eq_true rfl) ?_
  intro p e s m below meth c hx hb hml hown hts hr hlk hK hP ls hl
  have hl : lv_has ls 1 [(0, .ref fa)] := hl
  refine lv_aload_n hx hb dX3_lastsNow_0 rfl (lv_at hl 0 rfl) ?_
  refine eg0 hx hb hts hown hK hP hj hkd dX3_lastsNow_1 ?_
  refine lv_aload_n hx hb dX3_lastsNow_4 rfl (lv_at hl 0 rfl) ?_
  refine eg4 hx hb hts hown hK hP hj hkd dX3_lastsNow_5 ?_
  refine xn6 hx hb hts hown hK hP dX3_lastsNow_8 ?_
  refine lv_icmp_ne (tgt := 31) hx hb dX3_lastsNow_11 (by decide) (fun c1 => ?_) (fun c1 => ?_)
  · have hk : ek = kd := hek.elim (fun h => absurd h.1.symm c1) (fun h => h.2)
    refine lv_aload_n hx hb dX3_lastsNow_31 rfl (lv_at hl 0 rfl) ?_
    refine callR_OE (rest := []) (As := []) (r := .int (nI (laN kd st))) (rm := rk 3) (HP := va_P D vwCl (xw d B τ ea hs ρ)) hx hb hml hown hts hK hP hj hkd (fun h => by rw [show laN kd st = st from by rw [h]; rfl]; exact cE_lasts l D d B τ ea hs ρ fa j kd nu sp st nd 3 hj hkd) (fun h => by rw [show laN kd st = st - 1 from by rw [h]; rfl]; exact cS_lasts3 l D d B τ ea hs ρ fa j kd nu sp st nd hj hkd hst) (fun h => by rw [show laN kd st = (st - 1) / 2 from by rw [h]; rfl]; exact cT_lasts l D d B τ ea hs ρ fa j kd nu sp st nd hj hkd hst) (wX3_lasts_X3_0 hts ⟨Nat.le_of_ble_eq_true rfl, Nat.le_of_ble_eq_true rfl⟩) (wX4_lasts_X3_1 hts ⟨Nat.le_of_ble_eq_true rfl, Nat.le_of_ble_eq_true rfl⟩) (wX5_lasts_X3_2 hts ⟨Nat.le_of_ble_eq_true rfl, Nat.le_of_ble_eq_true rfl⟩) hP rfl hl.1 rfl (Nat.le_of_ble_eq_true rfl) dX3_lastsNow_32 ⟨Nat.zero_le _, Nat.zero_le _⟩ ?_
    exact rR_i hx hb hr hlk dX3_lastsNow_35 (by rw [hk])
  · have h7 : τ 7 0 = nI ek := hek.elim (fun h => h.2) (fun h => absurd c1.symm h.1)
    refine lv_aload_n hx hb dX3_lastsNow_14 rfl (lv_at hl 0 rfl) ?_
    refine eg2 hx hb hts hown hK hP hj hkd dX3_lastsNow_15 ?_
    refine lv_aload_n hx hb dX3_lastsNow_18 rfl (lv_at hl 0 rfl) ?_
    refine eg4 hx hb hts hown hK hP hj hkd dX3_lastsNow_19 ?_
    refine xn7 hx hb hts hown hK hP dX3_lastsNow_22 ?_
    refine top_i (y := nI ek) (h7) ?_
    refine callR_NS (rest := []) hx hb hml hown hts KX_st hK (cX_asKind l D d st ek (by omega) (by omega)) (wX0_asKind_nX3 hts hK ⟨Nat.le_of_ble_eq_true rfl, Nat.le_of_ble_eq_true rfl⟩) trivial rfl hl.1 rfl (Nat.le_of_ble_eq_true rfl) dX3_lastsNow_25 ⟨Nat.zero_le _, Nat.zero_le _⟩ ?_
    refine lv_goto (tgt := 35) hx hb dX3_lastsNow_28 (by decide) ?_
    exact rR_i hx hb hr hlk dX3_lastsNow_35 (rfl)
