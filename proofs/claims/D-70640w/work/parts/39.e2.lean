/-! eaters: what is found, the best -/
theorem yst_nI : ∀ dd, dd < 7 → ∀ S, S < 64 → nI S ||| (nI S <<< ((1 : Int32) &&& 31) &&& ((1 : Int32) <<< (nI dd &&& 31) - 1)) = nI (yst dd S) := by decide +kernel
theorem laN_le (k st : Nat) : laN k st ≤ st := by
  unfold laN
  split
  · exact Nat.le_refl _
  · split <;> omega
set_option maxHeartbeats 4000000 in
set_option maxRecDepth 100000 in
theorem cE_yellow (l : Launch) (D : va_G) (d : Nat → ClassId) (B : Nat → Nat) (τ : Nat → Nat → Int32) (ea : Nat) (hs : Nat → Option Nat) (ρ : va_W) (fa j kd nu sp st nd : Nat) (ek dd z : Nat) (hj : (xw d B τ ea hs ρ)[j]? = some (fa, .inr (3 + kd, eF (B 0) kd nu sp st nd))) (hkd : kd < 3) (hst : st < 7) (hek : (τ 6 0 = nI nu ∧ τ 7 0 = nI ek) ∨ (¬ τ 6 0 = nI nu ∧ ek = kd)) (hek3 : ek < 3) (hd : τ 4 0 = nI dd) (hd6 : dd ≤ 6) (hz : z < 2 ^ dd) : cR l (KX D d) yX3_yellow cX3_yellow 4 (some .int) (rk 5) [.ref fa, .int (nI z)] (va_P D vwCl (xw d B τ ea hs ρ)) (.int (nI (yel dd (laN ek st) z))) := by
  refine cR_start RX3 rfl (by decide) (Nat.le_of_ble_eq_true rfl) ?_
  intro p e s m below meth c hx hb hml hown hts hr hlk hK hP ls hl
  have hl : lv_has ls 4 [(0, .ref fa), (1, .int (nI z))] := hl
  have hla := laN_le ek st
  have h64 := pow6 hd6
  refine lv_iload_n hx hb dX3_yellow_0 rfl (lv_at hl 1 rfl) ?_
  refine lv_istore_n (lv' := [(2, .int (nI z)), (0, .ref fa), (1, .int (nI z))]) hx hb dX3_yellow_1 rfl hl (by decide) rfl (fun ls hl => ?_)
  refine lv_iconst (v := nI 0) hx hb dX3_yellow_2 (by decide) ?_
  refine lv_istore_n (lv' := [(3, .int (nI 0)), (2, .int (nI z)), (0, .ref fa), (1, .int (nI z))]) hx hb dX3_yellow_3 rfl hl (by decide) rfl (fun ls hl => ?_)
  refine lp_R (σ := Nat) (fun n4 zz => zz + n4 = laN ek st) (fun zz => [(3, .int (nI zz)), (2, .int (nI (yel dd zz z))), (0, .ref fa), (1, .int (nI z))]) (fun n4 zz hI ih4 ls hl => ?_) (laN ek st) 0 (by omega) hl
  obtain ⟨k, rfl⟩ : ∃ y, y = zz := ⟨_, rfl⟩
  have hI : k + n4 = laN ek st := hI
  obtain hi := hI
  have hl : lv_has ls 4 [(3, .int (nI k)), (2, .int (nI (yel dd k z))), (0, .ref fa), (1, .int (nI z))] := hl
  refine lv_iload_n hx hb dX3_yellow_4 rfl (lv_at hl 0 rfl) ?_
  refine lv_aload_n hx hb dX3_yellow_5 rfl (lv_at hl 2 rfl) ?_
  refine callR_OE (rest := [.int (nI k)]) (As := []) (r := .int (nI (laN ek st))) (rm := rk 4) (HP := va_P D vwCl (xw d B τ ea hs ρ)) hx hb hml hown hts hK hP hj hkd (fun _ => cE_lastsNow l D d B τ ea hs ρ fa j kd nu sp st nd ek hj hkd hst hek hek3) (fun _ => cE_lastsNow l D d B τ ea hs ρ fa j kd nu sp st nd ek hj hkd hst hek hek3) (fun _ => cE_lastsNow l D d B τ ea hs ρ fa j kd nu sp st nd ek hj hkd hst hek hek3) (wX3_lastsNow_X3_0 hts ⟨Nat.le_of_ble_eq_true rfl, Nat.le_of_ble_eq_true rfl⟩) (wX3_lastsNow_X3_1 hts ⟨Nat.le_of_ble_eq_true rfl, Nat.le_of_ble_eq_true rfl⟩) (wX3_lastsNow_X3_2 hts ⟨Nat.le_of_ble_eq_true rfl, Nat.le_of_ble_eq_true rfl⟩) hP rfl hl.1 rfl (Nat.le_of_ble_eq_true rfl) dX3_yellow_6 ⟨Nat.zero_le _, Nat.zero_le _⟩ ?_
  refine nc_ge (tgt := 32) hx hb dX3_yellow_9 (by decide) (by omega) (by omega) (fun c1 => ?_) (fun c1 => ?_)
  · refine lv_iload_n hx hb dX3_yellow_32 rfl (lv_at hl 1 rfl) ?_
    exact rR_i hx hb hr hlk dX3_yellow_33 (by rw [show k = laN ek st by omega])
  · refine lv_iload_n hx hb dX3_yellow_12 rfl (lv_at hl 1 rfl) ?_
    refine lv_iload_n hx hb dX3_yellow_13 rfl (lv_at hl 1 rfl) ?_
    refine lv_iconst (v := 1) hx hb dX3_yellow_14 (by decide) ?_
    refine lv_ishl hx hb dX3_yellow_15 ?_
    refine lv_aload_n hx hb dX3_yellow_16 rfl (lv_at hl 2 rfl) ?_
    refine eg4 hx hb hts hown hK hP hj hkd dX3_yellow_17 ?_
    refine callR_N (rest := [.int (nI (yel dd k z) <<< (1 &&& 31)), .int (nI (yel dd k z))]) hx hb hml hown hts KX_st hK (cX_all l D d B τ ea hs ρ) (wX0_all_nX3 hts hK ⟨Nat.le_of_ble_eq_true rfl, Nat.le_of_ble_eq_true rfl⟩) (x_recv hK hP) hP rfl hl.1 rfl (Nat.le_of_ble_eq_true rfl) dX3_yellow_20 ⟨Nat.zero_le _, Nat.zero_le _⟩ ?_
    refine lv_iand hx hb dX3_yellow_23 ?_
    refine lv_ior hx hb dX3_yellow_24 ?_
    refine top_i (y := nI (yel dd (k + 1) z)) (by rw [hd]; exact yst_nI dd (by omega) _ (Nat.lt_of_lt_of_le (yel_lt _ hz) h64)) ?_
    refine lv_istore_n (lv' := [(2, .int (nI (yel dd (k + 1) z))), (3, .int (nI k)), (0, .ref fa), (1, .int (nI z))]) hx hb dX3_yellow_25 rfl hl (by decide) rfl (fun ls hl => ?_)
    refine lv_iinc (v := nI (k + 1)) (lv' := [(3, .int (nI (k + 1))), (2, .int (nI (yel dd (k + 1) z))), (0, .ref fa), (1, .int (nI z))]) hx hb dX3_yellow_26 hl (k := 1) rfl (inc_nI _) (by decide) rfl (fun ls hl => ?_)
    refine lv_goto (tgt := 4) hx hb dX3_yellow_29 (by decide) ?_
    exact ih4 (n4 - 1) (k + 1) ls (by omega) (by omega) (hl)

set_option maxHeartbeats 4000000 in
set_option maxRecDepth 100000 in
theorem cE_found (l : Launch) (D : va_G) (d : Nat → ClassId) (B : Nat → Nat) (τ : Nat → Nat → Int32) (ea : Nat) (hs : Nat → Option Nat) (ρ : va_W) (fa j kd nu sp st nd : Nat) (ek dd z F : Nat) (hj : (xw d B τ ea hs ρ)[j]? = some (fa, .inr (3 + kd, eF (B 0) kd nu sp st nd))) (hkd : kd < 3) (hst : st < 7) (hek : (τ 6 0 = nI nu ∧ τ 7 0 = nI ek) ∨ (¬ τ 6 0 = nI nu ∧ ek = kd)) (hek3 : ek < 3) (hd : τ 4 0 = nI dd) (hd6 : dd ≤ 6) (hz : z < 2 ^ dd) : cR l (KX D d) yX3_found cX3_found 3 (some .int) (rk 6) [.ref fa, .int (nI z), .int (nI F)] (va_P D vwCl (xw d B τ ea hs ρ)) (.int (nI (yel dd (laN ek st) z &&& F))) := by
  refine cR_start RX3 rfl (by decide) (Nat.le_of_ble_eq_true rfl) ?_
  intro p e s m below meth c hx hb hml hown hts hr hlk hK hP ls hl
  have hl : lv_has ls 3 [(0, .ref fa), (1, .int (nI z)), (2, .int (nI F))] := hl
  refine lv_aload_n hx hb dX3_found_0 rfl (lv_at hl 0 rfl) ?_
  refine lv_iload_n hx hb dX3_found_1 rfl (lv_at hl 1 rfl) ?_
  refine callR_OE (rest := []) (As := [.int (nI z)]) (r := .int (nI (yel dd (laN ek st) z))) (rm := rk 5) (HP := va_P D vwCl (xw d B τ ea hs ρ)) hx hb hml hown hts hK hP hj hkd (fun _ => cE_yellow l D d B τ ea hs ρ fa j kd nu sp st nd ek dd z hj hkd hst hek hek3 hd hd6 hz) (fun _ => cE_yellow l D d B τ ea hs ρ fa j kd nu sp st nd ek dd z hj hkd hst hek hek3 hd hd6 hz) (fun _ => cE_yellow l D d B τ ea hs ρ fa j kd nu sp st nd ek dd z hj hkd hst hek hek3 hd hd6 hz) (wX3_yellow_X3_0 hts ⟨Nat.le_of_ble_eq_true rfl, Nat.le_of_ble_eq_true rfl⟩) (wX3_yellow_X3_1 hts ⟨Nat.le_of_ble_eq_true rfl, Nat.le_of_ble_eq_true rfl⟩) (wX3_yellow_X3_2 hts ⟨Nat.le_of_ble_eq_true rfl, Nat.le_of_ble_eq_true rfl⟩) hP rfl hl.1 rfl (Nat.le_of_ble_eq_true rfl) dX3_found_2 ⟨Nat.zero_le _, Nat.zero_le _⟩ ?_
  refine lv_iload_n hx hb dX3_found_5 rfl (lv_at hl 2 rfl) ?_
  refine lv_iand hx hb dX3_found_6 ?_
  exact rR_i hx hb hr hlk dX3_found_7 (by rw [nx_and])

set_option maxHeartbeats 4000000 in
set_option maxRecDepth 100000 in
theorem cE_fine (l : Launch) (D : va_G) (d : Nat → ClassId) (B : Nat → Nat) (τ : Nat → Nat → Int32) (ea : Nat) (hs : Nat → Option Nat) (ρ : va_W) (fa j kd nu sp st nd : Nat) (ek dd z F : Nat) (hj : (xw d B τ ea hs ρ)[j]? = some (fa, .inr (3 + kd, eF (B 0) kd nu sp st nd))) (hkd : kd < 3) (hst : st < 7) (hek : (τ 6 0 = nI nu ∧ τ 7 0 = nI ek) ∨ (¬ τ 6 0 = nI nu ∧ ek = kd)) (hek3 : ek < 3) (hd : τ 4 0 = nI dd) (hd6 : dd ≤ 6) (hz : z < 2 ^ dd) : cR l (KX D d) yX3_fine cX3_fine 3 (some .int) (rk 7) [.ref fa, .int (nI z), .int (nI F)] (va_P D vwCl (xw d B τ ea hs ρ)) (.int (nI (sp * popc (yel dd (laN ek st) z &&& F)))) := by
  refine cR_start RX3 rfl (by decide) (Nat.le_of_ble_eq_true rfl) ?_
  intro p e s m below meth c hx hb hml hown hts hr hlk hK hP ls hl
  have hl : lv_has ls 3 [(0, .ref fa), (1, .int (nI z)), (2, .int (nI F))] := hl
  have h64 := pow6 hd6
  refine lv_aload_n hx hb dX3_fine_0 rfl (lv_at hl 0 rfl) ?_
  refine eg1 hx hb hts hown hK hP hj hkd dX3_fine_1 ?_
  refine lv_aload_n hx hb dX3_fine_4 rfl (lv_at hl 0 rfl) ?_
  refine lv_iload_n hx hb dX3_fine_5 rfl (lv_at hl 1 rfl) ?_
  refine lv_iload_n hx hb dX3_fine_6 rfl (lv_at hl 2 rfl) ?_
  refine callR_OE (rest := [.int (nI sp)]) (As := [.int (nI z), .int (nI F)]) (r := .int (nI (yel dd (laN ek st) z &&& F))) (rm := rk 6) (HP := va_P D vwCl (xw d B τ ea hs ρ)) hx hb hml hown hts hK hP hj hkd (fun _ => cE_found l D d B τ ea hs ρ fa j kd nu sp st nd ek dd z F hj hkd hst hek hek3 hd hd6 hz) (fun _ => cE_found l D d B τ ea hs ρ fa j kd nu sp st nd ek dd z F hj hkd hst hek hek3 hd hd6 hz) (fun _ => cE_found l D d B τ ea hs ρ fa j kd nu sp st nd ek dd z F hj hkd hst hek hek3 hd hd6 hz) (wX3_found_X3_0 hts ⟨Nat.le_of_ble_eq_true rfl, Nat.le_of_ble_eq_true rfl⟩) (wX3_found_X3_1 hts ⟨Nat.le_of_ble_eq_true rfl, Nat.le_of_ble_eq_true rfl⟩) (wX3_found_X3_2 hts ⟨Nat.le_of_ble_eq_true rfl, Nat.le_of_ble_eq_true rfl⟩) hP rfl hl.1 rfl (Nat.le_of_ble_eq_true rfl) dX3_fine_7 ⟨Nat.zero_le _, Nat.zero_le _⟩ ?_
  refine callR_NS (rest := [.int (nI sp)]) hx hb hml hown hts KX_st hK (cX_bits l D d (nI (yel dd (laN ek st) z &&& F))) (wX0_bits_nX3 hts hK ⟨Nat.le_of_ble_eq_true rfl, Nat.le_of_ble_eq_true rfl⟩) trivial rfl hl.1 rfl (Nat.le_of_ble_eq_true rfl) dX3_fine_10 ⟨Nat.zero_le _, Nat.zero_le _⟩ ?_
  refine top_i (y := nI (popc (yel dd (laN ek st) z &&& F))) (pBits_nI _ (Nat.lt_of_le_of_lt Nat.and_le_left (Nat.lt_of_lt_of_le (yel_lt _ hz) h64))) ?_
  refine lv_imul hx hb dX3_fine_13 ?_
  exact rR_i hx hb hr hlk dX3_fine_14 (by rw [pk_mul])

def eE (ek st sp nd : Nat) : Nat → Nat → Nat := fun k _ => match k with | 0 => ek | 1 => st | 2 => sp | _ => nd
theorem all_nI : ∀ dd, dd < 7 → (1 : Int32) <<< (nI dd &&& 31) - 1 = nI (2 ^ dd - 1) := by decide +kernel
theorem n64 : ∀ b, b < 64 → ¬ nI b = -9 := by decide +kernel
set_option maxHeartbeats 4000000 in
set_option maxRecDepth 100000 in
theorem cE_best (l : Launch) (D : va_G) (d : Nat → ClassId) (B : Nat → Nat) (τ : Nat → Nat → Int32) (ea : Nat) (hs : Nat → Option Nat) (ρ : va_W) (fa j kd nu sp st nd : Nat) (ek dd F : Nat) (hj : (xw d B τ ea hs ρ)[j]? = some (fa, .inr (3 + kd, eF (B 0) kd nu sp st nd))) (hkd : kd < 3) (hst : st < 7) (hek : (τ 6 0 = nI nu ∧ τ 7 0 = nI ek) ∨ (¬ τ 6 0 = nI nu ∧ ek = kd)) (hek3 : ek < 3) (hd : τ 4 0 = nI dd) (hd6 : dd ≤ 6) (hnd : nd < 7) (hsp : sp < 10) : cR l (KX D d) yX3_best cX3_best 4 (some .int) (rk 8) [.ref fa, .int (nI F)] (va_P D vwCl (xw d B τ ea hs ρ)) (.int (oI (bst (eE ek st sp nd) dd F 0 (2 ^ dd)))) := by
  refine cR_start RX3 rfl (by decide) (Nat.le_of_ble_eq_true rfl) ?_
  intro p e s m below meth c hx hb hml hown hts hr hlk hK hP ls hl
  have hl : lv_has ls 4 [(0, .ref fa), (1, .int (nI F))] := hl
  have h64 := pow6 hd6
  have hpos : 0 < 2 ^ dd := Nat.two_pow_pos dd
  have hp6 := popc_le
  have hf : ∀ z, (fin (eE ek st sp nd) dd F 0 z) ≤ 54 := fun z => fin_lt hsp
  refine lv_bipush (v := (-9)) hx hb dX3_best_0 (by decide) ?_
  refine lv_istore_n (lv' := [(2, .int (-9)), (0, .ref fa), (1, .int (nI F))]) hx hb dX3_best_2 rfl hl (by decide) rfl (fun ls hl => ?_)
  refine lv_iconst (v := nI 0) hx hb dX3_best_3 (by decide) ?_
  refine lv_istore_n (lv' := [(3, .int (nI 0)), (2, .int (-9)), (0, .ref fa), (1, .int (nI F))]) hx hb dX3_best_4 rfl hl (by decide) rfl (fun ls hl => ?_)
  refine lp_R (σ := Nat) (fun n5 zz => zz + n5 = 2 ^ dd) (fun zz => [(3, .int (nI zz)), (2, .int (oI (bst (eE ek st sp nd) dd F 0 zz))), (0, .ref fa), (1, .int (nI F))]) (fun n5 zz hI ih5 ls hl => ?_) (2 ^ dd) 0 (by omega) hl
  obtain ⟨i, rfl⟩ : ∃ y, y = zz := ⟨_, rfl⟩
  have hI : i + n5 = 2 ^ dd := hI
  obtain hi := hI
  have hl : lv_has ls 4 [(3, .int (nI i)), (2, .int (oI (bst (eE ek st sp nd) dd F 0 i))), (0, .ref fa), (1, .int (nI F))] := hl
  refine lv_iload_n hx hb dX3_best_5 rfl (lv_at hl 0 rfl) ?_
  refine lv_aload_n hx hb dX3_best_6 rfl (lv_at hl 2 rfl) ?_
  refine eg4 hx hb hts hown hK hP hj hkd dX3_best_7 ?_
  refine callR_N (rest := [.int (nI i)]) hx hb hml hown hts KX_st hK (cX_all l D d B τ ea hs ρ) (wX0_all_nX3 hts hK ⟨Nat.le_of_ble_eq_true rfl, Nat.le_of_ble_eq_true rfl⟩) (x_recv hK hP) hP rfl hl.1 rfl (Nat.le_of_ble_eq_true rfl) dX3_best_10 ⟨Nat.zero_le _, Nat.zero_le _⟩ ?_
  refine top_i (y := nI (2 ^ dd - 1)) (by rw [hd]; exact all_nI dd (by omega)) ?_
  refine nc_gt (tgt := 85) hx hb dX3_best_13 (by decide) (by omega) (by omega) (fun c1 => ?_) (fun c1 => ?_)
  · refine lv_iload_n hx hb dX3_best_85 rfl (lv_at hl 1 rfl) ?_
    exact rR_i hx hb hr hlk dX3_best_86 (by rw [show i = 2 ^ dd by omega])
  · refine lv_iload_n hx hb dX3_best_16 rfl (lv_at hl 0 rfl) ?_
    refine callR_NS (rest := []) hx hb hml hown hts KX_st hK (cX_bits l D d (nI i)) (wX0_bits_nX3 hts hK ⟨Nat.le_of_ble_eq_true rfl, Nat.le_of_ble_eq_true rfl⟩) trivial rfl hl.1 rfl (Nat.le_of_ble_eq_true rfl) dX3_best_17 ⟨Nat.zero_le _, Nat.zero_le _⟩ ?_
    refine top_i (y := nI (popc i)) (pBits_nI i (by omega)) ?_
    refine lv_aload_n hx hb dX3_best_20 rfl (lv_at hl 2 rfl) ?_
    refine eg3 hx hb hts hown hK hP hj hkd dX3_best_21 ?_
    have hpi := hp6 i
    refine nc_ge (tgt := 30) hx hb dX3_best_24 (by decide) (by omega) (by omega) (fun c2 => ?_) (fun c2 => ?_)
    · rcases hb0 : bst (eE ek st sp nd) dd F 0 i with _ | b
      · rw [hb0] at hl
        have hl : lv_has ls 4 [(3, .int (nI i)), (2, .int (-9)), (0, .ref fa), (1, .int (nI F))] := hl
        refine lv_iload_n hx hb dX3_best_30 rfl (lv_at hl 1 rfl) ?_
        refine lv_bipush (v := (-9)) hx hb dX3_best_31 (by decide) ?_
        refine lv_icmp_eq (tgt := 77) hx hb dX3_best_33 (by decide) (fun c0 => ?_) (fun c0 => absurd (by decide) c0)
        refine lv_iload_n hx hb dX3_best_77 rfl (lv_at hl 0 rfl) ?_
        refine lv_istore_n (lv' := [(2, .int (nI i)), (3, .int (nI i)), (0, .ref fa), (1, .int (nI F))]) hx hb dX3_best_78 rfl hl (by decide) rfl (fun ls hl => ?_)
        refine lv_iinc (v := nI (i + 1)) (lv' := [(3, .int (nI (i + 1))), (2, .int (nI i)), (0, .ref fa), (1, .int (nI F))]) hx hb dX3_best_79 hl (k := 1) rfl (inc_nI _) (by decide) rfl (fun ls hl => ?_)
        refine lv_goto (tgt := 5) hx hb dX3_best_82 (by decide) ?_
        have es : (bst (eE ek st sp nd) dd F 0 (i + 1)) = some i := bst_none c2 hb0
        exact ih5 (n5 - 1) (i + 1) ls (by omega) (by omega) ((by rw [es]; exact hl))
      · rw [hb0] at hl
        have hl : lv_has ls 4 [(3, .int (nI i)), (2, .int (nI b)), (0, .ref fa), (1, .int (nI F))] := hl
        have hb1 : b < i := bst_lt i b hb0
        refine lv_iload_n hx hb dX3_best_30 rfl (lv_at hl 1 rfl) ?_
        refine lv_bipush (v := (-9)) hx hb dX3_best_31 (by decide) ?_
        refine lv_icmp_eq (tgt := 77) hx hb dX3_best_33 (by decide) (fun c0 => absurd c0 (n64 b (by omega))) (fun c0 => ?_)
        refine lv_aload_n hx hb dX3_best_36 rfl (lv_at hl 2 rfl) ?_
        refine lv_iload_n hx hb dX3_best_37 rfl (lv_at hl 0 rfl) ?_
        refine lv_iload_n hx hb dX3_best_38 rfl (lv_at hl 3 rfl) ?_
        refine callR_OE (rest := []) (As := [.int (nI i), .int (nI F)]) (r := .int (nI (sp * popc (yel dd (laN ek st) i &&& F)))) (rm := rk 7) (HP := va_P D vwCl (xw d B τ ea hs ρ)) hx hb hml hown hts hK hP hj hkd (fun _ => cE_fine l D d B τ ea hs ρ fa j kd nu sp st nd ek dd i F hj hkd hst hek hek3 hd hd6 (by omega)) (fun _ => cE_fine l D d B τ ea hs ρ fa j kd nu sp st nd ek dd i F hj hkd hst hek hek3 hd hd6 (by omega)) (fun _ => cE_fine l D d B τ ea hs ρ fa j kd nu sp st nd ek dd i F hj hkd hst hek hek3 hd hd6 (by omega)) (wX3_fine_X3_0 hts ⟨Nat.le_of_ble_eq_true rfl, Nat.le_of_ble_eq_true rfl⟩) (wX3_fine_X3_1 hts ⟨Nat.le_of_ble_eq_true rfl, Nat.le_of_ble_eq_true rfl⟩) (wX3_fine_X3_2 hts ⟨Nat.le_of_ble_eq_true rfl, Nat.le_of_ble_eq_true rfl⟩) hP rfl hl.1 rfl (Nat.le_of_ble_eq_true rfl) dX3_best_39 ⟨Nat.zero_le _, Nat.zero_le _⟩ ?_
        refine top_i (y := nI (fin (eE ek st sp nd) dd F 0 i)) (rfl) ?_
        refine lv_aload_n hx hb dX3_best_42 rfl (lv_at hl 2 rfl) ?_
        refine lv_iload_n hx hb dX3_best_43 rfl (lv_at hl 1 rfl) ?_
        refine lv_iload_n hx hb dX3_best_44 rfl (lv_at hl 3 rfl) ?_
        refine callR_OE (rest := [.int (nI (fin (eE ek st sp nd) dd F 0 i))]) (As := [.int (nI b), .int (nI F)]) (r := .int (nI (sp * popc (yel dd (laN ek st) b &&& F)))) (rm := rk 7) (HP := va_P D vwCl (xw d B τ ea hs ρ)) hx hb hml hown hts hK hP hj hkd (fun _ => cE_fine l D d B τ ea hs ρ fa j kd nu sp st nd ek dd b F hj hkd hst hek hek3 hd hd6 (by omega)) (fun _ => cE_fine l D d B τ ea hs ρ fa j kd nu sp st nd ek dd b F hj hkd hst hek hek3 hd hd6 (by omega)) (fun _ => cE_fine l D d B τ ea hs ρ fa j kd nu sp st nd ek dd b F hj hkd hst hek hek3 hd hd6 (by omega)) (wX3_fine_X3_0 hts ⟨Nat.le_of_ble_eq_true rfl, Nat.le_of_ble_eq_true rfl⟩) (wX3_fine_X3_1 hts ⟨Nat.le_of_ble_eq_true rfl, Nat.le_of_ble_eq_true rfl⟩) (wX3_fine_X3_2 hts ⟨Nat.le_of_ble_eq_true rfl, Nat.le_of_ble_eq_true rfl⟩) hP rfl hl.1 rfl (Nat.le_of_ble_eq_true rfl) dX3_best_45 ⟨Nat.zero_le _, Nat.zero_le _⟩ ?_
        have hfi := hf i
        have hfb := hf b
        refine top_i (y := nI (fin (eE ek st sp nd) dd F 0 b)) (rfl) ?_
        refine nc_lt (tgt := 77) hx hb dX3_best_48 (by decide) (by omega) (by omega) (fun c3 => ?_) (fun c3 => ?_)
        · refine lv_iload_n hx hb dX3_best_77 rfl (lv_at hl 0 rfl) ?_
          refine lv_istore_n (lv' := [(2, .int (nI i)), (3, .int (nI i)), (0, .ref fa), (1, .int (nI F))]) hx hb dX3_best_78 rfl hl (by decide) rfl (fun ls hl => ?_)
          refine lv_iinc (v := nI (i + 1)) (lv' := [(3, .int (nI (i + 1))), (2, .int (nI i)), (0, .ref fa), (1, .int (nI F))]) hx hb dX3_best_79 hl (k := 1) rfl (inc_nI _) (by decide) rfl (fun ls hl => ?_)
          refine lv_goto (tgt := 5) hx hb dX3_best_82 (by decide) ?_
          have es : (bst (eE ek st sp nd) dd F 0 (i + 1)) = some i := bst_some c2 hb0 (Or.inl c3)
          exact ih5 (n5 - 1) (i + 1) ls (by omega) (by omega) ((by rw [es]; exact hl))
        · refine lv_aload_n hx hb dX3_best_51 rfl (lv_at hl 2 rfl) ?_
          refine lv_iload_n hx hb dX3_best_52 rfl (lv_at hl 0 rfl) ?_
          refine lv_iload_n hx hb dX3_best_53 rfl (lv_at hl 3 rfl) ?_
          refine callR_OE (rest := []) (As := [.int (nI i), .int (nI F)]) (r := .int (nI (sp * popc (yel dd (laN ek st) i &&& F)))) (rm := rk 7) (HP := va_P D vwCl (xw d B τ ea hs ρ)) hx hb hml hown hts hK hP hj hkd (fun _ => cE_fine l D d B τ ea hs ρ fa j kd nu sp st nd ek dd i F hj hkd hst hek hek3 hd hd6 (by omega)) (fun _ => cE_fine l D d B τ ea hs ρ fa j kd nu sp st nd ek dd i F hj hkd hst hek hek3 hd hd6 (by omega)) (fun _ => cE_fine l D d B τ ea hs ρ fa j kd nu sp st nd ek dd i F hj hkd hst hek hek3 hd hd6 (by omega)) (wX3_fine_X3_0 hts ⟨Nat.le_of_ble_eq_true rfl, Nat.le_of_ble_eq_true rfl⟩) (wX3_fine_X3_1 hts ⟨Nat.le_of_ble_eq_true rfl, Nat.le_of_ble_eq_true rfl⟩) (wX3_fine_X3_2 hts ⟨Nat.le_of_ble_eq_true rfl, Nat.le_of_ble_eq_true rfl⟩) hP rfl hl.1 rfl (Nat.le_of_ble_eq_true rfl) dX3_best_54 ⟨Nat.zero_le _, Nat.zero_le _⟩ ?_
          refine top_i (y := nI (fin (eE ek st sp nd) dd F 0 i)) (rfl) ?_
          refine lv_aload_n hx hb dX3_best_57 rfl (lv_at hl 2 rfl) ?_
          refine lv_iload_n hx hb dX3_best_58 rfl (lv_at hl 1 rfl) ?_
          refine lv_iload_n hx hb dX3_best_59 rfl (lv_at hl 3 rfl) ?_
          refine callR_OE (rest := [.int (nI (fin (eE ek st sp nd) dd F 0 i))]) (As := [.int (nI b), .int (nI F)]) (r := .int (nI (sp * popc (yel dd (laN ek st) b &&& F)))) (rm := rk 7) (HP := va_P D vwCl (xw d B τ ea hs ρ)) hx hb hml hown hts hK hP hj hkd (fun _ => cE_fine l D d B τ ea hs ρ fa j kd nu sp st nd ek dd b F hj hkd hst hek hek3 hd hd6 (by omega)) (fun _ => cE_fine l D d B τ ea hs ρ fa j kd nu sp st nd ek dd b F hj hkd hst hek hek3 hd hd6 (by omega)) (fun _ => cE_fine l D d B τ ea hs ρ fa j kd nu sp st nd ek dd b F hj hkd hst hek hek3 hd hd6 (by omega)) (wX3_fine_X3_0 hts ⟨Nat.le_of_ble_eq_true rfl, Nat.le_of_ble_eq_true rfl⟩) (wX3_fine_X3_1 hts ⟨Nat.le_of_ble_eq_true rfl, Nat.le_of_ble_eq_true rfl⟩) (wX3_fine_X3_2 hts ⟨Nat.le_of_ble_eq_true rfl, Nat.le_of_ble_eq_true rfl⟩) hP rfl hl.1 rfl (Nat.le_of_ble_eq_true rfl) dX3_best_60 ⟨Nat.zero_le _, Nat.zero_le _⟩ ?_
          refine top_i (y := nI (fin (eE ek st sp nd) dd F 0 b)) (rfl) ?_
          refine nc_ne (tgt := 79) hx hb dX3_best_63 (by decide) (by omega) (by omega) (fun c4 => ?_) (fun c4 => ?_)
          · refine lv_iinc (v := nI (i + 1)) (lv' := [(3, .int (nI (i + 1))), (2, .int (nI b)), (0, .ref fa), (1, .int (nI F))]) hx hb dX3_best_79 hl (k := 0) rfl (inc_nI _) (by decide) rfl (fun ls hl => ?_)
            refine lv_goto (tgt := 5) hx hb dX3_best_82 (by decide) ?_
            have es : (bst (eE ek st sp nd) dd F 0 (i + 1)) = some b := bst_keep c2 hb0 (by omega)
            exact ih5 (n5 - 1) (i + 1) ls (by omega) (by omega) ((by rw [es]; exact hl))
          · refine lv_iload_n hx hb dX3_best_66 rfl (lv_at hl 0 rfl) ?_
            refine callR_NS (rest := []) hx hb hml hown hts KX_st hK (cX_bits l D d (nI i)) (wX0_bits_nX3 hts hK ⟨Nat.le_of_ble_eq_true rfl, Nat.le_of_ble_eq_true rfl⟩) trivial rfl hl.1 rfl (Nat.le_of_ble_eq_true rfl) dX3_best_67 ⟨Nat.zero_le _, Nat.zero_le _⟩ ?_
            refine top_i (y := nI (popc i)) (pBits_nI i (by omega)) ?_
            refine lv_iload_n hx hb dX3_best_70 rfl (lv_at hl 1 rfl) ?_
            refine callR_NS (rest := [.int (nI (popc i))]) hx hb hml hown hts KX_st hK (cX_bits l D d (nI b)) (wX0_bits_nX3 hts hK ⟨Nat.le_of_ble_eq_true rfl, Nat.le_of_ble_eq_true rfl⟩) trivial rfl hl.1 rfl (Nat.le_of_ble_eq_true rfl) dX3_best_71 ⟨Nat.zero_le _, Nat.zero_le _⟩ ?_
            have hpb := hp6 b
            refine top_i (y := nI (popc b)) (pBits_nI b (by omega)) ?_
            refine nc_ge (tgt := 79) hx hb dX3_best_74 (by decide) (by omega) (by omega) (fun c5 => ?_) (fun c5 => ?_)
            · refine lv_iinc (v := nI (i + 1)) (lv' := [(3, .int (nI (i + 1))), (2, .int (nI b)), (0, .ref fa), (1, .int (nI F))]) hx hb dX3_best_79 hl (k := 0) rfl (inc_nI _) (by decide) rfl (fun ls hl => ?_)
              refine lv_goto (tgt := 5) hx hb dX3_best_82 (by decide) ?_
              have es : (bst (eE ek st sp nd) dd F 0 (i + 1)) = some b := bst_keep c2 hb0 (by omega)
              exact ih5 (n5 - 1) (i + 1) ls (by omega) (by omega) ((by rw [es]; exact hl))
            · refine lv_iload_n hx hb dX3_best_77 rfl (lv_at hl 0 rfl) ?_
              refine lv_istore_n (lv' := [(2, .int (nI i)), (3, .int (nI i)), (0, .ref fa), (1, .int (nI F))]) hx hb dX3_best_78 rfl hl (by decide) rfl (fun ls hl => ?_)
              refine lv_iinc (v := nI (i + 1)) (lv' := [(3, .int (nI (i + 1))), (2, .int (nI i)), (0, .ref fa), (1, .int (nI F))]) hx hb dX3_best_79 hl (k := 1) rfl (inc_nI _) (by decide) rfl (fun ls hl => ?_)
              refine lv_goto (tgt := 5) hx hb dX3_best_82 (by decide) ?_
              have es : (bst (eE ek st sp nd) dd F 0 (i + 1)) = some i := bst_some c2 hb0 (Or.inr ⟨c4, c5⟩)
              exact ih5 (n5 - 1) (i + 1) ls (by omega) (by omega) ((by rw [es]; exact hl))
    · refine lv_goto (tgt := 79) hx hb dX3_best_27 (by decide) ?_
      refine lv_iinc (v := nI (i + 1)) (lv' := [(3, .int (nI (i + 1))), (2, .int (oI (bst (eE ek st sp nd) dd F 0 i))), (0, .ref fa), (1, .int (nI F))]) hx hb dX3_best_79 hl (k := 0) rfl (inc_nI _) (by decide) rfl (fun ls hl => ?_)
      refine lv_goto (tgt := 5) hx hb dX3_best_82 (by decide) ?_
      have es : (bst (eE ek st sp nd) dd F 0 (i + 1)) = (bst (eE ek st sp nd) dd F 0 i) := bst_skip c2
      exact ih5 (n5 - 1) (i + 1) ls (by omega) (by omega) ((by rw [es]; exact hl))
