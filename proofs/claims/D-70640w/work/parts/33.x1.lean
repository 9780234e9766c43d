/-! X: its small methods -/
set_option maxHeartbeats 4000000 in
set_option maxRecDepth 100000 in
theorem cX_isIn (l : Launch) (D : va_G) (d : Nat → ClassId) (v lo hi : Int64) : cR l (KX D d) yX0_isIn cX0_isIn 6 (some .boolean) (rk 0) [.long v, .long lo, .long hi] (fun _ => True) (.int (bI (pIn v lo hi))) := by
  refine cR_start RX0 rfl (by decide) (Nat.le_of_ble_eq_true rfl) ?_
  intro p e s m below meth c hx hb hml hown hts hr hlk hK hP ls hl
  have hl : lv_has ls 6 [(0, .long v), (2, .long lo), (4, .long hi)] := hl
  refine lv_lload_n hx hb dX0_isIn_0 rfl (lv_at hl 0 rfl) ?_
  refine lv_lload_n hx hb dX0_isIn_1 rfl (lv_at hl 1 rfl) ?_
  refine lc_lt (tgt := 17) hx hb dX0_isIn_2 dX0_isIn_3 (by decide) (fun c1 => ?_) (fun c1 => ?_)
  · refine lv_iconst (v := 0) hx hb dX0_isIn_17 (by decide) ?_
    exact rR_z hx hb hr hlk dX0_isIn_18 (by rw [pIn_f1 c1]; rfl)
  · refine lv_lload_n hx hb dX0_isIn_6 rfl (lv_at hl 0 rfl) ?_
    refine lv_lload hx hb dX0_isIn_7 (lv_at hl 2 rfl) ?_
    refine lc_gt (tgt := 17) hx hb dX0_isIn_9 dX0_isIn_10 (by decide) (fun c2 => ?_) (fun c2 => ?_)
    · refine lv_iconst (v := 0) hx hb dX0_isIn_17 (by decide) ?_
      exact rR_z hx hb hr hlk dX0_isIn_18 (by rw [pIn_f2 c2]; rfl)
    · refine lv_iconst (v := 1) hx hb dX0_isIn_13 (by decide) ?_
      refine lv_goto (tgt := 18) hx hb dX0_isIn_14 (by decide) ?_
      exact rR_z hx hb hr hlk dX0_isIn_18 (by rw [pIn_t c1 c2]; rfl)

set_option maxHeartbeats 4000000 in
set_option maxRecDepth 100000 in
theorem cX_isOf (l : Launch) (D : va_G) (d : Nat → ClassId) (set k : Int32) : cR l (KX D d) yX0_isOf cX0_isOf 2 (some .boolean) (rk 0) [.int set, .int k] (fun _ => True) (.int (bI (pBit set k))) := by
  refine cR_start RX0 rfl (by decide) (Nat.le_of_ble_eq_true rfl) ?_
  intro p e s m below meth c hx hb hml hown hts hr hlk hK hP ls hl
  have hl : lv_has ls 2 [(0, .int set), (1, .int k)] := hl
  refine lv_iload_n hx hb dX0_isOf_0 rfl (lv_at hl 0 rfl) ?_
  refine lv_iload_n hx hb dX0_isOf_1 rfl (lv_at hl 1 rfl) ?_
  refine lv_ishr hx hb dX0_isOf_2 ?_
  refine lv_iconst (v := 1) hx hb dX0_isOf_3 (by decide) ?_
  refine lv_iand hx hb dX0_isOf_4 ?_
  refine lv_iconst (v := 1) hx hb dX0_isOf_5 (by decide) ?_
  refine lv_icmp_ne (tgt := 13) hx hb dX0_isOf_6 (by decide) (fun c1 => ?_) (fun c1 => ?_)
  · refine lv_iconst (v := 0) hx hb dX0_isOf_13 (by decide) ?_
    exact rR_z hx hb hr hlk dX0_isOf_14 (by rw [pBit_f c1]; rfl)
  · refine lv_iconst (v := 1) hx hb dX0_isOf_9 (by decide) ?_
    refine lv_goto (tgt := 14) hx hb dX0_isOf_10 (by decide) ?_
    exact rR_z hx hb hr hlk dX0_isOf_14 (by rw [pBit_t c1]; rfl)

set_option maxHeartbeats 4000000 in
set_option maxRecDepth 100000 in
theorem cX_bits (l : Launch) (D : va_G) (d : Nat → ClassId) (set : Int32) : cR l (KX D d) yX0_bits cX0_bits 3 (some .int) (rk 0) [.int set] (fun _ => True) (.int (pBits set)) := by
  refine cR_start RX0 rfl (by decide) (Nat.le_of_ble_eq_true rfl) ?_
  intro p e s m below meth c hx hb hml hown hts hr hlk hK hP ls hl
  have hl : lv_has ls 3 [(0, .int set)] := hl
  refine lv_iconst (v := 0) hx hb dX0_bits_0 (by decide) ?_
  refine lv_istore_n (lv' := [(1, .int 0), (0, .int set)]) hx hb dX0_bits_1 rfl hl (by decide) rfl (fun ls hl => ?_)
  refine lv_iload_n hx hb dX0_bits_2 rfl (lv_at hl 1 rfl) ?_
  refine lv_istore_n (lv' := [(2, .int set), (1, .int 0), (0, .int set)]) hx hb dX0_bits_3 rfl hl (by decide) rfl (fun ls hl => ?_)
  refine lp_R (σ := Int32 × Int32) (fun n4 zz => zz.1.toInt < 2 ^ n4 ∧ pbl n4 zz.1 zz.2 = pBits set) (fun zz => [(2, .int zz.1), (1, .int zz.2), (0, .int set)]) (fun n4 zz hI ih4 ls hl => ?_) 31 (set, 0) (⟨by have := Int32.toInt_lt set; omega, rfl⟩) hl
  obtain ⟨r, k⟩ := zz
  have hI : r.toInt < 2 ^ n4 ∧ pbl n4 r k = pBits set := hI
  obtain ⟨hr1, hk1⟩ := hI
  have hl : lv_has ls 3 [(2, .int r), (1, .int k), (0, .int set)] := hl
  refine lv_iload_n hx hb dX0_bits_4 rfl (lv_at hl 0 rfl) ?_
  refine lv_if_le (tgt := 21) hx hb dX0_bits_5 (by decide) (fun c1 => ?_) (fun c1 => ?_)
  · refine lv_iload_n hx hb dX0_bits_21 rfl (lv_at hl 1 rfl) ?_
    exact rR_i hx hb hr hlk dX0_bits_22 (by rw [pbl_stop c1] at hk1; rw [hk1])
  · refine lv_iload_n hx hb dX0_bits_8 rfl (lv_at hl 1 rfl) ?_
    refine lv_iload_n hx hb dX0_bits_9 rfl (lv_at hl 0 rfl) ?_
    refine lv_iconst (v := 1) hx hb dX0_bits_10 (by decide) ?_
    refine lv_iand hx hb dX0_bits_11 ?_
    refine lv_iadd hx hb dX0_bits_12 ?_
    refine lv_istore_n (lv' := [(1, .int (k + (r &&& 1))), (2, .int r), (0, .int set)]) hx hb dX0_bits_13 rfl hl (by decide) rfl (fun ls hl => ?_)
    refine lv_iload_n hx hb dX0_bits_14 rfl (lv_at hl 1 rfl) ?_
    refine lv_iconst (v := 1) hx hb dX0_bits_15 (by decide) ?_
    refine lv_ishr hx hb dX0_bits_16 ?_
    refine lv_istore_n (lv' := [(2, .int (r >>> (1 &&& 31))), (1, .int (k + (r &&& 1))), (0, .int set)]) hx hb dX0_bits_17 rfl hl (by decide) rfl (fun ls hl => ?_)
    refine lv_goto (tgt := 4) hx hb dX0_bits_18 (by decide) ?_
    exact ih4 (n4 - 1) ((r >>> (1 &&& 31)), (k + (r &&& 1))) ls (bits_dec c1 hr1) (bits_step c1 hr1 hk1 ) (hl)

set_option maxHeartbeats 4000000 in
set_option maxRecDepth 100000 in
theorem cX_isDigit (l : Launch) (D : va_G) (d : Nat → ClassId) (v : Int32) : cR l (KX D d) yX0_isDigit cX0_isDigit 1 (some .boolean) (rk 1) [.int v] (fun _ => True) (.int (bI (pIn v.toInt64 0 9))) := by
  refine cR_start RX0 rfl (by decide) (Nat.le_of_ble_eq_true rfl) ?_
  intro p e s m below meth c hx hb hml hown hts hr hlk hK hP ls hl
  have hl : lv_has ls 1 [(0, .int v)] := hl
  refine lv_iload_n hx hb dX0_isDigit_0 rfl (lv_at hl 0 rfl) ?_
  refine lv_i2l (v := v.toInt64) hx hb dX0_isDigit_1 rfl ?_
  refine lv_lconst (v := 0) hx hb dX0_isDigit_2 (by decide) ?_
  refine lv_ldc2 (v := 9) hx hb hown (hts _ q612) dX0_isDigit_3 ?_
  refine callR_S (rest := []) hx hb hml hown hts KX_st hK (cX_isIn l D d v.toInt64 0 9) (wX0_isIn hts ⟨Nat.le_of_ble_eq_true rfl, Nat.le_of_ble_eq_true rfl⟩) trivial rfl hl.1 rfl (Nat.le_of_ble_eq_true rfl) dX0_isDigit_6 ⟨Nat.zero_le _, Nat.zero_le _⟩ ?_
  exact rR_z hx hb hr hlk dX0_isDigit_9 (rfl)

set_option maxHeartbeats 4000000 in
set_option maxRecDepth 100000 in
theorem cX_isSheet (l : Launch) (D : va_G) (d : Nat → ClassId) (v : Int32) : cR l (KX D d) yX0_isSheet cX0_isSheet 1 (some .boolean) (rk 1) [.int v] (fun _ => True) (.int (bI (pIn v.toInt64 0 3))) := by
  refine cR_start RX0 rfl (by decide) (Nat.le_of_ble_eq_true rfl) ?_
  intro p e s m below meth c hx hb hml hown hts hr hlk hK hP ls hl
  have hl : lv_has ls 1 [(0, .int v)] := hl
  refine lv_iload_n hx hb dX0_isSheet_0 rfl (lv_at hl 0 rfl) ?_
  refine lv_i2l (v := v.toInt64) hx hb dX0_isSheet_1 rfl ?_
  refine lv_lconst (v := 0) hx hb dX0_isSheet_2 (by decide) ?_
  refine lv_ldc2 (v := 3) hx hb hown (hts _ q341) dX0_isSheet_3 ?_
  refine callR_S (rest := []) hx hb hml hown hts KX_st hK (cX_isIn l D d v.toInt64 0 3) (wX0_isIn hts ⟨Nat.le_of_ble_eq_true rfl, Nat.le_of_ble_eq_true rfl⟩) trivial rfl hl.1 rfl (Nat.le_of_ble_eq_true rfl) dX0_isSheet_6 ⟨Nat.zero_le _, Nat.zero_le _⟩ ?_
  exact rR_z hx hb hr hlk dX0_isSheet_9 (rfl)

set_option maxHeartbeats 4000000 in
set_option maxRecDepth 100000 in
theorem cX_isLane (l : Launch) (D : va_G) (d : Nat → ClassId) (v : Int32) : cR l (KX D d) yX0_isLane cX0_isLane 1 (some .boolean) (rk 1) [.int v] (fun _ => True) (.int (bI (pIn v.toInt64 0 2))) := by
  refine cR_start RX0 rfl (by decide) (Nat.le_of_ble_eq_true rfl) ?_
  intro p e s m below meth c hx hb hml hown hts hr hlk hK hP ls hl
  have hl : lv_has ls 1 [(0, .int v)] := hl
  refine lv_iload_n hx hb dX0_isLane_0 rfl (lv_at hl 0 rfl) ?_
  refine lv_i2l (v := v.toInt64) hx hb dX0_isLane_1 rfl ?_
  refine lv_lconst (v := 0) hx hb dX0_isLane_2 (by decide) ?_
  refine lv_ldc2 (v := 2) hx hb hown (hts _ q348) dX0_isLane_3 ?_
  refine callR_S (rest := []) hx hb hml hown hts KX_st hK (cX_isIn l D d v.toInt64 0 2) (wX0_isIn hts ⟨Nat.le_of_ble_eq_true rfl, Nat.le_of_ble_eq_true rfl⟩) trivial rfl hl.1 rfl (Nat.le_of_ble_eq_true rfl) dX0_isLane_6 ⟨Nat.zero_le _, Nat.zero_le _⟩ ?_
  exact rR_z hx hb hr hlk dX0_isLane_9 (rfl)

set_option maxHeartbeats 4000000 in
set_option maxRecDepth 100000 in
theorem cX_trace (l : Launch) (D : va_G) (d : Nat → ClassId) (B : Nat → Nat) (τ : Nat → Nat → Int32) (ea : Nat) (hs : Nat → Option Nat) (ρ : va_W) : cR l (KX D d) yX0_trace cX0_trace 1 (some .int) (rk 0) [.ref (B 0)] (va_P D vwCl (xw d B τ ea hs ρ)) (.int (τ 1 0)) := by
  refine cR_start RX0 rfl (by decide) (Nat.le_of_ble_eq_true rfl) ?_
  intro p e s m below meth c hx hb hml hown hts hr hlk hK hP ls hl
  have hl : lv_has ls 1 [(0, .ref (B 0))] := hl
  refine lv_aload_n hx hb dX0_trace_0 rfl (lv_at hl 0 rfl) ?_
  refine xg1 hx hb hts hown hK hP dX0_trace_1 ?_
  exact rR_i hx hb hr hlk dX0_trace_4 (rfl)

set_option maxHeartbeats 4000000 in
set_option maxRecDepth 100000 in
theorem cX_fault (l : Launch) (D : va_G) (d : Nat → ClassId) (B : Nat → Nat) (τ : Nat → Nat → Int32) (ea : Nat) (hs : Nat → Option Nat) (ρ : va_W) : cR l (KX D d) yX0_fault cX0_fault 1 (some .int) (rk 0) [.ref (B 0)] (va_P D vwCl (xw d B τ ea hs ρ)) (.int (τ 0 0)) := by
  refine cR_start RX0 rfl (by decide) (Nat.le_of_ble_eq_true rfl) ?_
  intro p e s m below meth c hx hb hml hown hts hr hlk hK hP ls hl
  have hl : lv_has ls 1 [(0, .ref (B 0))] := hl
  refine lv_aload_n hx hb dX0_fault_0 rfl (lv_at hl 0 rfl) ?_
  refine xg0 hx hb hts hown hK hP dX0_fault_1 ?_
  exact rR_i hx hb hr hlk dX0_fault_4 (rfl)

set_option maxHeartbeats 4000000 in
set_option maxRecDepth 100000 in
theorem cX_isDuchy (l : Launch) (D : va_G) (d : Nat → ClassId) (B : Nat → Nat) (τ : Nat → Nat → Int32) (ea : Nat) (hs : Nat → Option Nat) (ρ : va_W) : cR l (KX D d) yX0_isDuchy cX0_isDuchy 1 (some .boolean) (rk 0) [.ref (B 0)] (va_P D vwCl (xw d B τ ea hs ρ)) (.int (bI (!(decide (τ 4 0 ≤ 0))))) := by
  refine cR_start RX0 rfl (by decide) (Nat.le_of_ble_eq_true rfl) ?_
  intro p e s m below meth c hx hb hml hown hts hr hlk hK hP ls hl
  have hl : lv_has ls 1 [(0, .ref (B 0))] := hl
  refine lv_aload_n hx hb dX0_isDuchy_0 rfl (lv_at hl 0 rfl) ?_
  refine xg4 hx hb hts hown hK hP dX0_isDuchy_1 ?_
  refine lv_if_le (tgt := 11) hx hb dX0_isDuchy_4 (by decide) (fun c1 => ?_) (fun c1 => ?_)
  · refine lv_iconst (v := 0) hx hb dX0_isDuchy_11 (by decide) ?_
    exact rR_z hx hb hr hlk dX0_isDuchy_12 (by rw [decide_eq_true c1]; rfl)
  · refine lv_iconst (v := 1) hx hb dX0_isDuchy_7 (by decide) ?_
    refine lv_goto (tgt := 12) hx hb dX0_isDuchy_8 (by decide) ?_
    exact rR_z hx hb hr hlk dX0_isDuchy_12 (by rw [decide_eq_false c1]; rfl)

set_option maxHeartbeats 4000000 in
set_option maxRecDepth 100000 in
theorem cX_isDay (l : Launch) (D : va_G) (d : Nat → ClassId) (B : Nat → Nat) (τ : Nat → Nat → Int32) (ea : Nat) (hs : Nat → Option Nat) (ρ : va_W) (x : Int32) : cR l (KX D d) yX0_isDay cX0_isDay 2 (some .boolean) (rk 1) [.ref (B 0), .int x] (va_P D vwCl (xw d B τ ea hs ρ)) (.int (bI (pIn x.toInt64 0 ((τ 4 0).toInt64 - 1)))) := by
  refine cR_start RX0 rfl (by decide) (Nat.le_of_ble_eq_true rfl) ?_
  intro p e s m below meth c hx hb hml hown hts hr hlk hK hP ls hl
  have hl : lv_has ls 2 [(0, .ref (B 0)), (1, .int x)] := hl
  refine lv_iload_n hx hb dX0_isDay_0 rfl (lv_at hl 1 rfl) ?_
  refine lv_i2l (v := x.toInt64) hx hb dX0_isDay_1 rfl ?_
  refine lv_lconst (v := 0) hx hb dX0_isDay_2 (by decide) ?_
  refine lv_aload_n hx hb dX0_isDay_3 rfl (lv_at hl 0 rfl) ?_
  refine xg4 hx hb hts hown hK hP dX0_isDay_4 ?_
  refine lv_i2l (v := (τ 4 0).toInt64) hx hb dX0_isDay_7 rfl ?_
  refine lv_lconst (v := 1) hx hb dX0_isDay_8 (by decide) ?_
  refine lv_lsub hx hb dX0_isDay_9 ?_
  refine callR_S (rest := []) hx hb hml hown hts KX_st hK (cX_isIn l D d x.toInt64 0 ((τ 4 0).toInt64 - 1)) (wX0_isIn hts ⟨Nat.le_of_ble_eq_true rfl, Nat.le_of_ble_eq_true rfl⟩) trivial rfl hl.1 rfl (Nat.le_of_ble_eq_true rfl) dX0_isDay_10 ⟨Nat.zero_le _, Nat.zero_le _⟩ ?_
  exact rR_z hx hb hr hlk dX0_isDay_13 (rfl)

set_option maxHeartbeats 4000000 in
set_option maxRecDepth 100000 in
theorem cX_all (l : Launch) (D : va_G) (d : Nat → ClassId) (B : Nat → Nat) (τ : Nat → Nat → Int32) (ea : Nat) (hs : Nat → Option Nat) (ρ : va_W) : cR l (KX D d) yX0_all cX0_all 1 (some .int) (rk 0) [.ref (B 0)] (va_P D vwCl (xw d B τ ea hs ρ)) (.int (((1 : Int32) <<< (τ 4 0 &&& 31)) - 1)) := by
  refine cR_start RX0 rfl (by decide) (Nat.le_of_ble_eq_true rfl) ?_
  intro p e s m below meth c hx hb hml hown hts hr hlk hK hP ls hl
  have hl : lv_has ls 1 [(0, .ref (B 0))] := hl
  refine lv_iconst (v := 1) hx hb dX0_all_0 (by decide) ?_
  refine lv_aload_n hx hb dX0_all_1 rfl (lv_at hl 0 rfl) ?_
  refine xg4 hx hb hts hown hK hP dX0_all_2 ?_
  refine lv_ishl hx hb dX0_all_5 ?_
  refine lv_iconst (v := 1) hx hb dX0_all_6 (by decide) ?_
  refine lv_isub hx hb dX0_all_7 ?_
  exact rR_i hx hb hr hlk dX0_all_8 (rfl)

set_option maxHeartbeats 4000000 in
set_option maxRecDepth 100000 in
theorem cX_isSet (l : Launch) (D : va_G) (d : Nat → ClassId) (B : Nat → Nat) (τ : Nat → Nat → Int32) (ea : Nat) (hs : Nat → Option Nat) (ρ : va_W) (x : Int32) : cR l (KX D d) yX0_isSet cX0_isSet 2 (some .boolean) (rk 1) [.ref (B 0), .int x] (va_P D vwCl (xw d B τ ea hs ρ)) (.int (bI (pIn x.toInt64 0 (((1 : Int32) <<< (τ 4 0 &&& 31)) - 1).toInt64))) := by
  refine cR_start RX0 rfl (by decide) (Nat.le_of_ble_eq_true rfl) ?_
  intro p e s m below meth c hx hb hml hown hts hr hlk hK hP ls hl
  have hl : lv_has ls 2 [(0, .ref (B 0)), (1, .int x)] := hl
  refine lv_iload_n hx hb dX0_isSet_0 rfl (lv_at hl 1 rfl) ?_
  refine lv_i2l (v := x.toInt64) hx hb dX0_isSet_1 rfl ?_
  refine lv_lconst (v := 0) hx hb dX0_isSet_2 (by decide) ?_
  refine lv_aload_n hx hb dX0_isSet_3 rfl (lv_at hl 0 rfl) ?_
  refine callR_V (rest := [.long 0, .long x.toInt64]) hx hb hml hown hts KX_st hK (cX_all l D d B τ ea hs ρ) (wX0_all hts ⟨Nat.le_of_ble_eq_true rfl, Nat.le_of_ble_eq_true rfl⟩) (x_recv hK hP) hP rfl hl.1 rfl (Nat.le_of_ble_eq_true rfl) dX0_isSet_4 ⟨Nat.zero_le _, Nat.zero_le _⟩ ?_
  refine lv_i2l (v := (((1 : Int32) <<< (τ 4 0 &&& 31)) - 1).toInt64) hx hb dX0_isSet_7 rfl ?_
  refine callR_S (rest := []) hx hb hml hown hts KX_st hK (cX_isIn l D d x.toInt64 0 ((((1 : Int32) <<< (τ 4 0 &&& 31)) - 1).toInt64)) (wX0_isIn hts ⟨Nat.le_of_ble_eq_true rfl, Nat.le_of_ble_eq_true rfl⟩) trivial rfl hl.1 rfl (Nat.le_of_ble_eq_true rfl) dX0_isSet_8 ⟨Nat.zero_le _, Nat.zero_le _⟩ ?_
  exact rR_z hx hb hr hlk dX0_isSet_11 (rfl)

set_option maxHeartbeats 4000000 in
set_option maxRecDepth 100000 in
theorem cX_faulty (l : Launch) (D : va_G) (d : Nat → ClassId) (H00 : Heap) (B : Nat → Nat) (τ : Nat → Nat → Int32) (ea : Nat) (hs : Nat → Option Nat) (ρ : va_W) (k : Int32) : cU l (KX D d) H00 D yX0_faulty cX0_faulty 2 (some .int) (rc 0 0 0) [.ref (B 0), .int k] (xw d B τ ea hs ρ) (fun r0 ws => r0 = some (.int ((-10) - k)) ∧ ws = xw d B (put2 τ 0 0 k) ea hs ρ) := by
  refine cU_start RX0 rfl (by decide) (Nat.le_of_ble_eq_true rfl) ?_
  intro p e s m below meth c A hx hb hml hown hts hr hlk hnm hK hA hAN hZ hu ls hl
  have hl : lv_has ls 2 [(0, .ref (B 0)), (1, .int k)] := hl
  refine lv_aload_n hx hb dX0_faulty_0 rfl (lv_at hl 0 rfl) ?_
  refine lv_iload_n hx hb dX0_faulty_1 rfl (lv_at hl 1 rfl) ?_
  refine xp0 hx hb hts hown hK hu dX0_faulty_2 (fun H locs hu => ?_)
  refine lv_bipush (v := (-10)) hx hb dX0_faulty_5 (by decide) ?_
  refine lv_iload_n hx hb dX0_faulty_7 rfl (lv_at hl 1 rfl) ?_
  refine lv_isub hx hb dX0_faulty_8 ?_
  exact rU_i hx hb hr hlk hu dX0_faulty_9 (Nat.le_of_ble_eq_true rfl) (Nat.le_of_ble_eq_true rfl) (⟨rfl, rfl⟩)

set_option maxHeartbeats 4000000 in
set_option maxRecDepth 100000 in
theorem cX_lost (l : Launch) (D : va_G) (d : Nat → ClassId) (H00 : Heap) (B : Nat → Nat) (τ : Nat → Nat → Int32) (ea : Nat) (hs : Nat → Option Nat) (ρ : va_W) (k : Int32) : cU l (KX D d) H00 D yX0_lost cX0_lost 2 (some .long) (rc 0 0 0) [.ref (B 0), .int k] (xw d B τ ea hs ρ) (fun r0 ws => r0 = some (.long LOSTv) ∧ ws = xw d B (put2 τ 0 0 k) ea hs ρ) := by
  refine cU_start RX0 rfl (by decide) (Nat.le_of_ble_eq_true rfl) ?_
  intro p e s m below meth c A hx hb hml hown hts hr hlk hnm hK hA hAN hZ hu ls hl
  have hl : lv_has ls 2 [(0, .ref (B 0)), (1, .int k)] := hl
  refine lv_aload_n hx hb dX0_lost_0 rfl (lv_at hl 0 rfl) ?_
  refine lv_iload_n hx hb dX0_lost_1 rfl (lv_at hl 1 rfl) ?_
  refine xp0 hx hb hts hown hK hu dX0_lost_2 (fun H locs hu => ?_)
  refine lv_ldc2 (v := (-9223372036854775808)) hx hb hown (hts _ q767) dX0_lost_5 ?_
  exact rU_l hx hb hr hlk hu dX0_lost_8 (Nat.le_of_ble_eq_true rfl) (Nat.le_of_ble_eq_true rfl) (⟨rfl, rfl⟩)

set_option maxHeartbeats 4000000 in
set_option maxRecDepth 100000 in
theorem cX_begins (l : Launch) (D : va_G) (d : Nat → ClassId) (H00 : Heap) (B : Nat → Nat) (τ : Nat → Nat → Int32) (ea : Nat) (hs : Nat → Option Nat) (ρ : va_W) (k : Int32) : cU l (KX D d) H00 D yX0_begins cX0_begins 2 none (rc 0 0 0) [.ref (B 0), .int k] (xw d B τ ea hs ρ) (fun r0 ws => r0 = none ∧ ws = xw d B (put2 τ 1 0 (31 * τ 1 0 + k)) ea hs ρ) := by
  refine cU_start RX0 rfl (by decide) (Nat.le_of_ble_eq_true rfl) ?_
  intro p e s m below meth c A hx hb hml hown hts hr hlk hnm hK hA hAN hZ hu ls hl
  have hl : lv_has ls 2 [(0, .ref (B 0)), (1, .int k)] := hl
  refine lv_aload_n hx hb dX0_begins_0 rfl (lv_at hl 0 rfl) ?_
  refine lv_bipush (v := 31) hx hb dX0_begins_1 (by decide) ?_
  refine lv_aload_n hx hb dX0_begins_3 rfl (lv_at hl 0 rfl) ?_
  refine xg1 hx hb hts hown hK hu.1 dX0_begins_4 ?_
  refine lv_imul hx hb dX0_begins_7 ?_
  refine lv_iload_n hx hb dX0_begins_8 rfl (lv_at hl 1 rfl) ?_
  refine lv_iadd hx hb dX0_begins_9 ?_
  refine lv_topi (fun x1 ex1 => ?_)
  refine xp1 hx hb hts hown hK hu dX0_begins_10 (fun H locs hu => ?_)
  exact rU_v hx hb hr hlk hu dX0_begins_13 (Nat.le_of_ble_eq_true rfl) (Nat.le_of_ble_eq_true rfl) (⟨rfl, by rw [ex1]⟩)
