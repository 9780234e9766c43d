/-! the Model: small methods -/
set_option maxHeartbeats 4000000 in
set_option maxRecDepth 100000 in
theorem cM_in (l : Launch) (D : va_G) (d : Nat → ClassId) (v lo hi : Int64) : cR l (KM D d) yX2_in cX2_in 6 (some .boolean) (rk 0) [.long v, .long lo, .long hi] (fun _ => True) (.int (bI (pIn v lo hi))) := by
  refine cR_start RX2 rfl (by decide) (Nat.le_of_ble_eq_true rfl) ?_
  intro p e s m below meth c hx hb hml hown hts hr hlk hK hP ls hl
  have hl : lv_has ls 6 [(0, .long v), (2, .long lo), (4, .long hi)] := hl
  refine lv_lload_n hx hb dX2_in_0 rfl (lv_at hl 0 rfl) ?_
  refine lv_lload_n hx hb dX2_in_1 rfl (lv_at hl 1 rfl) ?_
  refine lc_lt (tgt := 17) hx hb dX2_in_2 dX2_in_3 (by decide) (fun c1 => ?_) (fun c1 => ?_)
  · refine lv_iconst (v := 0) hx hb dX2_in_17 (by decide) ?_
    exact rR_z hx hb hr hlk dX2_in_18 (by rw [pIn_f1 c1]; rfl)
  · refine lv_lload_n hx hb dX2_in_6 rfl (lv_at hl 0 rfl) ?_
    refine lv_lload hx hb dX2_in_7 (lv_at hl 2 rfl) ?_
    refine lc_gt (tgt := 17) hx hb dX2_in_9 dX2_in_10 (by decide) (fun c2 => ?_) (fun c2 => ?_)
    · refine lv_iconst (v := 0) hx hb dX2_in_17 (by decide) ?_
      exact rR_z hx hb hr hlk dX2_in_18 (by rw [pIn_f2 c2]; rfl)
    · refine lv_iconst (v := 1) hx hb dX2_in_13 (by decide) ?_
      refine lv_goto (tgt := 18) hx hb dX2_in_14 (by decide) ?_
      exact rR_z hx hb hr hlk dX2_in_18 (by rw [pIn_t c1 c2]; rfl)

set_option maxHeartbeats 4000000 in
set_option maxRecDepth 100000 in
theorem cM_lost (l : Launch) (D : va_G) (d : Nat → ClassId) : cR l (KM D d) yX2_lost cX2_lost 0 (some .long) (rk 0) [] (fun _ => True) (.long LOSTv) := by
  refine cR_start RX2 rfl (by decide) (Nat.le_of_ble_eq_true rfl) ?_
  intro p e s m below meth c hx hb hml hown hts hr hlk hK hP ls hl
  have hl : lv_has ls 0 [] := hl
  refine lv_ldc2 (v := (-9223372036854775808)) hx hb hown (hts _ q1172) dX2_lost_0 ?_
  exact rR_l hx hb hr hlk dX2_lost_3 (rfl)

set_option maxHeartbeats 4000000 in
set_option maxRecDepth 100000 in
theorem cM_isIn (l : Launch) (D : va_G) (d : Nat → ClassId) (set k : Int32) : cR l (KM D d) yX2_isIn cX2_isIn 2 (some .boolean) (rk 0) [.int set, .int k] (fun _ => True) (.int (bI (pBit set k))) := by
  refine cR_start RX2 rfl (by decide) (Nat.le_of_ble_eq_true rfl) ?_
  intro p e s m below meth c hx hb hml hown hts hr hlk hK hP ls hl
  have hl : lv_has ls 2 [(0, .int set), (1, .int k)] := hl
  refine lv_iload_n hx hb dX2_isIn_0 rfl (lv_at hl 0 rfl) ?_
  refine lv_iload_n hx hb dX2_isIn_1 rfl (lv_at hl 1 rfl) ?_
  refine lv_ishr hx hb dX2_isIn_2 ?_
  refine lv_iconst (v := 1) hx hb dX2_isIn_3 (by decide) ?_
  refine lv_iand hx hb dX2_isIn_4 ?_
  refine lv_iconst (v := 1) hx hb dX2_isIn_5 (by decide) ?_
  refine lv_icmp_ne (tgt := 13) hx hb dX2_isIn_6 (by decide) (fun c1 => ?_) (fun c1 => ?_)
  · refine lv_iconst (v := 0) hx hb dX2_isIn_13 (by decide) ?_
    exact rR_z hx hb hr hlk dX2_isIn_14 (by rw [pBit_f c1]; rfl)
  · refine lv_iconst (v := 1) hx hb dX2_isIn_9 (by decide) ?_
    refine lv_goto (tgt := 14) hx hb dX2_isIn_10 (by decide) ?_
    exact rR_z hx hb hr hlk dX2_isIn_14 (by rw [pBit_t c1]; rfl)

set_option maxHeartbeats 4000000 in
set_option maxRecDepth 100000 in
theorem cM_bits (l : Launch) (D : va_G) (d : Nat → ClassId) (set : Int32) : cR l (KM D d) yX2_bits cX2_bits 3 (some .int) (rk 0) [.int set] (fun _ => True) (.int (pBits set)) := by
  refine cR_start RX2 rfl (by decide) (Nat.le_of_ble_eq_true rfl) ?_
  intro p e s m below meth c hx hb hml hown hts hr hlk hK hP ls hl
  have hl : lv_has ls 3 [(0, .int set)] := hl
  refine lv_iconst (v := 0) hx hb dX2_bits_0 (by decide) ?_
  refine lv_istore_n (lv' := [(1, .int 0), (0, .int set)]) hx hb dX2_bits_1 rfl hl (by decide) rfl (fun ls hl => ?_)
  refine lv_iload_n hx hb dX2_bits_2 rfl (lv_at hl 1 rfl) ?_
  refine lv_istore_n (lv' := [(2, .int set), (1, .int 0), (0, .int set)]) hx hb dX2_bits_3 rfl hl (by decide) rfl (fun ls hl => ?_)
  refine lp_R (σ := Int32 × Int32) (fun n4 zz => zz.1.toInt < 2 ^ n4 ∧ pbl n4 zz.1 zz.2 = pBits set) (fun zz => [(2, .int zz.1), (1, .int zz.2), (0, .int set)]) (fun n4 zz hI ih4 ls hl => ?_) 31 (set, 0) (⟨by have := Int32.toInt_lt set; omega, rfl⟩) hl
  obtain ⟨r, k⟩ := zz
  have hI : r.toInt < 2 ^ n4 ∧ pbl n4 r k = pBits set := hI
  obtain ⟨hr1, hk1⟩ := hI
  have hl : lv_has ls 3 [(2, .int r), (1, .int k), (0, .int set)] := hl
  refine lv_iload_n hx hb dX2_bits_4 rfl (lv_at hl 0 rfl) ?_
  refine lv_if_le (tgt := 21) hx hb dX2_bits_5 (by decide) (fun c1 => ?_) (fun c1 => ?_)
  · refine lv_iload_n hx hb dX2_bits_21 rfl (lv_at hl 1 rfl) ?_
    exact rR_i hx hb hr hlk dX2_bits_22 (by rw [pbl_stop c1] at hk1; rw [hk1])
  · refine lv_iload_n hx hb dX2_bits_8 rfl (lv_at hl 1 rfl) ?_
    refine lv_iload_n hx hb dX2_bits_9 rfl (lv_at hl 0 rfl) ?_
    refine lv_iconst (v := 1) hx hb dX2_bits_10 (by decide) ?_
    refine lv_iand hx hb dX2_bits_11 ?_
    refine lv_iadd hx hb dX2_bits_12 ?_
    refine lv_istore_n (lv' := [(1, .int (k + (r &&& 1))), (2, .int r), (0, .int set)]) hx hb dX2_bits_13 rfl hl (by decide) rfl (fun ls hl => ?_)
    refine lv_iload_n hx hb dX2_bits_14 rfl (lv_at hl 1 rfl) ?_
    refine lv_iconst (v := 1) hx hb dX2_bits_15 (by decide) ?_
    refine lv_ishr hx hb dX2_bits_16 ?_
    refine lv_istore_n (lv' := [(2, .int (r >>> (1 &&& 31))), (1, .int (k + (r &&& 1))), (0, .int set)]) hx hb dX2_bits_17 rfl hl (by decide) rfl (fun ls hl => ?_)
    refine lv_goto (tgt := 4) hx hb dX2_bits_18 (by decide) ?_
    exact ih4 (n4 - 1) ((r >>> (1 &&& 31)), (k + (r &&& 1))) ls (bits_dec c1 hr1) (bits_step c1 hr1 hk1 ) (hl)

set_option maxHeartbeats 4000000 in
set_option maxRecDepth 100000 in
theorem cM_noDay (l : Launch) (D : va_G) (d : Nat → ClassId) (q : Nat) (Aq : Nat → Nat) (τ : Nat → Nat → Int32) (x : Int32) : cR l (KM D d) yX2_noDay cX2_noDay 2 (some .boolean) (rk 1) [.ref q, .int x] (va_P D vwCl (mw d q Aq τ)) (.int (bI (!(pIn x.toInt64 0 ((τ 2 0).toInt64 - 1))))) := by
  refine cR_start RX2 rfl (by decide) (Nat.le_of_ble_eq_true rfl) ?_
  intro p e s m below meth c hx hb hml hown hts hr hlk hK hP ls hl
  have hl : lv_has ls 2 [(0, .ref q), (1, .int x)] := hl
  refine lv_iload_n hx hb dX2_noDay_0 rfl (lv_at hl 1 rfl) ?_
  refine lv_i2l (v := x.toInt64) hx hb dX2_noDay_1 rfl ?_
  refine lv_lconst (v := 0) hx hb dX2_noDay_2 (by decide) ?_
  refine lv_aload_n hx hb dX2_noDay_3 rfl (lv_at hl 0 rfl) ?_
  refine mg2 hx hb hts hown hK hP dX2_noDay_4 ?_
  refine lv_i2l (v := (τ 2 0).toInt64) hx hb dX2_noDay_7 rfl ?_
  refine lv_lconst (v := 1) hx hb dX2_noDay_8 (by decide) ?_
  refine lv_lsub hx hb dX2_noDay_9 ?_
  refine callR_S (rest := []) hx hb hml hown hts KM_st hK (cM_in l D d x.toInt64 0 ((τ 2 0).toInt64 - 1)) (wX2_in hts ⟨Nat.le_of_ble_eq_true rfl, Nat.le_of_ble_eq_true rfl⟩) trivial rfl hl.1 rfl (Nat.le_of_ble_eq_true rfl) dX2_noDay_10 ⟨Nat.zero_le _, Nat.zero_le _⟩ ?_
  refine bz_ne (tgt := 20) hx hb dX2_noDay_13 (by decide) (fun c1 => ?_) (fun c1 => ?_)
  · refine lv_iconst (v := 0) hx hb dX2_noDay_20 (by decide) ?_
    exact rR_z hx hb hr hlk dX2_noDay_21 (by rw [c1]; rfl)
  · refine lv_iconst (v := 1) hx hb dX2_noDay_16 (by decide) ?_
    refine lv_goto (tgt := 21) hx hb dX2_noDay_17 (by decide) ?_
    exact rR_z hx hb hr hlk dX2_noDay_21 (by rw [c1]; rfl)

set_option maxHeartbeats 4000000 in
set_option maxRecDepth 100000 in
theorem cM_noEater (l : Launch) (D : va_G) (d : Nat → ClassId) (q : Nat) (Aq : Nat → Nat) (τ : Nat → Nat → Int32) (x : Int32) : cR l (KM D d) yX2_noEater cX2_noEater 2 (some .boolean) (rk 1) [.ref q, .int x] (va_P D vwCl (mw d q Aq τ)) (.int (bI (!(pIn x.toInt64 0 ((τ 4 0).toInt64 - 1))))) := by
  refine cR_start RX2 rfl (by decide) (Nat.le_of_ble_eq_true rfl) ?_
  intro p e s m below meth c hx hb hml hown hts hr hlk hK hP ls hl
  have hl : lv_has ls 2 [(0, .ref q), (1, .int x)] := hl
  refine lv_iload_n hx hb dX2_noEater_0 rfl (lv_at hl 1 rfl) ?_
  refine lv_i2l (v := x.toInt64) hx hb dX2_noEater_1 rfl ?_
  refine lv_lconst (v := 0) hx hb dX2_noEater_2 (by decide) ?_
  refine lv_aload_n hx hb dX2_noEater_3 rfl (lv_at hl 0 rfl) ?_
  refine mg4 hx hb hts hown hK hP dX2_noEater_4 ?_
  refine lv_i2l (v := (τ 4 0).toInt64) hx hb dX2_noEater_7 rfl ?_
  refine lv_lconst (v := 1) hx hb dX2_noEater_8 (by decide) ?_
  refine lv_lsub hx hb dX2_noEater_9 ?_
  refine callR_S (rest := []) hx hb hml hown hts KM_st hK (cM_in l D d x.toInt64 0 ((τ 4 0).toInt64 - 1)) (wX2_in hts ⟨Nat.le_of_ble_eq_true rfl, Nat.le_of_ble_eq_true rfl⟩) trivial rfl hl.1 rfl (Nat.le_of_ble_eq_true rfl) dX2_noEater_10 ⟨Nat.zero_le _, Nat.zero_le _⟩ ?_
  refine bz_ne (tgt := 20) hx hb dX2_noEater_13 (by decide) (fun c1 => ?_) (fun c1 => ?_)
  · refine lv_iconst (v := 0) hx hb dX2_noEater_20 (by decide) ?_
    exact rR_z hx hb hr hlk dX2_noEater_21 (by rw [c1]; rfl)
  · refine lv_iconst (v := 1) hx hb dX2_noEater_16 (by decide) ?_
    refine lv_goto (tgt := 21) hx hb dX2_noEater_17 (by decide) ?_
    exact rR_z hx hb hr hlk dX2_noEater_21 (by rw [c1]; rfl)

set_option maxHeartbeats 4000000 in
set_option maxRecDepth 100000 in
theorem cM_noSet (l : Launch) (D : va_G) (d : Nat → ClassId) (q : Nat) (Aq : Nat → Nat) (τ : Nat → Nat → Int32) (x : Int32) : cR l (KM D d) yX2_noSet cX2_noSet 2 (some .boolean) (rk 1) [.ref q, .int x] (va_P D vwCl (mw d q Aq τ)) (.int (bI (!(pIn x.toInt64 0 (((1 : Int32) <<< (τ 2 0 &&& 31)).toInt64 - 1))))) := by
  refine cR_start RX2 rfl (by decide) (Nat.le_of_ble_eq_true rfl) ?_
  intro p e s m below meth c hx hb hml hown hts hr hlk hK hP ls hl
  have hl : lv_has ls 2 [(0, .ref q), (1, .int x)] := hl
  refine lv_iload_n hx hb dX2_noSet_0 rfl (lv_at hl 1 rfl) ?_
  refine lv_i2l (v := x.toInt64) hx hb dX2_noSet_1 rfl ?_
  refine lv_lconst (v := 0) hx hb dX2_noSet_2 (by decide) ?_
  refine lv_iconst (v := 1) hx hb dX2_noSet_3 (by decide) ?_
  refine lv_aload_n hx hb dX2_noSet_4 rfl (lv_at hl 0 rfl) ?_
  refine mg2 hx hb hts hown hK hP dX2_noSet_5 ?_
  refine lv_ishl hx hb dX2_noSet_8 ?_
  refine lv_i2l (v := ((1 : Int32) <<< (τ 2 0 &&& 31)).toInt64) hx hb dX2_noSet_9 rfl ?_
  refine lv_lconst (v := 1) hx hb dX2_noSet_10 (by decide) ?_
  refine lv_lsub hx hb dX2_noSet_11 ?_
  refine callR_S (rest := []) hx hb hml hown hts KM_st hK (cM_in l D d x.toInt64 0 (((1 : Int32) <<< (τ 2 0 &&& 31)).toInt64 - 1)) (wX2_in hts ⟨Nat.le_of_ble_eq_true rfl, Nat.le_of_ble_eq_true rfl⟩) trivial rfl hl.1 rfl (Nat.le_of_ble_eq_true rfl) dX2_noSet_12 ⟨Nat.zero_le _, Nat.zero_le _⟩ ?_
  refine bz_ne (tgt := 22) hx hb dX2_noSet_15 (by decide) (fun c1 => ?_) (fun c1 => ?_)
  · refine lv_iconst (v := 0) hx hb dX2_noSet_22 (by decide) ?_
    exact rR_z hx hb hr hlk dX2_noSet_23 (by rw [c1]; rfl)
  · refine lv_iconst (v := 1) hx hb dX2_noSet_18 (by decide) ?_
    refine lv_goto (tgt := 23) hx hb dX2_noSet_19 (by decide) ?_
    exact rR_z hx hb hr hlk dX2_noSet_23 (by rw [c1]; rfl)

set_option maxHeartbeats 4000000 in
set_option maxRecDepth 100000 in
theorem cM_noSheet (l : Launch) (D : va_G) (d : Nat → ClassId) (x : Int32) : cR l (KM D d) yX2_noSheet cX2_noSheet 1 (some .boolean) (rk 1) [.int x] (fun _ => True) (.int (bI (!(pIn x.toInt64 0 3)))) := by
  refine cR_start RX2 rfl (by decide) (Nat.le_of_ble_eq_true rfl) ?_
  intro p e s m below meth c hx hb hml hown hts hr hlk hK hP ls hl
  have hl : lv_has ls 1 [(0, .int x)] := hl
  refine lv_iload_n hx hb dX2_noSheet_0 rfl (lv_at hl 0 rfl) ?_
  refine lv_i2l (v := x.toInt64) hx hb dX2_noSheet_1 rfl ?_
  refine lv_lconst (v := 0) hx hb dX2_noSheet_2 (by decide) ?_
  refine lv_ldc2 (v := 3) hx hb hown (hts _ q999) dX2_noSheet_3 ?_
  refine callR_S (rest := []) hx hb hml hown hts KM_st hK (cM_in l D d x.toInt64 0 3) (wX2_in hts ⟨Nat.le_of_ble_eq_true rfl, Nat.le_of_ble_eq_true rfl⟩) trivial rfl hl.1 rfl (Nat.le_of_ble_eq_true rfl) dX2_noSheet_6 ⟨Nat.zero_le _, Nat.zero_le _⟩ ?_
  refine bz_ne (tgt := 16) hx hb dX2_noSheet_9 (by decide) (fun c1 => ?_) (fun c1 => ?_)
  · refine lv_iconst (v := 0) hx hb dX2_noSheet_16 (by decide) ?_
    exact rR_z hx hb hr hlk dX2_noSheet_17 (by rw [c1]; rfl)
  · refine lv_iconst (v := 1) hx hb dX2_noSheet_12 (by decide) ?_
    refine lv_goto (tgt := 17) hx hb dX2_noSheet_13 (by decide) ?_
    exact rR_z hx hb hr hlk dX2_noSheet_17 (by rw [c1]; rfl)

set_option maxHeartbeats 4000000 in
set_option maxRecDepth 100000 in
theorem cM_isBeyond (l : Launch) (D : va_G) (d : Nat → ClassId) (i : Int32) (n : Int64) (al : Int32) : cR l (KM D d) yX2_isBeyond cX2_isBeyond 4 (some .boolean) (rk 0) [.int i, .long n, .int al] (fun _ => True) (.int (bI (pBeyond i n al))) := by
  refine cR_start RX2 rfl (by decide) (Nat.le_of_ble_eq_true rfl) ?_
  intro p e s m below meth c hx hb hml hown hts hr hlk hK hP ls hl
  have hl : lv_has ls 4 [(0, .int i), (1, .long n), (3, .int al)] := hl
  refine lv_iload_n hx hb dX2_isBeyond_0 rfl (lv_at hl 0 rfl) ?_
  refine lv_if_lt (tgt := 20) hx hb dX2_isBeyond_1 (by decide) (fun c1 => ?_) (fun c1 => ?_)
  · refine lv_iconst (v := 1) hx hb dX2_isBeyond_20 (by decide) ?_
    refine lv_goto (tgt := 25) hx hb dX2_isBeyond_21 (by decide) ?_
    exact rR_z hx hb hr hlk dX2_isBeyond_25 (by simp [bI, pBeyond, c1])
  · refine lv_lload_n hx hb dX2_isBeyond_4 rfl (lv_at hl 1 rfl) ?_
    refine lv_lconst (v := 0) hx hb dX2_isBeyond_5 (by decide) ?_
    refine lc_lt (tgt := 20) hx hb dX2_isBeyond_6 dX2_isBeyond_7 (by decide) (fun c2 => ?_) (fun c2 => ?_)
    · refine lv_iconst (v := 1) hx hb dX2_isBeyond_20 (by decide) ?_
      refine lv_goto (tgt := 25) hx hb dX2_isBeyond_21 (by decide) ?_
      exact rR_z hx hb hr hlk dX2_isBeyond_25 (by simp [bI, pBeyond, c1, c2])
    · refine lv_iload_n hx hb dX2_isBeyond_10 rfl (lv_at hl 0 rfl) ?_
      refine lv_i2l (v := i.toInt64) hx hb dX2_isBeyond_11 rfl ?_
      refine lv_lload_n hx hb dX2_isBeyond_12 rfl (lv_at hl 1 rfl) ?_
      refine lv_ladd hx hb dX2_isBeyond_13 ?_
      refine lv_iload_n hx hb dX2_isBeyond_14 rfl (lv_at hl 2 rfl) ?_
      refine lv_i2l (v := al.toInt64) hx hb dX2_isBeyond_15 rfl ?_
      refine lc_le (tgt := 24) hx hb dX2_isBeyond_16 dX2_isBeyond_17 (by decide) (fun c3 => ?_) (fun c3 => ?_)
      · refine lv_iconst (v := 0) hx hb dX2_isBeyond_24 (by decide) ?_
        exact rR_z hx hb hr hlk dX2_isBeyond_25 (by simp [bI, pBeyond, c1, c2, i64_nlt c3])
      · refine lv_iconst (v := 1) hx hb dX2_isBeyond_20 (by decide) ?_
        refine lv_goto (tgt := 25) hx hb dX2_isBeyond_21 (by decide) ?_
        exact rR_z hx hb hr hlk dX2_isBeyond_25 (by simp [bI, pBeyond, c1, c2, i64_nle c3])

set_option maxHeartbeats 4000000 in
set_option maxRecDepth 100000 in
theorem cM_lastsOf (l : Launch) (D : va_G) (d : Nat → ClassId) (q : Nat) (Aq : Nat → Nat) (τ : Nat → Nat → Int32) (n : Nat) (E : Nat → Nat → Nat) (a : Nat) (he : mEat τ n E) (ha : a < n) : cR l (KM D d) yX2_lastsOf cX2_lastsOf 3 (some .int) (rk 0) [.ref q, .int (nI a)] (va_P D vwCl (mw d q Aq τ)) (.int (nI (laN (E 0 a) (E 1 a)))) := by
  refine cR_start RX2 rfl (by decide) (Nat.le_of_ble_eq_true rfl) ?_
  intro p e s m below meth c hx hb hml hown hts hr hlk hK hP ls hl
  have hl : lv_has ls 3 [(0, .ref q), (1, .int (nI a))] := hl
  refine lv_aload_n hx hb dX2_lastsOf_0 rfl (lv_at hl 0 rfl) ?_
  refine mg6 hx hb hts hown hK hP dX2_lastsOf_1 ?_
  refine lv_iload_n hx hb dX2_lastsOf_4 rfl (lv_at hl 1 rfl) ?_
  refine ma6 hx hb hK hP (he.lt ha) dX2_lastsOf_5 ?_
  refine top_i (y := nI (E 1 a)) ((he.2.2 a ha).2.1.1) ?_
  refine jn_i (ls := ls) (P := fun sl => sl = (if nI (E 1 a) ≤ 0 then (0 : Int32) else (nI (E 1 a) - 1))) 21 [] (fun sl esl => ?_) (fun kj1 => ?_)
  · refine lv_istore_n (lv' := [(2, .int sl), (0, .ref q), (1, .int (nI a))]) hx hb dX2_lastsOf_21 rfl hl (by decide) rfl (fun ls hl => ?_)
    refine lv_aload_n hx hb dX2_lastsOf_22 rfl (lv_at hl 1 rfl) ?_
    refine mg5 hx hb hts hown hK hP dX2_lastsOf_23 ?_
    refine lv_iload_n hx hb dX2_lastsOf_26 rfl (lv_at hl 2 rfl) ?_
    refine ma5 hx hb hK hP (he.lt ha) dX2_lastsOf_27 ?_
    refine top_i (y := nI (E 0 a)) ((he.2.2 a ha).1.1) ?_
    refine lv_if_ne (tgt := 40) hx hb dX2_lastsOf_28 (by decide) (fun c2 => ?_) (fun c2 => ?_)
    · refine lv_aload_n hx hb dX2_lastsOf_40 rfl (lv_at hl 1 rfl) ?_
      refine mg5 hx hb hts hown hK hP dX2_lastsOf_41 ?_
      refine lv_iload_n hx hb dX2_lastsOf_44 rfl (lv_at hl 2 rfl) ?_
      refine ma5 hx hb hK hP (he.lt ha) dX2_lastsOf_45 ?_
      refine top_i (y := nI (E 0 a)) ((he.2.2 a ha).1.1) ?_
      refine lv_iconst (v := 1) hx hb dX2_lastsOf_46 (by decide) ?_
      refine lv_icmp_ne (tgt := 54) hx hb dX2_lastsOf_47 (by decide) (fun c3 => ?_) (fun c3 => ?_)
      · refine lv_iload_n hx hb dX2_lastsOf_54 rfl (lv_at hl 0 rfl) ?_
        refine lv_iconst (v := 2) hx hb dX2_lastsOf_55 (by decide) ?_
        refine lv_idiv hx hb dX2_lastsOf_56 (by decide) ?_
        exact rR_i hx hb hr hlk dX2_lastsOf_57 (by rw [← pLasts_nI _ (he.2.2 a ha).1.2 _ (he.2.2 a ha).2.1.2, pLasts, if_neg c2, if_neg c3, pSly, esl])
      · refine lv_iload_n hx hb dX2_lastsOf_50 rfl (lv_at hl 0 rfl) ?_
        refine lv_goto (tgt := 57) hx hb dX2_lastsOf_51 (by decide) ?_
        exact rR_i hx hb hr hlk dX2_lastsOf_57 (by rw [← pLasts_nI _ (he.2.2 a ha).1.2 _ (he.2.2 a ha).2.1.2, pLasts, if_neg c2, if_pos c3, pSly, esl])
    · refine lv_aload_n hx hb dX2_lastsOf_31 rfl (lv_at hl 1 rfl) ?_
      refine mg6 hx hb hts hown hK hP dX2_lastsOf_32 ?_
      refine lv_iload_n hx hb dX2_lastsOf_35 rfl (lv_at hl 2 rfl) ?_
      refine ma6 hx hb hK hP (he.lt ha) dX2_lastsOf_36 ?_
      refine top_i (y := nI (E 1 a)) ((he.2.2 a ha).2.1.1) ?_
      refine lv_goto (tgt := 57) hx hb dX2_lastsOf_37 (by decide) ?_
      exact rR_i hx hb hr hlk dX2_lastsOf_57 (by rw [← pLasts_nI _ (he.2.2 a ha).1.2 _ (he.2.2 a ha).2.1.2, pLasts, if_pos c2])
  · refine lv_if_le (tgt := 20) hx hb dX2_lastsOf_6 (by decide) (fun c4 => ?_) (fun c4 => ?_)
    · refine lv_iconst (v := 0) hx hb dX2_lastsOf_20 (by decide) ?_
      exact kj1 _ (by rw [if_pos c4])
    · refine lv_aload_n hx hb dX2_lastsOf_9 rfl (lv_at hl 0 rfl) ?_
      refine mg6 hx hb hts hown hK hP dX2_lastsOf_10 ?_
      refine lv_iload_n hx hb dX2_lastsOf_13 rfl (lv_at hl 1 rfl) ?_
      refine ma6 hx hb hK hP (he.lt ha) dX2_lastsOf_14 ?_
      refine top_i (y := nI (E 1 a)) ((he.2.2 a ha).2.1.1) ?_
      refine lv_iconst (v := 1) hx hb dX2_lastsOf_15 (by decide) ?_
      refine lv_isub hx hb dX2_lastsOf_16 ?_
      refine lv_goto (tgt := 21) hx hb dX2_lastsOf_17 (by decide) ?_
      exact kj1 _ (by rw [if_neg c4])

set_option maxHeartbeats 4000000 in
set_option maxRecDepth 100000 in
theorem cM_fastsNow (l : Launch) (D : va_G) (d : Nat → ClassId) (q : Nat) (Aq : Nat → Nat) (τ : Nat → Nat → Int32) (dd : Nat) (hd : mDay τ dd) : cR l (KM D d) yX2_fastsNow cX2_fastsNow 3 (some .int) (rk 0) [.ref q] (va_P D vwCl (mw d q Aq τ)) (.int (nI (fN (τ 3) (τ 1 0) (τ 9 0) dd))) := by
  refine cR_start RX2 rfl (by decide) (Nat.le_of_ble_eq_true rfl) ?_
  intro p e s m below meth c hx hb hml hown hts hr hlk hK hP ls hl
  have hl : lv_has ls 3 [(0, .ref q)] := hl
  refine lv_iconst (v := nI 0) hx hb dX2_fastsNow_0 (by decide) ?_
  refine lv_istore_n (lv' := [(1, .int (nI 0)), (0, .ref q)]) hx hb dX2_fastsNow_1 rfl hl (by decide) rfl (fun ls hl => ?_)
  refine lv_iconst (v := nI 0) hx hb dX2_fastsNow_2 (by decide) ?_
  refine lv_istore_n (lv' := [(2, .int (nI 0)), (1, .int (nI 0)), (0, .ref q)]) hx hb dX2_fastsNow_3 rfl hl (by decide) rfl (fun ls hl => ?_)
  refine lp_R (σ := Nat) (fun n4 zz => zz + n4 = dd) (fun zz => [(2, .int (nI zz)), (1, .int (nI (fN (τ 3) (τ 1 0) (τ 9 0) zz))), (0, .ref q)]) (fun n4 zz hI ih4 ls hl => ?_) dd 0 (by omega) hl
  obtain ⟨i, rfl⟩ : ∃ y, y = zz := ⟨_, rfl⟩
  have hI : i + n4 = dd := hI
  obtain hi := hI
  have hl : lv_has ls 3 [(2, .int (nI i)), (1, .int (nI (fN (τ 3) (τ 1 0) (τ 9 0) i))), (0, .ref q)] := hl
  have hd6 : dd ≤ 6 := hd.1
  refine lv_iload_n hx hb dX2_fastsNow_4 rfl (lv_at hl 0 rfl) ?_
  refine lv_aload_n hx hb dX2_fastsNow_5 rfl (lv_at hl 2 rfl) ?_
  refine mg2 hx hb hts hown hK hP dX2_fastsNow_6 ?_
  refine top_i (y := nI dd) (hd.2) ?_
  refine nc_ge (tgt := 49) hx hb dX2_fastsNow_9 (by decide) (by omega) (by omega) (fun c1 => ?_) (fun c1 => ?_)
  · refine lv_iload_n hx hb dX2_fastsNow_49 rfl (lv_at hl 1 rfl) ?_
    exact rR_i hx hb hr hlk dX2_fastsNow_50 (by rw [show i = dd by omega])
  · have hi6 : i < 6 := by omega
    refine lv_iload_n hx hb dX2_fastsNow_12 rfl (lv_at hl 1 rfl) ?_
    refine lv_aload_n hx hb dX2_fastsNow_13 rfl (lv_at hl 2 rfl) ?_
    refine mg3 hx hb hts hown hK hP dX2_fastsNow_14 ?_
    refine lv_iload_n hx hb dX2_fastsNow_17 rfl (lv_at hl 0 rfl) ?_
    refine ma3 hx hb hK hP (hi6) dX2_fastsNow_18 ?_
    refine lv_aload_n hx hb dX2_fastsNow_19 rfl (lv_at hl 2 rfl) ?_
    refine mg1 hx hb hts hown hK hP dX2_fastsNow_20 ?_
    refine jn_i (ls := ls) (P := fun v => v = (if τ 3 i < τ 1 0 then (0 : Int32) else (if nI i = τ 9 0 then (0 : Int32) else ((1 : Int32) <<< (nI i &&& 31))))) 41 [.int (nI (fN (τ 3) (τ 1 0) (τ 9 0) i))] (fun v ev => ?_) (fun kj2 => ?_)
    · refine lv_ior hx hb dX2_fastsNow_41 ?_
      refine top_i (y := nI (fN (τ 3) (τ 1 0) (τ 9 0) (i + 1))) (by rw [ev, fN_step hi6]) ?_
      refine lv_istore_n (lv' := [(1, .int (nI (fN (τ 3) (τ 1 0) (τ 9 0) (i + 1)))), (2, .int (nI i)), (0, .ref q)]) hx hb dX2_fastsNow_42 rfl hl (by decide) rfl (fun ls hl => ?_)
      refine lv_iinc (v := nI (i + 1)) (lv' := [(2, .int (nI (i + 1))), (1, .int (nI (fN (τ 3) (τ 1 0) (τ 9 0) (i + 1)))), (0, .ref q)]) hx hb dX2_fastsNow_43 hl (k := 1) rfl (inc_nI _) (by decide) rfl (fun ls hl => ?_)
      refine lv_goto (tgt := 4) hx hb dX2_fastsNow_46 (by decide) ?_
      exact ih4 (n4 - 1) (i + 1) ls (by omega) (by omega) (hl)
    · refine lv_icmp_lt (tgt := 40) hx hb dX2_fastsNow_23 (by decide) (fun c3 => ?_) (fun c3 => ?_)
      · refine lv_iconst (v := 0) hx hb dX2_fastsNow_40 (by decide) ?_
        exact kj2 _ (by rw [if_pos c3])
      · refine lv_iload_n hx hb dX2_fastsNow_26 rfl (lv_at hl 0 rfl) ?_
        refine lv_aload_n hx hb dX2_fastsNow_27 rfl (lv_at hl 2 rfl) ?_
        refine mg9 hx hb hts hown hK hP dX2_fastsNow_28 ?_
        refine lv_icmp_eq (tgt := 40) hx hb dX2_fastsNow_31 (by decide) (fun c4 => ?_) (fun c4 => ?_)
        · refine lv_iconst (v := 0) hx hb dX2_fastsNow_40 (by decide) ?_
          exact kj2 _ (by rw [if_neg c3, if_pos c4])
        · refine lv_iconst (v := 1) hx hb dX2_fastsNow_34 (by decide) ?_
          refine lv_iload_n hx hb dX2_fastsNow_35 rfl (lv_at hl 0 rfl) ?_
          refine lv_ishl hx hb dX2_fastsNow_36 ?_
          refine lv_goto (tgt := 41) hx hb dX2_fastsNow_37 (by decide) ?_
          exact kj2 _ (by rw [if_neg c3, if_neg c4])

set_option maxHeartbeats 4000000 in
set_option maxRecDepth 100000 in
theorem cM_yellowBy (l : Launch) (D : va_G) (d : Nat → ClassId) (q : Nat) (Aq : Nat → Nat) (τ : Nat → Nat → Int32) (dd n : Nat) (E : Nat → Nat → Nat) (a z : Nat) (hd : mDay τ dd) (he : mEat τ n E) (ha : a < n) (hee : z < 2 ^ dd) : cR l (KM D d) yX2_yellowBy cX2_yellowBy 7 (some .int) (rk 1) [.ref q, .int (nI a), .int (nI z)] (va_P D vwCl (mw d q Aq τ)) (.int (nI (yel dd (laN (E 0 a) (E 1 a)) z))) := by
  refine cR_start RX2 rfl (by decide) (Nat.le_of_ble_eq_true rfl) ?_
  intro p e s m below meth c hx hb hml hown hts hr hlk hK hP ls hl
  have hl : lv_has ls 7 [(0, .ref q), (1, .int (nI a)), (2, .int (nI z))] := hl
  have hd6 : dd ≤ 6 := hd.1
  have hla := he.la ha
  have he64 : z < 64 := Nat.lt_of_lt_of_le hee (pow6 hd6)
  refine lv_iconst (v := nI 0) hx hb dX2_yellowBy_0 (by decide) ?_
  refine lv_istore_n (lv' := [(3, .int (nI 0)), (0, .ref q), (1, .int (nI a)), (2, .int (nI z))]) hx hb dX2_yellowBy_1 rfl hl (by decide) rfl (fun ls hl => ?_)
  refine lv_aload_n hx hb dX2_yellowBy_2 rfl (lv_at hl 1 rfl) ?_
  refine lv_iload_n hx hb dX2_yellowBy_3 rfl (lv_at hl 2 rfl) ?_
  refine callR_V (rest := []) hx hb hml hown hts KM_st hK (cM_lastsOf l D d q Aq τ n E a he ha) (wX2_lastsOf hts ⟨Nat.le_of_ble_eq_true rfl, Nat.le_of_ble_eq_true rfl⟩) (m_recv hK hP) hP rfl hl.1 rfl (Nat.le_of_ble_eq_true rfl) dX2_yellowBy_4 ⟨Nat.zero_le _, Nat.zero_le _⟩ ?_
  refine lv_istore (lv' := [(4, .int (nI (laN (E 0 a) (E 1 a)))), (3, .int (nI 0)), (0, .ref q), (1, .int (nI a)), (2, .int (nI z))]) hx hb dX2_yellowBy_7 hl (by decide) rfl (fun ls hl => ?_)
  refine lv_iconst (v := nI 0) hx hb dX2_yellowBy_9 (by decide) ?_
  refine lv_istore (lv' := [(5, .int (nI 0)), (4, .int (nI (laN (E 0 a) (E 1 a)))), (3, .int (nI 0)), (0, .ref q), (1, .int (nI a)), (2, .int (nI z))]) hx hb dX2_yellowBy_10 hl (by decide) rfl (fun ls hl => ?_)
  refine lp_R (σ := Nat) (fun n12 zz => zz + n12 = dd) (fun zz => [(5, .int (nI zz)), (4, .int (nI (laN (E 0 a) (E 1 a)))), (3, .int (nI (yOut dd (laN (E 0 a) (E 1 a)) z zz))), (0, .ref q), (1, .int (nI a)), (2, .int (nI z))]) (fun n12 zz hI ih12 ls hl => ?_) dd 0 (by omega) hl
  obtain ⟨i, rfl⟩ : ∃ y, y = zz := ⟨_, rfl⟩
  have hI : i + n12 = dd := hI
  obtain hi := hI
  have hl : lv_has ls 7 [(5, .int (nI i)), (4, .int (nI (laN (E 0 a) (E 1 a)))), (3, .int (nI (yOut dd (laN (E 0 a) (E 1 a)) z i))), (0, .ref q), (1, .int (nI a)), (2, .int (nI z))] := hl
  refine lv_iload hx hb dX2_yellowBy_12 (lv_at hl 0 rfl) ?_
  refine lv_aload_n hx hb dX2_yellowBy_14 rfl (lv_at hl 3 rfl) ?_
  refine mg2 hx hb hts hown hK hP dX2_yellowBy_15 ?_
  refine top_i (y := nI dd) (hd.2) ?_
  refine nc_ge (tgt := 76) hx hb dX2_yellowBy_18 (by decide) (by omega) (by omega) (fun c1 => ?_) (fun c1 => ?_)
  · refine lv_iload_n hx hb dX2_yellowBy_76 rfl (lv_at hl 2 rfl) ?_
    exact rR_i hx hb hr hlk dX2_yellowBy_77 (by rw [show i = dd by omega, yOut_eq dd (by omega) _ hla z hee])
  · refine lv_iload hx hb dX2_yellowBy_21 (lv_at hl 0 rfl) ?_
    refine lv_istore (lv' := [(6, .int (nI i)), (5, .int (nI i)), (4, .int (nI (laN (E 0 a) (E 1 a)))), (3, .int (nI (yOut dd (laN (E 0 a) (E 1 a)) z i))), (0, .ref q), (1, .int (nI a)), (2, .int (nI z))]) hx hb dX2_yellowBy_23 hl (by decide) rfl (fun ls hl => ?_)
    refine lp_R (σ := Nat) (fun n25 zz => zz + n25 = min (dd - i) ((laN (E 0 a) (E 1 a)) + 1)) (fun zz => [(6, .int (nI (i + zz))), (5, .int (nI i)), (4, .int (nI (laN (E 0 a) (E 1 a)))), (3, .int (nI (yIn (z.testBit i) i zz (yOut dd (laN (E 0 a) (E 1 a)) z i)))), (0, .ref q), (1, .int (nI a)), (2, .int (nI z))]) (fun n25 zz hI ih25 ls hl => ?_) (min (dd - i) ((laN (E 0 a) (E 1 a)) + 1)) 0 (by omega) hl
    obtain ⟨k, rfl⟩ : ∃ y, y = zz := ⟨_, rfl⟩
    have hI : k + n25 = min (dd - i) ((laN (E 0 a) (E 1 a)) + 1) := hI
    obtain hk := hI
    have hl : lv_has ls 7 [(6, .int (nI (i + k))), (5, .int (nI i)), (4, .int (nI (laN (E 0 a) (E 1 a)))), (3, .int (nI (yIn (z.testBit i) i k (yOut dd (laN (E 0 a) (E 1 a)) z i)))), (0, .ref q), (1, .int (nI a)), (2, .int (nI z))] := hl
    refine lv_iload hx hb dX2_yellowBy_25 (lv_at hl 0 rfl) ?_
    refine lv_aload_n hx hb dX2_yellowBy_27 rfl (lv_at hl 4 rfl) ?_
    refine mg2 hx hb hts hown hK hP dX2_yellowBy_28 ?_
    refine top_i (y := nI dd) (hd.2) ?_
    refine nc_ge (tgt := 70) hx hb dX2_yellowBy_31 (by decide) (by omega) (by omega) (fun c2 => ?_) (fun c2 => ?_)
    · have hkm : k = min (dd - i) ((laN (E 0 a) (E 1 a)) + 1) := by omega
      refine lv_iinc (v := nI (i + 1)) (lv' := [(5, .int (nI (i + 1))), (6, .int (nI (i + k))), (4, .int (nI (laN (E 0 a) (E 1 a)))), (3, .int (nI (yIn (z.testBit i) i k (yOut dd (laN (E 0 a) (E 1 a)) z i)))), (0, .ref q), (1, .int (nI a)), (2, .int (nI z))]) hx hb dX2_yellowBy_70 hl (k := 1) rfl (inc_nI _) (by decide) rfl (fun ls hl => ?_)
      refine lv_goto (tgt := 12) hx hb dX2_yellowBy_73 (by decide) ?_
      exact ih12 (n12 - 1) (i + 1) ls (by omega) (by omega) ((by rw [hkm] at hl; exact (lv_sub hl [0, 2, 3, 4, 5, 6] rfl)))
    · refine lv_iload hx hb dX2_yellowBy_34 (lv_at hl 0 rfl) ?_
      refine lv_iload hx hb dX2_yellowBy_36 (lv_at hl 1 rfl) ?_
      refine lv_iload hx hb dX2_yellowBy_38 (lv_at hl 2 rfl) ?_
      refine lv_iadd hx hb dX2_yellowBy_40 ?_
      refine top_i (y := nI (i + (laN (E 0 a) (E 1 a)))) (nI_add _ _) ?_
      refine nc_gt (tgt := 70) hx hb dX2_yellowBy_41 (by decide) (by omega) (by omega) (fun c3 => ?_) (fun c3 => ?_)
      · have hkm : k = min (dd - i) ((laN (E 0 a) (E 1 a)) + 1) := by omega
        refine lv_iinc (v := nI (i + 1)) (lv' := [(5, .int (nI (i + 1))), (6, .int (nI (i + k))), (4, .int (nI (laN (E 0 a) (E 1 a)))), (3, .int (nI (yIn (z.testBit i) i k (yOut dd (laN (E 0 a) (E 1 a)) z i)))), (0, .ref q), (1, .int (nI a)), (2, .int (nI z))]) hx hb dX2_yellowBy_70 hl (k := 1) rfl (inc_nI _) (by decide) rfl (fun ls hl => ?_)
        refine lv_goto (tgt := 12) hx hb dX2_yellowBy_73 (by decide) ?_
        exact ih12 (n12 - 1) (i + 1) ls (by omega) (by omega) ((by rw [hkm] at hl; exact (lv_sub hl [0, 2, 3, 4, 5, 6] rfl)))
      · refine lv_iload_n hx hb dX2_yellowBy_44 rfl (lv_at hl 3 rfl) ?_
        refine lv_iload_n hx hb dX2_yellowBy_45 rfl (lv_at hl 6 rfl) ?_
        refine lv_iload hx hb dX2_yellowBy_46 (lv_at hl 1 rfl) ?_
        refine callR_S (rest := [.int (nI (yIn (z.testBit i) i k (yOut dd (laN (E 0 a) (E 1 a)) z i)))]) hx hb hml hown hts KM_st hK (cM_isIn l D d (nI z) (nI i)) (wX2_isIn hts ⟨Nat.le_of_ble_eq_true rfl, Nat.le_of_ble_eq_true rfl⟩) trivial rfl hl.1 rfl (Nat.le_of_ble_eq_true rfl) dX2_yellowBy_48 ⟨Nat.zero_le _, Nat.zero_le _⟩ ?_
        refine jn_i (ls := ls) (P := fun v => v = (if (pBit (nI z) (nI i)) = false then (0 : Int32) else ((1 : Int32) <<< (nI (i + k) &&& 31)))) 62 [.int (nI (yIn (z.testBit i) i k (yOut dd (laN (E 0 a) (E 1 a)) z i)))] (fun v ev => ?_) (fun kj4 => ?_)
        · refine lv_ior hx hb dX2_yellowBy_62 ?_
          refine top_i (y := nI (yIn (z.testBit i) i (k + 1) (yOut dd (laN (E 0 a) (E 1 a)) z i))) (by rw [ev, yIn_step he64 (by omega) (by omega)]) ?_
          refine lv_istore_n (lv' := [(3, .int (nI (yIn (z.testBit i) i (k + 1) (yOut dd (laN (E 0 a) (E 1 a)) z i)))), (6, .int (nI (i + k))), (5, .int (nI i)), (4, .int (nI (laN (E 0 a) (E 1 a)))), (0, .ref q), (1, .int (nI a)), (2, .int (nI z))]) hx hb dX2_yellowBy_63 rfl hl (by decide) rfl (fun ls hl => ?_)
          refine lv_iinc (v := nI ((i + k) + 1)) (lv' := [(6, .int (nI ((i + k) + 1))), (3, .int (nI (yIn (z.testBit i) i (k + 1) (yOut dd (laN (E 0 a) (E 1 a)) z i)))), (5, .int (nI i)), (4, .int (nI (laN (E 0 a) (E 1 a)))), (0, .ref q), (1, .int (nI a)), (2, .int (nI z))]) hx hb dX2_yellowBy_64 hl (k := 1) rfl (inc_nI _) (by decide) rfl (fun ls hl => ?_)
          refine lv_goto (tgt := 25) hx hb dX2_yellowBy_67 (by decide) ?_
          exact ih25 (n25 - 1) (k + 1) ls (by omega) (by omega) ((lv_sub hl [0, 2, 3, 1, 4, 5, 6] rfl))
        · refine bz_eq (tgt := 61) hx hb dX2_yellowBy_51 (by decide) (fun c5 => ?_) (fun c5 => ?_)
          · refine lv_iconst (v := 0) hx hb dX2_yellowBy_61 (by decide) ?_
            exact kj4 _ (by rw [if_pos c5])
          · refine lv_iconst (v := 1) hx hb dX2_yellowBy_54 (by decide) ?_
            refine lv_iload hx hb dX2_yellowBy_55 (lv_at hl 0 rfl) ?_
            refine lv_ishl hx hb dX2_yellowBy_57 ?_
            refine lv_goto (tgt := 62) hx hb dX2_yellowBy_58 (by decide) ?_
            exact kj4 _ (by rw [if_neg (bt_nf c5)])

set_option maxHeartbeats 4000000 in
set_option maxRecDepth 100000 in
theorem cM_foundBy (l : Launch) (D : va_G) (d : Nat → ClassId) (q : Nat) (Aq : Nat → Nat) (τ : Nat → Nat → Int32) (dd n : Nat) (E : Nat → Nat → Nat) (a z : Nat) (hd : mDay τ dd) (he : mEat τ n E) (ha : a < n) (hee : z < 2 ^ dd) : cR l (KM D d) yX2_foundBy cX2_foundBy 3 (some .int) (rk 2) [.ref q, .int (nI a), .int (nI z)] (va_P D vwCl (mw d q Aq τ)) (.int (nI (fou E dd (fN (τ 3) (τ 1 0) (τ 9 0) dd) a z))) := by
  refine cR_start RX2 rfl (by decide) (Nat.le_of_ble_eq_true rfl) ?_
  intro p e s m below meth c hx hb hml hown hts hr hlk hK hP ls hl
  have hl : lv_has ls 3 [(0, .ref q), (1, .int (nI a)), (2, .int (nI z))] := hl
  refine lv_aload_n hx hb dX2_foundBy_0 rfl (lv_at hl 0 rfl) ?_
  refine lv_iload_n hx hb dX2_foundBy_1 rfl (lv_at hl 1 rfl) ?_
  refine lv_iload_n hx hb dX2_foundBy_2 rfl (lv_at hl 2 rfl) ?_
  refine callR_V (rest := []) hx hb hml hown hts KM_st hK (cM_yellowBy l D d q Aq τ dd n E a z hd he ha hee) (wX2_yellowBy hts ⟨Nat.le_of_ble_eq_true rfl, Nat.le_of_ble_eq_true rfl⟩) (m_recv hK hP) hP rfl hl.1 rfl (Nat.le_of_ble_eq_true rfl) dX2_foundBy_3 ⟨Nat.zero_le _, Nat.zero_le _⟩ ?_
  refine lv_aload_n hx hb dX2_foundBy_6 rfl (lv_at hl 0 rfl) ?_
  refine callR_V (rest := [.int (nI (yel dd (laN (E 0 a) (E 1 a)) z))]) hx hb hml hown hts KM_st hK (cM_fastsNow l D d q Aq τ dd hd) (wX2_fastsNow hts ⟨Nat.le_of_ble_eq_true rfl, Nat.le_of_ble_eq_true rfl⟩) (m_recv hK hP) hP rfl hl.1 rfl (Nat.le_of_ble_eq_true rfl) dX2_foundBy_7 ⟨Nat.zero_le _, Nat.zero_le _⟩ ?_
  refine lv_iand hx hb dX2_foundBy_10 ?_
  exact rR_i hx hb hr hlk dX2_foundBy_11 (by rw [nx_and]; rfl)

set_option maxHeartbeats 4000000 in
set_option maxRecDepth 100000 in
theorem cM_fineOf (l : Launch) (D : va_G) (d : Nat → ClassId) (q : Nat) (Aq : Nat → Nat) (τ : Nat → Nat → Int32) (dd n : Nat) (E : Nat → Nat → Nat) (a z : Nat) (hd : mDay τ dd) (he : mEat τ n E) (ha : a < n) (hee : z < 2 ^ dd) : cR l (KM D d) yX2_fineOf cX2_fineOf 3 (some .int) (rk 3) [.ref q, .int (nI a), .int (nI z)] (va_P D vwCl (mw d q Aq τ)) (.int (nI (fin E dd (fN (τ 3) (τ 1 0) (τ 9 0) dd) a z))) := by
  refine cR_start RX2 rfl (by decide) (Nat.le_of_ble_eq_true rfl) ?_
  intro p e s m below meth c hx hb hml hown hts hr hlk hK hP ls hl
  have hl : lv_has ls 3 [(0, .ref q), (1, .int (nI a)), (2, .int (nI z))] := hl
  refine lv_aload_n hx hb dX2_fineOf_0 rfl (lv_at hl 0 rfl) ?_
  refine mg7 hx hb hts hown hK hP dX2_fineOf_1 ?_
  refine lv_iload_n hx hb dX2_fineOf_4 rfl (lv_at hl 1 rfl) ?_
  refine ma7 hx hb hK hP (he.lt ha) dX2_fineOf_5 ?_
  refine top_i (y := nI (E 2 a)) ((he.2.2 a ha).2.2.1.1) ?_
  refine lv_aload_n hx hb dX2_fineOf_6 rfl (lv_at hl 0 rfl) ?_
  refine lv_iload_n hx hb dX2_fineOf_7 rfl (lv_at hl 1 rfl) ?_
  refine lv_iload_n hx hb dX2_fineOf_8 rfl (lv_at hl 2 rfl) ?_
  refine callR_V (rest := [.int (nI (E 2 a))]) hx hb hml hown hts KM_st hK (cM_foundBy l D d q Aq τ dd n E a z hd he ha hee) (wX2_foundBy hts ⟨Nat.le_of_ble_eq_true rfl, Nat.le_of_ble_eq_true rfl⟩) (m_recv hK hP) hP rfl hl.1 rfl (Nat.le_of_ble_eq_true rfl) dX2_fineOf_9 ⟨Nat.zero_le _, Nat.zero_le _⟩ ?_
  refine callR_S (rest := [.int (nI (E 2 a))]) hx hb hml hown hts KM_st hK (cM_bits l D d (nI (fou E dd (fN (τ 3) (τ 1 0) (τ 9 0) dd) a z))) (wX2_bits hts ⟨Nat.le_of_ble_eq_true rfl, Nat.le_of_ble_eq_true rfl⟩) trivial rfl hl.1 rfl (Nat.le_of_ble_eq_true rfl) dX2_fineOf_12 ⟨Nat.zero_le _, Nat.zero_le _⟩ ?_
  refine top_i (y := nI (popc (fou E dd (fN (τ 3) (τ 1 0) (τ 9 0) dd) a z))) (pBits_nI _ (fou_lt hd.1 hee)) ?_
  refine lv_imul hx hb dX2_fineOf_15 ?_
  exact rR_i hx hb hr hlk dX2_fineOf_16 (by rw [pk_mul]; rfl)

set_option maxHeartbeats 4000000 in
set_option maxRecDepth 100000 in
theorem cM_bestOf (l : Launch) (D : va_G) (d : Nat → ClassId) (q : Nat) (Aq : Nat → Nat) (τ : Nat → Nat → Int32) (dd n : Nat) (E : Nat → Nat → Nat) (a : Nat) (hd : mDay τ dd) (he : mEat τ n E) (ha : a < n) : cR l (KM D d) yX2_bestOf cX2_bestOf 6 (some .int) (rk 4) [.ref q, .int (nI a)] (va_P D vwCl (mw d q Aq τ)) (.int (oI (bst E dd (fN (τ 3) (τ 1 0) (τ 9 0) dd) a (2 ^ dd)))) := by
  refine cR_start RX2 rfl (by decide) (Nat.le_of_ble_eq_true rfl) ?_
  intro p e s m below meth c hx hb hml hown hts hr hlk hK hP ls hl
  have hl : lv_has ls 6 [(0, .ref q), (1, .int (nI a))] := hl
  have hd6 : dd ≤ 6 := hd.1
  have h64 := pow6 hd6
  have h10 := (he.2.2 a ha).2.2.1.2
  have h7 := (he.2.2 a ha).2.2.2.2
  refine lv_bipush (v := (-9)) hx hb dX2_bestOf_0 (by decide) ?_
  refine lv_istore_n (lv' := [(2, .int (-9)), (0, .ref q), (1, .int (nI a))]) hx hb dX2_bestOf_2 rfl hl (by decide) rfl (fun ls hl => ?_)
  refine lv_iconst (v := nI 0) hx hb dX2_bestOf_3 (by decide) ?_
  refine lv_istore_n (lv' := [(3, .int (nI 0)), (2, .int (-9)), (0, .ref q), (1, .int (nI a))]) hx hb dX2_bestOf_4 rfl hl (by decide) rfl (fun ls hl => ?_)
  refine lp_R (σ := Nat) (fun n5 zz => zz + n5 = 2 ^ dd) (fun zz => [(3, .int (nI zz)), (2, .int (oI (bst E dd (fN (τ 3) (τ 1 0) (τ 9 0) dd) a zz))), (0, .ref q), (1, .int (nI a))]) (fun n5 zz hI ih5 ls hl => ?_) (2 ^ dd) 0 (by omega) hl
  obtain ⟨i, rfl⟩ : ∃ y, y = zz := ⟨_, rfl⟩
  have hI : i + n5 = 2 ^ dd := hI
  obtain hi := hI
  have hl : lv_has ls 6 [(3, .int (nI i)), (2, .int (oI (bst E dd (fN (τ 3) (τ 1 0) (τ 9 0) dd) a i))), (0, .ref q), (1, .int (nI a))] := hl
  refine lv_iload_n hx hb dX2_bestOf_5 rfl (lv_at hl 0 rfl) ?_
  refine lv_iconst (v := 1) hx hb dX2_bestOf_6 (by decide) ?_
  refine lv_aload_n hx hb dX2_bestOf_7 rfl (lv_at hl 2 rfl) ?_
  refine mg2 hx hb hts hown hK hP dX2_bestOf_8 ?_
  refine top_i (y := nI dd) (hd.2) ?_
  refine lv_ishl hx hb dX2_bestOf_11 ?_
  refine top_i (y := nI (2 ^ dd)) (shl1 dd (by omega)) ?_
  refine nc_ge (tgt := 99) hx hb dX2_bestOf_12 (by decide) (by omega) (by omega) (fun c1 => ?_) (fun c1 => ?_)
  · refine lv_iload_n hx hb dX2_bestOf_99 rfl (lv_at hl 1 rfl) ?_
    exact rR_i hx hb hr hlk dX2_bestOf_100 (by rw [show i = 2 ^ dd by omega])
  · refine lv_iload_n hx hb dX2_bestOf_15 rfl (lv_at hl 0 rfl) ?_
    refine callR_S (rest := []) hx hb hml hown hts KM_st hK (cM_bits l D d (nI i)) (wX2_bits hts ⟨Nat.le_of_ble_eq_true rfl, Nat.le_of_ble_eq_true rfl⟩) trivial rfl hl.1 rfl (Nat.le_of_ble_eq_true rfl) dX2_bestOf_16 ⟨Nat.zero_le _, Nat.zero_le _⟩ ?_
    refine top_i (y := nI (popc i)) (pBits_nI i (by omega)) ?_
    refine lv_aload_n hx hb dX2_bestOf_19 rfl (lv_at hl 2 rfl) ?_
    refine mg8 hx hb hts hown hK hP dX2_bestOf_20 ?_
    refine lv_iload_n hx hb dX2_bestOf_23 rfl (lv_at hl 3 rfl) ?_
    refine ma8 hx hb hK hP (he.lt ha) dX2_bestOf_24 ?_
    refine top_i (y := nI (E 3 a)) ((he.2.2 a ha).2.2.2.1) ?_
    refine nc_lt (tgt := 32) hx hb dX2_bestOf_25 (by decide) (by have := popc_le i; omega) (by omega) (fun c2 => ?_) (fun c2 => ?_)
    · refine lv_iconst (v := 0) hx hb dX2_bestOf_32 (by decide) ?_
      refine lv_istore (lv' := [(4, .int 0), (3, .int (nI i)), (2, .int (oI (bst E dd (fN (τ 3) (τ 1 0) (τ 9 0) dd) a i))), (0, .ref q), (1, .int (nI a))]) hx hb dX2_bestOf_33 hl (by decide) rfl (fun ls hl => ?_)
      refine lv_iload hx hb dX2_bestOf_35 (lv_at hl 0 rfl) ?_
      refine lv_if_eq (tgt := 46) hx hb dX2_bestOf_37 (by decide) (fun c0 => ?_) (fun c0 => absurd (by decide) c0)
      refine lv_iload hx hb dX2_bestOf_46 (lv_at hl 0 rfl) ?_
      refine lv_if_eq (tgt := 93) hx hb dX2_bestOf_48 (by decide) (fun c0 => ?_) (fun c0 => absurd (by decide) c0)
      refine lv_iinc (v := nI (i + 1)) (lv' := [(3, .int (nI (i + 1))), (4, .int 0), (2, .int (oI (bst E dd (fN (τ 3) (τ 1 0) (τ 9 0) dd) a i))), (0, .ref q), (1, .int (nI a))]) hx hb dX2_bestOf_93 hl (k := 1) rfl (inc_nI _) (by decide) rfl (fun ls hl => ?_)
      refine lv_goto (tgt := 5) hx hb dX2_bestOf_96 (by decide) ?_
      have eb : bst E dd (fN (τ 3) (τ 1 0) (τ 9 0) dd) a (i + 1) = (bst E dd (fN (τ 3) (τ 1 0) (τ 9 0) dd) a i) := bst_skip c2
      exact ih5 (n5 - 1) (i + 1) ls (by omega) (by omega) ((by rw [eb]; exact (lv_sub hl [0, 2, 3, 4] rfl)))
    · refine lv_iconst (v := 1) hx hb dX2_bestOf_28 (by decide) ?_
      refine lv_goto (tgt := 33) hx hb dX2_bestOf_29 (by decide) ?_
      refine lv_istore (lv' := [(4, .int 1), (3, .int (nI i)), (2, .int (oI (bst E dd (fN (τ 3) (τ 1 0) (τ 9 0) dd) a i))), (0, .ref q), (1, .int (nI a))]) hx hb dX2_bestOf_33 hl (by decide) rfl (fun ls hl => ?_)
      refine lv_iload hx hb dX2_bestOf_35 (lv_at hl 0 rfl) ?_
      refine lv_if_eq (tgt := 46) hx hb dX2_bestOf_37 (by decide) (fun c0 => absurd c0 (by decide)) (fun c0 => ?_)
      rcases hb0 : bst E dd (fN (τ 3) (τ 1 0) (τ 9 0) dd) a i with _ | b
      · rw [hb0] at hl
        have hl : lv_has ls 6 [(4, .int 1), (3, .int (nI i)), (2, .int (-9)), (0, .ref q), (1, .int (nI a))] := hl
        refine lv_iload_n hx hb dX2_bestOf_40 rfl (lv_at hl 2 rfl) ?_
        refine lv_if_ge (tgt := 46) hx hb dX2_bestOf_41 (by decide) (fun c0 => absurd c0 (by decide)) (fun c0 => ?_)
        refine lv_iload_n hx hb dX2_bestOf_44 rfl (lv_at hl 1 rfl) ?_
        refine lv_istore_n (lv' := [(2, .int (nI i)), (4, .int 1), (3, .int (nI i)), (0, .ref q), (1, .int (nI a))]) hx hb dX2_bestOf_45 rfl hl (by decide) rfl (fun ls hl => ?_)
        refine lv_iload hx hb dX2_bestOf_46 (lv_at hl 1 rfl) ?_
        refine lv_if_eq (tgt := 93) hx hb dX2_bestOf_48 (by decide) (fun c0 => absurd c0 (by decide)) (fun c0 => ?_)
        refine lv_aload_n hx hb dX2_bestOf_51 rfl (lv_at hl 3 rfl) ?_
        refine lv_iload_n hx hb dX2_bestOf_52 rfl (lv_at hl 4 rfl) ?_
        refine lv_iload_n hx hb dX2_bestOf_53 rfl (lv_at hl 0 rfl) ?_
        refine callR_V (rest := []) hx hb hml hown hts KM_st hK (cM_fineOf l D d q Aq τ dd n E a i hd he ha (by omega)) (wX2_fineOf hts ⟨Nat.le_of_ble_eq_true rfl, Nat.le_of_ble_eq_true rfl⟩) (m_recv hK hP) hP rfl hl.1 rfl (Nat.le_of_ble_eq_true rfl) dX2_bestOf_54 ⟨Nat.zero_le _, Nat.zero_le _⟩ ?_
        refine lv_aload_n hx hb dX2_bestOf_57 rfl (lv_at hl 3 rfl) ?_
        refine lv_iload_n hx hb dX2_bestOf_58 rfl (lv_at hl 4 rfl) ?_
        refine lv_iload_n hx hb dX2_bestOf_59 rfl (lv_at hl 2 rfl) ?_
        refine callR_V (rest := [.int (nI (fin E dd (fN (τ 3) (τ 1 0) (τ 9 0) dd) a i))]) hx hb hml hown hts KM_st hK (cM_fineOf l D d q Aq τ dd n E a i hd he ha (by omega)) (wX2_fineOf hts ⟨Nat.le_of_ble_eq_true rfl, Nat.le_of_ble_eq_true rfl⟩) (m_recv hK hP) hP rfl hl.1 rfl (Nat.le_of_ble_eq_true rfl) dX2_bestOf_60 ⟨Nat.zero_le _, Nat.zero_le _⟩ ?_
        refine lv_isub hx hb dX2_bestOf_63 ?_
        refine top_i (y := 0) (Int32.sub_self _) ?_
        refine lv_istore (lv' := [(5, .int 0), (2, .int (nI i)), (4, .int 1), (3, .int (nI i)), (0, .ref q), (1, .int (nI a))]) hx hb dX2_bestOf_64 hl (by decide) rfl (fun ls hl => ?_)
        refine lv_iload hx hb dX2_bestOf_66 (lv_at hl 0 rfl) ?_
        refine lv_if_gt (tgt := 87) hx hb dX2_bestOf_68 (by decide) (fun c0 => absurd c0 (by decide)) (fun c0 => ?_)
        refine lv_iload hx hb dX2_bestOf_71 (lv_at hl 0 rfl) ?_
        refine lv_if_ne (tgt := 91) hx hb dX2_bestOf_73 (by decide) (fun c0 => absurd (by decide) c0) (fun c0 => ?_)
        refine lv_iload_n hx hb dX2_bestOf_76 rfl (lv_at hl 3 rfl) ?_
        refine callR_S (rest := []) hx hb hml hown hts KM_st hK (cM_bits l D d (nI i)) (wX2_bits hts ⟨Nat.le_of_ble_eq_true rfl, Nat.le_of_ble_eq_true rfl⟩) trivial rfl hl.1 rfl (Nat.le_of_ble_eq_true rfl) dX2_bestOf_77 ⟨Nat.zero_le _, Nat.zero_le _⟩ ?_
        refine top_i (y := nI (popc i)) (pBits_nI i (by omega)) ?_
        refine lv_iload_n hx hb dX2_bestOf_80 rfl (lv_at hl 1 rfl) ?_
        refine callR_S (rest := [.int (nI (popc i))]) hx hb hml hown hts KM_st hK (cM_bits l D d (nI i)) (wX2_bits hts ⟨Nat.le_of_ble_eq_true rfl, Nat.le_of_ble_eq_true rfl⟩) trivial rfl hl.1 rfl (Nat.le_of_ble_eq_true rfl) dX2_bestOf_81 ⟨Nat.zero_le _, Nat.zero_le _⟩ ?_
        refine top_i (y := nI (popc i)) (pBits_nI _ (by omega)) ?_
        refine nc_ge (tgt := 91) hx hb dX2_bestOf_84 (by decide) (by have := popc_le i; omega) (by have := popc_le i; omega) (fun c3 => ?_) (fun c3 => ?_)
        · refine lv_iload_n hx hb dX2_bestOf_91 rfl (lv_at hl 1 rfl) ?_
          refine lv_istore_n (lv' := [(2, .int (nI i)), (5, .int 0), (4, .int 1), (3, .int (nI i)), (0, .ref q), (1, .int (nI a))]) hx hb dX2_bestOf_92 rfl hl (by decide) rfl (fun ls hl => ?_)
          refine lv_iinc (v := nI (i + 1)) (lv' := [(3, .int (nI (i + 1))), (2, .int (nI i)), (5, .int 0), (4, .int 1), (0, .ref q), (1, .int (nI a))]) hx hb dX2_bestOf_93 hl (k := 3) rfl (inc_nI _) (by decide) rfl (fun ls hl => ?_)
          refine lv_goto (tgt := 5) hx hb dX2_bestOf_96 (by decide) ?_
          have eb : bst E dd (fN (τ 3) (τ 1 0) (τ 9 0) dd) a (i + 1) = some i := bst_none c2 hb0
          exact ih5 (n5 - 1) (i + 1) ls (by omega) (by omega) ((by rw [eb]; exact (lv_sub hl [0, 1, 4, 5] rfl)))
        · exact absurd c3 (Nat.lt_irrefl _)
      · rw [hb0] at hl
        have hl : lv_has ls 6 [(4, .int 1), (3, .int (nI i)), (2, .int (nI b)), (0, .ref q), (1, .int (nI a))] := hl
        have hb1 : b < i := bst_lt i b hb0
        refine lv_iload_n hx hb dX2_bestOf_40 rfl (lv_at hl 2 rfl) ?_
        refine lv_if_ge (tgt := 46) hx hb dX2_bestOf_41 (by decide) (fun c0 => ?_) (fun c0 => absurd (nI_pos' (by omega)) c0)
        refine lv_iload hx hb dX2_bestOf_46 (lv_at hl 0 rfl) ?_
        refine lv_if_eq (tgt := 93) hx hb dX2_bestOf_48 (by decide) (fun c0 => absurd c0 (by decide)) (fun c0 => ?_)
        refine lv_aload_n hx hb dX2_bestOf_51 rfl (lv_at hl 3 rfl) ?_
        refine lv_iload_n hx hb dX2_bestOf_52 rfl (lv_at hl 4 rfl) ?_
        refine lv_iload_n hx hb dX2_bestOf_53 rfl (lv_at hl 2 rfl) ?_
        refine callR_V (rest := []) hx hb hml hown hts KM_st hK (cM_fineOf l D d q Aq τ dd n E a b hd he ha (by omega)) (wX2_fineOf hts ⟨Nat.le_of_ble_eq_true rfl, Nat.le_of_ble_eq_true rfl⟩) (m_recv hK hP) hP rfl hl.1 rfl (Nat.le_of_ble_eq_true rfl) dX2_bestOf_54 ⟨Nat.zero_le _, Nat.zero_le _⟩ ?_
        refine lv_aload_n hx hb dX2_bestOf_57 rfl (lv_at hl 3 rfl) ?_
        refine lv_iload_n hx hb dX2_bestOf_58 rfl (lv_at hl 4 rfl) ?_
        refine lv_iload_n hx hb dX2_bestOf_59 rfl (lv_at hl 1 rfl) ?_
        refine callR_V (rest := [.int (nI (fin E dd (fN (τ 3) (τ 1 0) (τ 9 0) dd) a b))]) hx hb hml hown hts KM_st hK (cM_fineOf l D d q Aq τ dd n E a i hd he ha (by omega)) (wX2_fineOf hts ⟨Nat.le_of_ble_eq_true rfl, Nat.le_of_ble_eq_true rfl⟩) (m_recv hK hP) hP rfl hl.1 rfl (Nat.le_of_ble_eq_true rfl) dX2_bestOf_60 ⟨Nat.zero_le _, Nat.zero_le _⟩ ?_
        refine lv_isub hx hb dX2_bestOf_63 ?_
        refine lv_topi (fun x4 ex4 => ?_)
        refine lv_istore (lv' := [(5, .int x4), (4, .int 1), (3, .int (nI i)), (2, .int (nI b)), (0, .ref q), (1, .int (nI a))]) hx hb dX2_bestOf_64 hl (by decide) rfl (fun ls hl => ?_)
        refine lv_iload hx hb dX2_bestOf_66 (lv_at hl 0 rfl) ?_
        refine lv_if_gt (tgt := 87) hx hb dX2_bestOf_68 (by decide) (fun c5 => ?_) (fun c5 => ?_)
        · refine lv_iload_n hx hb dX2_bestOf_87 rfl (lv_at hl 2 rfl) ?_
          refine lv_goto (tgt := 92) hx hb dX2_bestOf_88 (by decide) ?_
          refine lv_istore_n (lv' := [(2, .int (nI i)), (5, .int x4), (4, .int 1), (3, .int (nI i)), (0, .ref q), (1, .int (nI a))]) hx hb dX2_bestOf_92 rfl hl (by decide) rfl (fun ls hl => ?_)
          refine lv_iinc (v := nI (i + 1)) (lv' := [(3, .int (nI (i + 1))), (2, .int (nI i)), (5, .int x4), (4, .int 1), (0, .ref q), (1, .int (nI a))]) hx hb dX2_bestOf_93 hl (k := 3) rfl (inc_nI _) (by decide) rfl (fun ls hl => ?_)
          refine lv_goto (tgt := 5) hx hb dX2_bestOf_96 (by decide) ?_
          have eb : bst E dd (fN (τ 3) (τ 1 0) (τ 9 0) dd) a (i + 1) = some i := bst_some c2 hb0 (by first | (exact Or.inl (less_gt (fin_lt h10) (fin_lt h10) (by rw [← ex4]; assumption))) | (exact Or.inr ⟨less_eq (fin_lt h10) (fin_lt h10) (by rw [← ex4]; assumption), by assumption⟩))
          exact ih5 (n5 - 1) (i + 1) ls (by omega) (by omega) ((by rw [eb]; exact (lv_sub hl [0, 1, 4, 5] rfl)))
        · refine lv_iload hx hb dX2_bestOf_71 (lv_at hl 0 rfl) ?_
          refine lv_if_ne (tgt := 91) hx hb dX2_bestOf_73 (by decide) (fun c6 => ?_) (fun c6 => ?_)
          · refine lv_iload_n hx hb dX2_bestOf_91 rfl (lv_at hl 3 rfl) ?_
            refine lv_istore_n (lv' := [(2, .int (nI b)), (5, .int x4), (4, .int 1), (3, .int (nI i)), (0, .ref q), (1, .int (nI a))]) hx hb dX2_bestOf_92 rfl hl (by decide) rfl (fun ls hl => ?_)
            refine lv_iinc (v := nI (i + 1)) (lv' := [(3, .int (nI (i + 1))), (2, .int (nI b)), (5, .int x4), (4, .int 1), (0, .ref q), (1, .int (nI a))]) hx hb dX2_bestOf_93 hl (k := 3) rfl (inc_nI _) (by decide) rfl (fun ls hl => ?_)
            refine lv_goto (tgt := 5) hx hb dX2_bestOf_96 (by decide) ?_
            have eb : bst E dd (fN (τ 3) (τ 1 0) (τ 9 0) dd) a (i + 1) = some b := bst_keep c2 hb0 (bst_nor (fin_lt h10) (fin_lt h10) (by rw [← ex4]; assumption) (by rw [← ex4]; first | exact Or.inl (by assumption) | exact Or.inr (by assumption)))
            exact ih5 (n5 - 1) (i + 1) ls (by omega) (by omega) ((by rw [eb]; exact (lv_sub hl [0, 1, 4, 5] rfl)))
          · refine lv_iload_n hx hb dX2_bestOf_76 rfl (lv_at hl 2 rfl) ?_
            refine callR_S (rest := []) hx hb hml hown hts KM_st hK (cM_bits l D d (nI i)) (wX2_bits hts ⟨Nat.le_of_ble_eq_true rfl, Nat.le_of_ble_eq_true rfl⟩) trivial rfl hl.1 rfl (Nat.le_of_ble_eq_true rfl) dX2_bestOf_77 ⟨Nat.zero_le _, Nat.zero_le _⟩ ?_
            refine top_i (y := nI (popc i)) (pBits_nI i (by omega)) ?_
            refine lv_iload_n hx hb dX2_bestOf_80 rfl (lv_at hl 3 rfl) ?_
            refine callR_S (rest := [.int (nI (popc i))]) hx hb hml hown hts KM_st hK (cM_bits l D d (nI b)) (wX2_bits hts ⟨Nat.le_of_ble_eq_true rfl, Nat.le_of_ble_eq_true rfl⟩) trivial rfl hl.1 rfl (Nat.le_of_ble_eq_true rfl) dX2_bestOf_81 ⟨Nat.zero_le _, Nat.zero_le _⟩ ?_
            refine top_i (y := nI (popc b)) (pBits_nI _ (by omega)) ?_
            refine nc_ge (tgt := 91) hx hb dX2_bestOf_84 (by decide) (by have := popc_le i; omega) (by have := popc_le b; omega) (fun c7 => ?_) (fun c7 => ?_)
            · refine lv_iload_n hx hb dX2_bestOf_91 rfl (lv_at hl 3 rfl) ?_
              refine lv_istore_n (lv' := [(2, .int (nI b)), (5, .int x4), (4, .int 1), (3, .int (nI i)), (0, .ref q), (1, .int (nI a))]) hx hb dX2_bestOf_92 rfl hl (by decide) rfl (fun ls hl => ?_)
              refine lv_iinc (v := nI (i + 1)) (lv' := [(3, .int (nI (i + 1))), (2, .int (nI b)), (5, .int x4), (4, .int 1), (0, .ref q), (1, .int (nI a))]) hx hb dX2_bestOf_93 hl (k := 3) rfl (inc_nI _) (by decide) rfl (fun ls hl => ?_)
              refine lv_goto (tgt := 5) hx hb dX2_bestOf_96 (by decide) ?_
              have eb : bst E dd (fN (τ 3) (τ 1 0) (τ 9 0) dd) a (i + 1) = some b := bst_keep c2 hb0 (bst_nor (fin_lt h10) (fin_lt h10) (by rw [← ex4]; assumption) (by rw [← ex4]; first | exact Or.inl (by assumption) | exact Or.inr (by assumption)))
              exact ih5 (n5 - 1) (i + 1) ls (by omega) (by omega) ((by rw [eb]; exact (lv_sub hl [0, 1, 4, 5] rfl)))
            · refine lv_iload_n hx hb dX2_bestOf_87 rfl (lv_at hl 2 rfl) ?_
              refine lv_goto (tgt := 92) hx hb dX2_bestOf_88 (by decide) ?_
              refine lv_istore_n (lv' := [(2, .int (nI i)), (5, .int x4), (4, .int 1), (3, .int (nI i)), (0, .ref q), (1, .int (nI a))]) hx hb dX2_bestOf_92 rfl hl (by decide) rfl (fun ls hl => ?_)
              refine lv_iinc (v := nI (i + 1)) (lv' := [(3, .int (nI (i + 1))), (2, .int (nI i)), (5, .int x4), (4, .int 1), (0, .ref q), (1, .int (nI a))]) hx hb dX2_bestOf_93 hl (k := 3) rfl (inc_nI _) (by decide) rfl (fun ls hl => ?_)
              refine lv_goto (tgt := 5) hx hb dX2_bestOf_96 (by decide) ?_
              have eb : bst E dd (fN (τ 3) (τ 1 0) (τ 9 0) dd) a (i + 1) = some i := bst_some c2 hb0 (by first | (exact Or.inl (less_gt (fin_lt h10) (fin_lt h10) (by rw [← ex4]; assumption))) | (exact Or.inr ⟨less_eq (fin_lt h10) (fin_lt h10) (by rw [← ex4]; assumption), by assumption⟩))
              exact ih5 (n5 - 1) (i + 1) ls (by omega) (by omega) ((by rw [eb]; exact (lv_sub hl [0, 1, 4, 5] rfl)))

set_option maxHeartbeats 4000000 in
set_option maxRecDepth 100000 in
theorem cM_villageNow (l : Launch) (D : va_G) (d : Nat → ClassId) (q : Nat) (Aq : Nat → Nat) (τ : Nat → Nat → Int32) (dd n : Nat) (E : Nat → Nat → Nat) (hd : mDay τ dd) (he : mEat τ n E) : cR l (KM D d) yX2_villageNow cX2_villageNow 5 (some .int) (rk 5) [.ref q] (va_P D vwCl (mw d q Aq τ)) (.int (oI (vil E dd (fN (τ 3) (τ 1 0) (τ 9 0) dd) n))) := by
  refine cR_start RX2 rfl (by decide) (Nat.le_of_ble_eq_true rfl) ?_
  intro p e s m below meth c hx hb hml hown hts hr hlk hK hP ls hl
  have hl : lv_has ls 5 [(0, .ref q)] := hl
  have hd6 : dd ≤ 6 := hd.1
  have h64 := pow6 hd6
  have hn4 := he.1
  refine lv_iconst (v := nI 0) hx hb dX2_villageNow_0 (by decide) ?_
  refine lv_istore_n (lv' := [(1, .int (nI 0)), (0, .ref q)]) hx hb dX2_villageNow_1 rfl hl (by decide) rfl (fun ls hl => ?_)
  refine lv_iconst (v := 1) hx hb dX2_villageNow_2 (by decide) ?_
  refine lv_istore_n (lv' := [(2, .int 1), (1, .int (nI 0)), (0, .ref q)]) hx hb dX2_villageNow_3 rfl hl (by decide) rfl (fun ls hl => ?_)
  refine lv_iconst (v := nI 0) hx hb dX2_villageNow_4 (by decide) ?_
  refine lv_istore_n (lv' := [(3, .int (nI 0)), (2, .int 1), (1, .int (nI 0)), (0, .ref q)]) hx hb dX2_villageNow_5 rfl hl (by decide) rfl (fun ls hl => ?_)
  refine lp_R (σ := Nat × Nat) (fun n6 zz => zz.1 + n6 = n ∧ vil E dd (fN (τ 3) (τ 1 0) (τ 9 0) dd) zz.1 = some zz.2) (fun zz => [(3, .int (nI zz.1)), (2, .int 1), (1, .int (nI zz.2)), (0, .ref q)]) (fun n6 zz hI ih6 ls hl => ?_) n (0, 0) (⟨by omega, rfl⟩) hl
  obtain ⟨i, x⟩ := zz
  have hI : i + n6 = n ∧ vil E dd (fN (τ 3) (τ 1 0) (τ 9 0) dd) i = some x := hI
  obtain ⟨hi, hv⟩ := hI
  have hl : lv_has ls 5 [(3, .int (nI i)), (2, .int 1), (1, .int (nI x)), (0, .ref q)] := hl
  refine lv_iload_n hx hb dX2_villageNow_6 rfl (lv_at hl 0 rfl) ?_
  refine lv_aload_n hx hb dX2_villageNow_7 rfl (lv_at hl 3 rfl) ?_
  refine mg4 hx hb hts hown hK hP dX2_villageNow_8 ?_
  refine top_i (y := nI n) (he.2.1) ?_
  refine nc_ge (tgt := 60) hx hb dX2_villageNow_11 (by decide) (by omega) (by omega) (fun c1 => ?_) (fun c1 => ?_)
  · refine lv_iload_n hx hb dX2_villageNow_60 rfl (lv_at hl 1 rfl) ?_
    refine lv_if_eq (tgt := 68) hx hb dX2_villageNow_61 (by decide) (fun c0 => absurd c0 (by decide)) (fun c0 => ?_)
    refine lv_iload_n hx hb dX2_villageNow_64 rfl (lv_at hl 2 rfl) ?_
    refine lv_goto (tgt := 70) hx hb dX2_villageNow_65 (by decide) ?_
    exact rR_i hx hb hr hlk dX2_villageNow_70 (by rw [← show i = n by omega, hv]; rfl)
  · refine lv_iload_n hx hb dX2_villageNow_14 rfl (lv_at hl 1 rfl) ?_
    refine lv_if_eq (tgt := 60) hx hb dX2_villageNow_15 (by decide) (fun c0 => absurd c0 (by decide)) (fun c0 => ?_)
    refine lv_aload_n hx hb dX2_villageNow_18 rfl (lv_at hl 3 rfl) ?_
    refine lv_iload_n hx hb dX2_villageNow_19 rfl (lv_at hl 0 rfl) ?_
    refine callR_V (rest := []) hx hb hml hown hts KM_st hK (cM_bestOf l D d q Aq τ dd n E i hd he (by omega)) (wX2_bestOf hts ⟨Nat.le_of_ble_eq_true rfl, Nat.le_of_ble_eq_true rfl⟩) (m_recv hK hP) hP rfl hl.1 rfl (Nat.le_of_ble_eq_true rfl) dX2_villageNow_20 ⟨Nat.zero_le _, Nat.zero_le _⟩ ?_
    refine lv_istore (lv' := [(4, .int (oI (bst E dd (fN (τ 3) (τ 1 0) (τ 9 0) dd) i (2 ^ dd)))), (3, .int (nI i)), (2, .int 1), (1, .int (nI x)), (0, .ref q)]) hx hb dX2_villageNow_23 hl (by decide) rfl (fun ls hl => ?_)
    rcases hb0 : bst E dd (fN (τ 3) (τ 1 0) (τ 9 0) dd) i (2 ^ dd) with _ | b
    · rw [hb0] at hl
      have hl : lv_has ls 5 [(4, .int (-9)), (3, .int (nI i)), (2, .int 1), (1, .int (nI x)), (0, .ref q)] := hl
      refine lv_iload hx hb dX2_villageNow_25 (lv_at hl 0 rfl) ?_
      refine lv_if_lt (tgt := 34) hx hb dX2_villageNow_27 (by decide) (fun c0 => ?_) (fun c0 => absurd (by decide) c0)
      refine lv_iconst (v := 0) hx hb dX2_villageNow_34 (by decide) ?_
      refine lv_istore_n (lv' := [(2, .int 0), (4, .int (-9)), (3, .int (nI i)), (1, .int (nI x)), (0, .ref q)]) hx hb dX2_villageNow_35 rfl hl (by decide) rfl (fun ls hl => ?_)
      refine lv_iload_n hx hb dX2_villageNow_36 rfl (lv_at hl 3 rfl) ?_
      refine lv_iload_n hx hb dX2_villageNow_37 rfl (lv_at hl 0 rfl) ?_
      refine lv_if_eq (tgt := 51) hx hb dX2_villageNow_38 (by decide) (fun c0 => ?_) (fun c0 => absurd (by decide) c0)
      refine lv_iconst (v := 0) hx hb dX2_villageNow_51 (by decide) ?_
      refine lv_iadd hx hb dX2_villageNow_52 ?_
      refine lv_istore_n (lv' := [(1, .int (nI x + 0)), (2, .int 0), (4, .int (-9)), (3, .int (nI i)), (0, .ref q)]) hx hb dX2_villageNow_53 rfl hl (by decide) rfl (fun ls hl => ?_)
      refine lv_iinc (v := nI (i + 1)) (lv' := [(3, .int (nI (i + 1))), (1, .int (nI x + 0)), (2, .int 0), (4, .int (-9)), (0, .ref q)]) hx hb dX2_villageNow_54 hl (k := 3) rfl (inc_nI _) (by decide) rfl (fun ls hl => ?_)
      refine lv_goto (tgt := 6) hx hb dX2_villageNow_57 (by decide) ?_
      refine lv_iload_n hx hb dX2_villageNow_6 rfl (lv_at hl 0 rfl) ?_
      refine lv_aload_n hx hb dX2_villageNow_7 rfl (lv_at hl 4 rfl) ?_
      refine mg4 hx hb hts hown hK hP dX2_villageNow_8 ?_
      refine top_i (y := nI n) (he.2.1) ?_
      refine nc_ge (tgt := 60) hx hb dX2_villageNow_11 (by decide) (by omega) (by omega) (fun c2 => ?_) (fun c2 => ?_)
      · refine lv_iload_n hx hb dX2_villageNow_60 rfl (lv_at hl 2 rfl) ?_
        refine lv_if_eq (tgt := 68) hx hb dX2_villageNow_61 (by decide) (fun c0 => ?_) (fun c0 => absurd (by decide) c0)
        refine lv_bipush (v := (-9)) hx hb dX2_villageNow_68 (by decide) ?_
        exact rR_i hx hb hr hlk dX2_villageNow_70 (by rw [vil_none (i := i + 1) (vil_no hv hb0) (by omega)]; rfl)
      · refine lv_iload_n hx hb dX2_villageNow_14 rfl (lv_at hl 2 rfl) ?_
        refine lv_if_eq (tgt := 60) hx hb dX2_villageNow_15 (by decide) (fun c0 => ?_) (fun c0 => absurd (by decide) c0)
        refine lv_iload_n hx hb dX2_villageNow_60 rfl (lv_at hl 2 rfl) ?_
        refine lv_if_eq (tgt := 68) hx hb dX2_villageNow_61 (by decide) (fun c0 => ?_) (fun c0 => absurd (by decide) c0)
        refine lv_bipush (v := (-9)) hx hb dX2_villageNow_68 (by decide) ?_
        exact rR_i hx hb hr hlk dX2_villageNow_70 (by rw [vil_none (i := i + 1) (vil_no hv hb0) (by omega)]; rfl)
    · rw [hb0] at hl
      have hl : lv_has ls 5 [(4, .int (nI b)), (3, .int (nI i)), (2, .int 1), (1, .int (nI x)), (0, .ref q)] := hl
      have hb1 : b < 2 ^ dd := bst_lt _ b hb0
      refine lv_iload hx hb dX2_villageNow_25 (lv_at hl 0 rfl) ?_
      refine lv_if_lt (tgt := 34) hx hb dX2_villageNow_27 (by decide) (fun c0 => absurd c0 (nI_pos (by omega))) (fun c0 => ?_)
      refine lv_iconst (v := 1) hx hb dX2_villageNow_30 (by decide) ?_
      refine lv_goto (tgt := 35) hx hb dX2_villageNow_31 (by decide) ?_
      refine lv_istore_n (lv' := [(2, .int 1), (4, .int (nI b)), (3, .int (nI i)), (1, .int (nI x)), (0, .ref q)]) hx hb dX2_villageNow_35 rfl hl (by decide) rfl (fun ls hl => ?_)
      refine lv_iload_n hx hb dX2_villageNow_36 rfl (lv_at hl 3 rfl) ?_
      refine lv_iload_n hx hb dX2_villageNow_37 rfl (lv_at hl 0 rfl) ?_
      refine lv_if_eq (tgt := 51) hx hb dX2_villageNow_38 (by decide) (fun c0 => absurd c0 (by decide)) (fun c0 => ?_)
      refine lv_aload_n hx hb dX2_villageNow_41 rfl (lv_at hl 4 rfl) ?_
      refine lv_iload_n hx hb dX2_villageNow_42 rfl (lv_at hl 2 rfl) ?_
      refine lv_iload hx hb dX2_villageNow_43 (lv_at hl 1 rfl) ?_
      refine callR_V (rest := [.int (nI x)]) hx hb hml hown hts KM_st hK (cM_fineOf l D d q Aq τ dd n E i b hd he (by omega) hb1) (wX2_fineOf hts ⟨Nat.le_of_ble_eq_true rfl, Nat.le_of_ble_eq_true rfl⟩) (m_recv hK hP) hP rfl hl.1 rfl (Nat.le_of_ble_eq_true rfl) dX2_villageNow_45 ⟨Nat.zero_le _, Nat.zero_le _⟩ ?_
      refine lv_goto (tgt := 52) hx hb dX2_villageNow_48 (by decide) ?_
      refine lv_iadd hx hb dX2_villageNow_52 ?_
      refine top_i (y := nI (x + fin E dd (fN (τ 3) (τ 1 0) (τ 9 0) dd) i b)) (nI_add _ _) ?_
      refine lv_istore_n (lv' := [(1, .int (nI (x + fin E dd (fN (τ 3) (τ 1 0) (τ 9 0) dd) i b))), (2, .int 1), (4, .int (nI b)), (3, .int (nI i)), (0, .ref q)]) hx hb dX2_villageNow_53 rfl hl (by decide) rfl (fun ls hl => ?_)
      refine lv_iinc (v := nI (i + 1)) (lv' := [(3, .int (nI (i + 1))), (1, .int (nI (x + fin E dd (fN (τ 3) (τ 1 0) (τ 9 0) dd) i b))), (2, .int 1), (4, .int (nI b)), (0, .ref q)]) hx hb dX2_villageNow_54 hl (k := 3) rfl (inc_nI _) (by decide) rfl (fun ls hl => ?_)
      refine lv_goto (tgt := 6) hx hb dX2_villageNow_57 (by decide) ?_
      exact ih6 (n6 - 1) (i + 1, x + fin E dd (fN (τ 3) (τ 1 0) (τ 9 0) dd) i b) ls (by omega) (⟨by omega, vil_some hv hb0⟩) ((lv_sub hl [0, 2, 1, 4] rfl))

set_option maxHeartbeats 4000000 in
set_option maxRecDepth 100000 in
theorem cM_share (l : Launch) (D : va_G) (d : Nat → ClassId) (u k : Nat) (wh : Int32) (hu0 : u < 1000) (hk0 : 0 < k) (hk1 : k < 1000) : cR l (KM D d) yX2_share cX2_share 11 (some .long) (rk 0) [.long (lN u), .long (lN k), .int wh] (fun _ => True) (.long (pShare u k wh)) := by
  refine cR_start RX2 rfl (by decide) (Nat.le_of_ble_eq_true rfl) ?_
  intro p e s m below meth c hx hb hml hown hts hr hlk hK hP ls hl
  have hl : lv_has ls 11 [(0, .long (lN u)), (2, .long (lN k)), (4, .int wh)] := hl
  refine lv_lload_n hx hb dX2_share_0 rfl (lv_at hl 0 rfl) ?_
  refine lv_lstore (lv' := [(5, .long (lN u)), (0, .long (lN u)), (2, .long (lN k)), (4, .int wh)]) hx hb dX2_share_1 hl (by decide) rfl (fun ls hl => ?_)
  refine lv_lload_n hx hb dX2_share_3 rfl (lv_at hl 2 rfl) ?_
  refine lv_lstore (lv' := [(7, .long (lN k)), (5, .long (lN u)), (0, .long (lN u)), (2, .long (lN k)), (4, .int wh)]) hx hb dX2_share_4 hl (by decide) rfl (fun ls hl => ?_)
  refine lp_R (σ := Nat × Nat) (fun n6 zz => zz.2 ≤ n6 ∧ zz.1 < 1000 ∧ zz.2 < 1000 ∧ Nat.gcd zz.1 zz.2 = Nat.gcd u k) (fun zz => [(7, .long (lN zz.2)), (5, .long (lN zz.1)), (0, .long (lN u)), (2, .long (lN k)), (4, .int wh)]) (fun n6 zz hI ih6 ls hl => ?_) k (u, k) (⟨Nat.le_refl _, by omega, by omega, rfl⟩) hl
  obtain ⟨x, y⟩ := zz
  have hI : y ≤ n6 ∧ x < 1000 ∧ y < 1000 ∧ Nat.gcd x y = Nat.gcd u k := hI
  obtain ⟨hy, hx1, hy1, hg⟩ := hI
  have hl : lv_has ls 11 [(7, .long (lN y)), (5, .long (lN x)), (0, .long (lN u)), (2, .long (lN k)), (4, .int wh)] := hl
  refine lv_lload hx hb dX2_share_6 (lv_at hl 0 rfl) ?_
  refine lv_lconst (v := 0) hx hb dX2_share_8 (by decide) ?_
  refine lc_eq (tgt := 31) hx hb dX2_share_9 dX2_share_10 (by decide) (fun c1 => ?_) (fun c1 => ?_)
  · refine lv_iload hx hb dX2_share_31 (lv_at hl 4 rfl) ?_
    refine lv_if_ne (tgt := 40) hx hb dX2_share_33 (by decide) (fun c2 => ?_) (fun c2 => ?_)
    · refine lv_lload_n hx hb dX2_share_40 rfl (lv_at hl 3 rfl) ?_
      refine lv_lload hx hb dX2_share_41 (lv_at hl 1 rfl) ?_
      refine lv_ldiv hx hb dX2_share_43 (gcd_ne0 hg hk0 hx1 c1 hy1) ?_
      exact rR_l hx hb hr hlk dX2_share_44 (by rw [pShare, if_neg c2, share_end hg (lN_0 c1) hy1])
    · refine lv_lload_n hx hb dX2_share_36 rfl (lv_at hl 2 rfl) ?_
      refine lv_goto (tgt := 41) hx hb dX2_share_37 (by decide) ?_
      refine lv_lload hx hb dX2_share_41 (lv_at hl 1 rfl) ?_
      refine lv_ldiv hx hb dX2_share_43 (gcd_ne0 hg hk0 hx1 c1 hy1) ?_
      exact rR_l hx hb hr hlk dX2_share_44 (by rw [pShare, if_pos c2, share_end hg (lN_0 c1) hy1])
  · have hym := Nat.mod_lt x (lN_pos c1)
    refine lv_lload hx hb dX2_share_13 (lv_at hl 1 rfl) ?_
    refine lv_lload hx hb dX2_share_15 (lv_at hl 0 rfl) ?_
    refine lv_lrem hx hb dX2_share_17 (lN_ne0 c1 (by omega)) ?_
    refine top_l (y := lN (x % y)) (lrem_nI c1 (by omega) (by omega)) ?_
    refine lv_lstore (lv' := [(9, .long (lN (x % y))), (7, .long (lN y)), (5, .long (lN x)), (0, .long (lN u)), (2, .long (lN k)), (4, .int wh)]) hx hb dX2_share_18 hl (by decide) rfl (fun ls hl => ?_)
    refine lv_lload hx hb dX2_share_20 (lv_at hl 1 rfl) ?_
    refine lv_lstore (lv' := [(5, .long (lN y)), (9, .long (lN (x % y))), (7, .long (lN y)), (0, .long (lN u)), (2, .long (lN k)), (4, .int wh)]) hx hb dX2_share_22 hl (by decide) rfl (fun ls hl => ?_)
    refine lv_lload hx hb dX2_share_24 (lv_at hl 1 rfl) ?_
    refine lv_lstore (lv' := [(7, .long (lN (x % y))), (5, .long (lN y)), (9, .long (lN (x % y))), (0, .long (lN u)), (2, .long (lN k)), (4, .int wh)]) hx hb dX2_share_26 hl (by decide) rfl (fun ls hl => ?_)
    refine lv_goto (tgt := 6) hx hb dX2_share_28 (by decide) ?_
    exact ih6 (n6 - 1) (y, x % y) ls (by omega) (⟨by omega, by omega, by omega, by rw [← hg]; exact (gcd_step x y).symm⟩) ((lv_sub hl [0, 1, 3, 4, 5] rfl))
