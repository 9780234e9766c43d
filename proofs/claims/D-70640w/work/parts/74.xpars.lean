/-! reading a text: signs and figures -/
theorem bm_low {y : Int} (h1 : -(2 : Int) ^ 31 - 48 ≤ y) (h2 : y < -(2 : Int) ^ 31) : y.bmod (2 ^ 32) = y + 2 ^ 32 := by
  unfold Int.bmod
  have e : ((2 ^ 32 : Nat) : Int) = 4294967296 := rfl
  rw [e]
  simp only []
  split <;> omega
theorem dig_long {x : Int32} {lo hi : Nat} (hl : lo < 100) (hh : hi < 100) : pIn (x.toInt64 - 48) (nI lo).toInt64 (nI hi).toInt64 = pIn (x - 48).toInt64 (nI lo).toInt64 (nI hi).toInt64 := by
  have h1 := Int32.le_toInt x
  have h2 := Int32.toInt_lt x
  have el : (nI lo).toInt64.toInt = (lo : Int) := by rw [Int32.toInt_toInt64]; exact Int32.toInt_ofNat_of_lt (by omega)
  have eh : (nI hi).toInt64.toInt = (hi : Int) := by rw [Int32.toInt_toInt64]; exact Int32.toInt_ofNat_of_lt (by omega)
  have e48 : (48 : Int64).toInt = 48 := rfl
  have e32 : (48 : Int32).toInt = 48 := rfl
  have ea : (x.toInt64 - 48).toInt = x.toInt - 48 := by
    rw [Int64.toInt_sub, Int32.toInt_toInt64, e48, Int.bmod_eq_of_le (by omega) (by omega)]
  simp only [pIn]
  have key : (decide ((nI lo).toInt64 ≤ x.toInt64 - 48) && decide (x.toInt64 - 48 ≤ (nI hi).toInt64)) = decide ((lo : Int) ≤ x.toInt - 48 ∧ x.toInt - 48 ≤ hi) := by
    rw [Bool.decide_and]
    congr 1 <;> (apply decide_eq_decide.mpr; rw [Int64.le_iff_toInt_le, ea]; first | rw [el] | rw [eh])
  rw [key]
  by_cases hw : -(2 : Int) ^ 31 ≤ x.toInt - 48
  · have eb : (x - 48).toInt64.toInt = x.toInt - 48 := by
      rw [Int32.toInt_toInt64, Int32.toInt_sub, e32, Int.bmod_eq_of_le (by omega) (by omega)]
    rw [Bool.decide_and]
    congr 1 <;> (apply decide_eq_decide.mpr; rw [Int64.le_iff_toInt_le, eb]; first | rw [el] | rw [eh])
  · have eb : (x - 48).toInt64.toInt = x.toInt - 48 + 2 ^ 32 := by
      rw [Int32.toInt_toInt64, Int32.toInt_sub, e32]
      exact bm_low (by omega) (by omega)
    have f1 : decide ((lo : Int) ≤ x.toInt - 48 ∧ x.toInt - 48 ≤ hi) = false := decide_eq_false (by omega)
    rw [f1]
    symm
    rw [Bool.and_eq_false_iff]
    right
    apply decide_eq_false
    rw [Int64.le_iff_toInt_le, eb, eh]
    omega
set_option maxHeartbeats 4000000 in
set_option maxRecDepth 100000 in
theorem cX_isSign (l : Launch) (D : va_G) (d : Nat → ClassId) (H00 : Heap) (B : Nat → Nat) (τ : Nat → Nat → Int32) (ea : Nat) (hs : Nat → Option Nat) (ρ : va_W) (ra jr nn a : Nat) (r : Nat → Int32) (k : Int32) (hra : ρ[jr]? = some (ra, .inl (d 0, nn, .inl r))) (h8 : τ 8 0 = nI a) (ha : a ≤ nn) (hnn : nn ≤ 60) (hk : ¬ k = -9) : cU l (KX D d) H00 D yX0_isSign cX0_isSign 3 (some .boolean) (rc 0 0 0) [.ref (B 0), .ref ra, .int k] (xw d B τ ea hs ρ) (fun r0 ws => r0 = some (.int (bI (decide (tok r nn a = k)))) ∧ ws = xw d B (if tok r nn a = k then put2 τ 8 0 (nI (a + 1)) else τ) ea hs ρ) := by
  refine cU_start RX0 rfl (by decide) (Nat.le_of_ble_eq_true rfl) ?_
  intro p e s m below meth c A hx hb hml hown hts hr hlk hnm hK hA hAN hZ hu ls hl
  have hl : lv_has ls 3 [(0, .ref (B 0)), (1, .ref ra), (2, .int k)] := hl
  have hrx : (xw d B τ ea hs ρ)[jr + 14]? = some (ra, .inl (d 0, nn, .inl r)) := hra
  refine lv_aload_n hx hb dX0_isSign_0 rfl (lv_at hl 0 rfl) ?_
  refine xg8 hx hb hts hown hK hu.1 dX0_isSign_1 ?_
  refine top_i h8 ?_
  refine lv_aload_n hx hb dX0_isSign_4 rfl (lv_at hl 1 rfl) ?_
  refine va_alen hx hb hK.1.1 hu.1 (jr + 14) 0 hrx rfl (v := nI nn) rfl dX0_isSign_5 ?_
  refine nc_eq (tgt := 19) hx hb dX0_isSign_6 (by decide) (by omega) (by omega) (fun c1 => ?_) (fun c1 => ?_)
  · have ht : ¬ tok r nn a = k := by rw [tok, if_neg (by omega)]; exact fun q => hk q.symm
    refine lv_iconst (v := 0) hx hb dX0_isSign_19 (by decide) ?_
    exact rU_z hx hb hr hlk hu dX0_isSign_20 (Nat.le_of_ble_eq_true rfl) (Nat.le_of_ble_eq_true rfl) (b := decide (tok r nn a = k)) (by rw [decide_eq_false ht]; rfl) ⟨rfl, by rw [if_neg ht]⟩
  · have hat : tok r nn a = r a := by rw [tok, if_pos (by omega)]
    refine lv_aload_n hx hb dX0_isSign_9 rfl (lv_at hl 1 rfl) ?_
    refine lv_aload_n hx hb dX0_isSign_10 rfl (lv_at hl 0 rfl) ?_
    refine xg8 hx hb hts hown hK hu.1 dX0_isSign_11 ?_
    refine top_i h8 ?_
    refine va_iald hx hb hK.1.1 hu.1 (jr + 14) 0 hrx rfl (vp_in_nI (n := a) (by omega) (by omega)) dX0_isSign_14 ?_
    rw [nI_clamp (by omega)]
    refine lv_iload_n hx hb dX0_isSign_15 rfl (lv_at hl 2 rfl) ?_
    refine lv_icmp_eq (tgt := 21) hx hb dX0_isSign_16 (by decide) (fun c2 => ?_) (fun c2 => ?_)
    · have ht : tok r nn a = k := hat.trans c2
      refine lv_aload_n hx hb dX0_isSign_21 rfl (lv_at hl 0 rfl) ?_
      refine lv_dup hx hb dX0_isSign_22 rfl ?_
      refine xg8 hx hb hts hown hK hu.1 dX0_isSign_23 ?_
      refine top_i h8 ?_
      refine lv_iconst (v := nI 1) hx hb dX0_isSign_26 (by decide) ?_
      refine lv_iadd hx hb dX0_isSign_27 ?_
      refine top_i (nI_add a 1) ?_
      refine xp8 hx hb hts hown hK hu dX0_isSign_28 (fun H locs hu => ?_)
      refine lv_iconst (v := 1) hx hb dX0_isSign_31 (by decide) ?_
      exact rU_z hx hb hr hlk hu dX0_isSign_32 (Nat.le_of_ble_eq_true rfl) (Nat.le_of_ble_eq_true rfl) (b := decide (tok r nn a = k)) (by rw [decide_eq_true ht]; rfl) ⟨rfl, by rw [if_pos ht]⟩
    · have ht : ¬ tok r nn a = k := fun q => c2 (hat.symm.trans q)
      refine lv_iconst (v := 0) hx hb dX0_isSign_19 (by decide) ?_
      exact rU_z hx hb hr hlk hu dX0_isSign_20 (Nat.le_of_ble_eq_true rfl) (Nat.le_of_ble_eq_true rfl) (b := decide (tok r nn a = k)) (by rw [decide_eq_false ht]; rfl) ⟨rfl, by rw [if_neg ht]⟩
set_option maxHeartbeats 4000000 in
set_option maxRecDepth 100000 in
theorem cX_digit (l : Launch) (D : va_G) (d : Nat → ClassId) (H00 : Heap) (B : Nat → Nat) (τ : Nat → Nat → Int32) (ea : Nat) (hs : Nat → Option Nat) (ρ : va_W) (ra jr nn a lo hi : Nat) (r : Nat → Int32) (hra : ρ[jr]? = some (ra, .inl (d 0, nn, .inl r))) (h8 : τ 8 0 = nI a) (ha : a ≤ nn) (hnn : nn ≤ 60) (hlo : lo < 100) (hhi : hi < 100) : cU l (KX D d) H00 D yX0_digit cX0_digit 4 (some .int) (rc 1 0 0) [.ref (B 0), .ref ra, .int (nI lo), .int (nI hi)] (xw d B τ ea hs ρ) (fun r0 ws => r0 = some (.int (if dig r nn a (nI lo) (nI hi) = true then r a - 48 else -9)) ∧ ws = xw d B (if dig r nn a (nI lo) (nI hi) = true then put2 τ 8 0 (nI (a + 1)) else τ) ea hs ρ) := by
  refine cU_start RX0 rfl (by decide) (Nat.le_of_ble_eq_true rfl) ?_
  intro p e s m below meth c A hx hb hml hown hts hr hlk hnm hK hA hAN hZ hu ls hl
  have hl : lv_has ls 4 [(0, .ref (B 0)), (1, .ref ra), (2, .int (nI lo)), (3, .int (nI hi))] := hl
  have hrx : (xw d B τ ea hs ρ)[jr + 14]? = some (ra, .inl (d 0, nn, .inl r)) := hra
  refine lv_aload_n hx hb dX0_digit_0 rfl (lv_at hl 0 rfl) ?_
  refine xg8 hx hb hts hown hK hu.1 dX0_digit_1 ?_
  refine top_i h8 ?_
  refine lv_aload_n hx hb dX0_digit_4 rfl (lv_at hl 1 rfl) ?_
  refine va_alen hx hb hK.1.1 hu.1 (jr + 14) 0 hrx rfl (v := nI nn) rfl dX0_digit_5 ?_
  refine nc_eq (tgt := 30) hx hb dX0_digit_6 (by decide) (by omega) (by omega) (fun c1 => ?_) (fun c1 => ?_)
  · have ht : ¬ dig r nn a (nI lo) (nI hi) = true := fun q => by have := (dig_lt hlo q).1; omega
    refine lv_bipush (v := -9) hx hb dX0_digit_30 (by decide) ?_
    exact rU_i hx hb hr hlk hu dX0_digit_32 (Nat.le_of_ble_eq_true rfl) (Nat.le_of_ble_eq_true rfl) ⟨by rw [if_neg ht], by rw [if_neg ht]⟩
  · have hat : tok r nn a = r a := by rw [tok, if_pos (by omega)]
    refine lv_aload_n hx hb dX0_digit_9 rfl (lv_at hl 1 rfl) ?_
    refine lv_aload_n hx hb dX0_digit_10 rfl (lv_at hl 0 rfl) ?_
    refine xg8 hx hb hts hown hK hu.1 dX0_digit_11 ?_
    refine top_i h8 ?_
    refine va_iald hx hb hK.1.1 hu.1 (jr + 14) 0 hrx rfl (vp_in_nI (n := a) (by omega) (by omega)) dX0_digit_14 ?_
    rw [nI_clamp (by omega)]
    refine lv_i2l (v := (r a).toInt64) hx hb dX0_digit_15 rfl ?_
    refine lv_ldc2 (v := 48) hx hb hown (hts _ q390) dX0_digit_16 ?_
    refine lv_lsub hx hb dX0_digit_19 ?_
    refine lv_iload_n hx hb dX0_digit_20 rfl (lv_at hl 2 rfl) ?_
    refine lv_i2l (v := (nI lo).toInt64) hx hb dX0_digit_21 rfl ?_
    refine lv_iload_n hx hb dX0_digit_22 rfl (lv_at hl 3 rfl) ?_
    refine lv_i2l (v := (nI hi).toInt64) hx hb dX0_digit_23 rfl ?_
    refine callR_S (rest := []) hx hb hml hown hts KX_st hK (cX_isIn l D d ((r a).toInt64 - 48) (nI lo).toInt64 (nI hi).toInt64) (wX0_isIn hts ⟨Nat.le_of_ble_eq_true rfl, Nat.le_of_ble_eq_true rfl⟩) trivial rfl hl.1 rfl (Nat.le_of_ble_eq_true rfl) dX0_digit_24 ⟨Nat.le_of_ble_eq_true rfl, Nat.le_of_ble_eq_true rfl⟩ ?_
    refine top_i (y := bI (dig r nn a (nI lo) (nI hi))) (by rw [dig_long hlo hhi, dig, hat]) ?_
    refine bz_ne (tgt := 33) hx hb dX0_digit_27 (by decide) (fun c2 => ?_) (fun c2 => ?_)
    · refine lv_aload_n hx hb dX0_digit_33 rfl (lv_at hl 0 rfl) ?_
      refine lv_dup hx hb dX0_digit_34 rfl ?_
      refine xg8 hx hb hts hown hK hu.1 dX0_digit_35 ?_
      refine top_i h8 ?_
      refine lv_iconst (v := nI 1) hx hb dX0_digit_38 (by decide) ?_
      refine lv_iadd hx hb dX0_digit_39 ?_
      refine top_i (nI_add a 1) ?_
      refine xp8 hx hb hts hown hK hu dX0_digit_40 (fun H locs hu => ?_)
      refine lv_aload_n hx hb dX0_digit_43 rfl (lv_at hl 1 rfl) ?_
      refine lv_aload_n hx hb dX0_digit_44 rfl (lv_at hl 0 rfl) ?_
      refine xg8 hx hb hts hown hK hu.1 dX0_digit_45 ?_
      refine top_i (y := nI (a + 1)) rfl ?_
      refine lv_iconst (v := nI 1) hx hb dX0_digit_48 (by decide) ?_
      refine lv_isub hx hb dX0_digit_49 ?_
      refine top_i (y := nI a) (pk_sub (a := a + 1) (b := 1) (by omega)) ?_
      refine va_iald hx hb hK.1.1 hu.1 (jr + 14) 0 (show (xw d B (put2 τ 8 0 (nI (a + 1))) ea hs ρ)[jr + 14]? = some (ra, .inl (d 0, nn, .inl r)) from hra) rfl (vp_in_nI (n := a) (by omega) (by omega)) dX0_digit_50 ?_
      rw [nI_clamp (by omega)]
      refine lv_bipush (v := 48) hx hb dX0_digit_51 (by decide) ?_
      refine lv_isub hx hb dX0_digit_53 ?_
      exact rU_i hx hb hr hlk hu dX0_digit_54 (Nat.le_of_ble_eq_true rfl) (Nat.le_of_ble_eq_true rfl) ⟨by rw [if_pos c2], by rw [if_pos c2]⟩
    · refine lv_bipush (v := -9) hx hb dX0_digit_30 (by decide) ?_
      exact rU_i hx hb hr hlk hu dX0_digit_32 (Nat.le_of_ble_eq_true rfl) (Nat.le_of_ble_eq_true rfl) ⟨by rw [if_neg (bf_nt c2)], by rw [if_neg (bf_nt c2)]⟩
