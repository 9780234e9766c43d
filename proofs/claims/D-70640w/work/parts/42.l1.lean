/-! the ArrayList: size and get -/
set_option maxHeartbeats 4000000 in
set_option maxRecDepth 100000 in
theorem cP_checkIndex (l : Launch) (D : va_G) (d : Nat → ClassId) (a n : Nat) (han : a < n) (hn : n < 100) : cR l (KX D d) yJ16_checkIndex cJ16_checkIndex 3 (some .int) (rk 0) [.int (nI a), .int (nI n), .null] (fun _ => True) (.int (nI a)) := by
  refine cR_start RJ16 rfl (by decide) (Nat.le_of_ble_eq_true rfl) ?_
  intro p e s m below meth c hx hb hml hown hts hr hlk hK hP ls hl
  have hl : lv_has ls 3 [(0, .int (nI a)), (1, .int (nI n)), (2, .null)] := hl
  refine lv_iload_n hx hb dJ16_checkIndex_0 rfl (lv_at hl 0 rfl) ?_
  refine lv_if_lt (tgt := 9) hx hb dJ16_checkIndex_1 (by decide) (fun c0 => absurd c0 (nI_pos (by omega))) (fun c0 => ?_)
  refine lv_iload_n hx hb dJ16_checkIndex_4 rfl (lv_at hl 0 rfl) ?_
  refine lv_iload_n hx hb dJ16_checkIndex_5 rfl (lv_at hl 1 rfl) ?_
  refine nc_lt (tgt := 16) hx hb dJ16_checkIndex_6 (by decide) (by omega) (by omega) (fun _ => ?_) (fun c0 => absurd han (Nat.not_lt.mpr c0))
  refine lv_iload_n hx hb dJ16_checkIndex_16 rfl (lv_at hl 0 rfl) ?_
  exact rR_i hx hb hr hlk dJ16_checkIndex_17 (rfl)

set_option maxHeartbeats 4000000 in
set_option maxRecDepth 100000 in
theorem cO_checkIndex (l : Launch) (D : va_G) (d : Nat → ClassId) (a n : Nat) (han : a < n) (hn : n < 100) : cR l (KX D d) yJ15_checkIndex cJ15_checkIndex 2 (some .int) (rk 1) [.int (nI a), .int (nI n)] (fun _ => True) (.int (nI a)) := by
  refine cR_start RJ15 rfl (by decide) (Nat.le_of_ble_eq_true rfl) ?_
  intro p e s m below meth c hx hb hml hown hts hr hlk hK hP ls hl
  have hl : lv_has ls 2 [(0, .int (nI a)), (1, .int (nI n))] := hl
  refine lv_iload_n hx hb dJ15_checkIndex_0 rfl (lv_at hl 0 rfl) ?_
  refine lv_iload_n hx hb dJ15_checkIndex_1 rfl (lv_at hl 1 rfl) ?_
  refine lv_null hx hb dJ15_checkIndex_2 ?_
  refine callR_S (rest := []) hx hb hml hown hts KX_st hK (cP_checkIndex l D d a n han hn) (wJ16_checkIndex hts ⟨Nat.le_of_ble_eq_true rfl, Nat.le_of_ble_eq_true rfl⟩) trivial rfl hl.1 rfl (Nat.le_of_ble_eq_true rfl) dJ15_checkIndex_3 ⟨Nat.zero_le _, Nat.zero_le _⟩ ?_
  exact rR_i hx hb hr hlk dJ15_checkIndex_6 (rfl)

set_option maxHeartbeats 4000000 in
set_option maxRecDepth 100000 in
theorem cL_size (l : Launch) (D : va_G) (d : Nat → ClassId) (B : Nat → Nat) (τ : Nat → Nat → Int32) (ea : Nat) (hs : Nat → Option Nat) (ρ : va_W) (n : Nat) (h21 : τ 21 0 = nI n) : cR l (KX D d) yJ2_size cJ2_size 1 (some .int) (rk 0) [.ref (B 1)] (va_P D vwCl (xw d B τ ea hs ρ)) (.int (nI n)) := by
  refine cR_start RJ2 rfl (by decide) (Nat.le_of_ble_eq_true rfl) ?_
  intro p e s m below meth c hx hb hml hown hts hr hlk hK hP ls hl
  have hl : lv_has ls 1 [(0, .ref (B 1))] := hl
  refine lv_aload_n hx hb dJ2_size_0 rfl (lv_at hl 0 rfl) ?_
  refine lg2 hx hb hts hown hK hP dJ2_size_1 ?_
  refine top_i (y := nI n) (h21) ?_
  exact rR_i hx hb hr hlk dJ2_size_4 (rfl)

set_option maxHeartbeats 4000000 in
set_option maxRecDepth 100000 in
theorem cL_elementData (l : Launch) (D : va_G) (d : Nat → ClassId) (B : Nat → Nat) (τ : Nat → Nat → Int32) (ea : Nat) (hs : Nat → Option Nat) (ρ : va_W) (a fa je : Nat) (f : Nat → Option Nat) (hea : (xw d B τ ea hs ρ)[je]? = some (ea, .inl (d 4, 10, .inr (.inr (.inr (.inr f)))))) (hfa : f a = some fa) (ha10 : a < 10) : cR l (KX D d) yJ2_elementData cJ2_elementData 2 (some (.object "java/lang/Object")) (rk 0) [.ref (B 1), .int (nI a)] (va_P D vwCl (xw d B τ ea hs ρ)) (.ref fa) := by
  refine cR_start RJ2 rfl (by decide) (Nat.le_of_ble_eq_true rfl) ?_
  intro p e s m below meth c hx hb hml hown hts hr hlk hK hP ls hl
  have hl : lv_has ls 2 [(0, .ref (B 1)), (1, .int (nI a))] := hl
  refine lv_aload_n hx hb dJ2_elementData_0 rfl (lv_at hl 0 rfl) ?_
  refine lg1 hx hb hts hown hK hP dJ2_elementData_1 ?_
  refine lv_iload_n hx hb dJ2_elementData_4 rfl (lv_at hl 1 rfl) ?_
  refine va_aldq hx hb hK.1.1 hP je 4 hea rfl (vp_in_nI (show a < 10 by omega) (by decide)) dJ2_elementData_5 ?_
  rw [nI_clamp (by omega), hfa]
  exact rR_a hx hb hr (Or.inl ⟨_, rfl⟩) hlk dJ2_elementData_6 (rfl)

set_option maxHeartbeats 4000000 in
set_option maxRecDepth 100000 in
theorem cL_get (l : Launch) (D : va_G) (d : Nat → ClassId) (B : Nat → Nat) (τ : Nat → Nat → Int32) (ea : Nat) (hs : Nat → Option Nat) (ρ : va_W) (a n fa je : Nat) (f : Nat → Option Nat) (hea : (xw d B τ ea hs ρ)[je]? = some (ea, .inl (d 4, 10, .inr (.inr (.inr (.inr f)))))) (hfa : f a = some fa) (ha10 : a < 10) (h21 : τ 21 0 = nI n) (han : a < n) (hn : n < 100) : cR l (KX D d) yJ2_get cJ2_get 2 (some (.object "java/lang/Object")) (rk 2) [.ref (B 1), .int (nI a)] (va_P D vwCl (xw d B τ ea hs ρ)) (.ref fa) := by
  refine cR_start RJ2 rfl (by decide) (Nat.le_of_ble_eq_true rfl) ?_
  intro p e s m below meth c hx hb hml hown hts hr hlk hK hP ls hl
  have hl : lv_has ls 2 [(0, .ref (B 1)), (1, .int (nI a))] := hl
  refine lv_iload_n hx hb dJ2_get_0 rfl (lv_at hl 1 rfl) ?_
  refine lv_aload_n hx hb dJ2_get_1 rfl (lv_at hl 0 rfl) ?_
  refine lg2 hx hb hts hown hK hP dJ2_get_2 ?_
  refine top_i (y := nI n) (h21) ?_
  refine callR_S (rest := []) hx hb hml hown hts KX_st hK (cO_checkIndex l D d a n han hn) (wJ15_checkIndex hts ⟨Nat.le_of_ble_eq_true rfl, Nat.le_of_ble_eq_true rfl⟩) trivial rfl hl.1 rfl (Nat.le_of_ble_eq_true rfl) dJ2_get_5 ⟨Nat.zero_le _, Nat.zero_le _⟩ ?_
  refine lv_pop hx hb dJ2_get_8 rfl ?_
  refine lv_aload_n hx hb dJ2_get_9 rfl (lv_at hl 0 rfl) ?_
  refine lv_iload_n hx hb dJ2_get_10 rfl (lv_at hl 1 rfl) ?_
  refine callR_V (rest := []) hx hb hml hown hts KX_st hK (cL_elementData l D d B τ ea hs ρ a fa je f hea hfa ha10) (wJ2_elementData hts ⟨Nat.le_of_ble_eq_true rfl, Nat.le_of_ble_eq_true rfl⟩) (l_recv hK hP) hP rfl hl.1 rfl (Nat.le_of_ble_eq_true rfl) dJ2_get_11 ⟨Nat.zero_le _, Nat.zero_le _⟩ ?_
  exact rR_a hx hb hr (Or.inl ⟨_, rfl⟩) hlk dJ2_get_14 (rfl)
