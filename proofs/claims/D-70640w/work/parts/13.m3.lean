/-! the Model: calls that change it -/
set_option maxHeartbeats 4000000 in
set_option maxRecDepth 100000 in
theorem cM_refused (l : Launch) (D : va_G) (d : Nat → ClassId) (H00 : Heap) (q : Nat) (Aq : Nat → Nat) (τ : Nat → Nat → Int32) (k : Int32) : cU l (KM D d) H00 D yX2_refused cX2_refused 2 (some .int) (rc 0 0 0) [.ref q, .int k] (mw d q Aq τ) (fun r0 ws => r0 = some (.int k) ∧ ws = mw d q Aq (put2 τ 0 0 0)) := by
  refine cU_start RX2 rfl (by decide) (Nat.le_of_ble_eq_true rfl) ?_
  intro p e s m below meth c A hx hb hml hown hts hr hlk hnm hK hA hAN hZ hu ls hl
  have hl : lv_has ls 2 [(0, .ref q), (1, .int k)] := hl
  refine lv_aload_n hx hb dX2_refused_0 rfl (lv_at hl 0 rfl) ?_
  refine lv_iconst (v := 0) hx hb dX2_refused_1 (by decide) ?_
  refine mp0 hx hb hts hown hK hu dX2_refused_2 (fun H locs hu => ?_)
  refine lv_iload_n hx hb dX2_refused_5 rfl (lv_at hl 1 rfl) ?_
  exact rU_i hx hb hr hlk hu dX2_refused_6 (Nat.le_of_ble_eq_true rfl) (Nat.le_of_ble_eq_true rfl) (⟨rfl, rfl⟩)

set_option maxHeartbeats 4000000 in
set_option maxRecDepth 100000 in
theorem cM_failed (l : Launch) (D : va_G) (d : Nat → ClassId) (H00 : Heap) (q : Nat) (Aq : Nat → Nat) (τ : Nat → Nat → Int32) (k : Int32) : cU l (KM D d) H00 D yX2_failed cX2_failed 2 (some .int) (rc 0 0 0) [.ref q, .int k] (mw d q Aq τ) (fun r0 ws => r0 = some (.int ((-10) - k)) ∧ ws = mw d q Aq (put2 τ 0 0 k)) := by
  refine cU_start RX2 rfl (by decide) (Nat.le_of_ble_eq_true rfl) ?_
  intro p e s m below meth c A hx hb hml hown hts hr hlk hnm hK hA hAN hZ hu ls hl
  have hl : lv_has ls 2 [(0, .ref q), (1, .int k)] := hl
  refine lv_aload_n hx hb dX2_failed_0 rfl (lv_at hl 0 rfl) ?_
  refine lv_iload_n hx hb dX2_failed_1 rfl (lv_at hl 1 rfl) ?_
  refine mp0 hx hb hts hown hK hu dX2_failed_2 (fun H locs hu => ?_)
  refine lv_bipush (v := (-10)) hx hb dX2_failed_5 (by decide) ?_
  refine lv_iload_n hx hb dX2_failed_7 rfl (lv_at hl 1 rfl) ?_
  refine lv_isub hx hb dX2_failed_8 ?_
  exact rU_i hx hb hr hlk hu dX2_failed_9 (Nat.le_of_ble_eq_true rfl) (Nat.le_of_ble_eq_true rfl) (⟨rfl, rfl⟩)

set_option maxHeartbeats 4000000 in
set_option maxRecDepth 100000 in
theorem cM_failedLong (l : Launch) (D : va_G) (d : Nat → ClassId) (H00 : Heap) (q : Nat) (Aq : Nat → Nat) (τ : Nat → Nat → Int32) (k : Int32) : cU l (KM D d) H00 D yX2_failedLong cX2_failedLong 2 (some .long) (rc 1 0 0) [.ref q, .int k] (mw d q Aq τ) (fun r0 ws => r0 = some (.long LOSTv) ∧ ws = mw d q Aq (put2 τ 0 0 k)) := by
  refine cU_start RX2 rfl (by decide) (Nat.le_of_ble_eq_true rfl) ?_
  intro p e s m below meth c A hx hb hml hown hts hr hlk hnm hK hA hAN hZ hu ls hl
  have hl : lv_has ls 2 [(0, .ref q), (1, .int k)] := hl
  refine lv_aload_n hx hb dX2_failedLong_0 rfl (lv_at hl 0 rfl) ?_
  refine lv_iload_n hx hb dX2_failedLong_1 rfl (lv_at hl 1 rfl) ?_
  refine mp0 hx hb hts hown hK hu dX2_failedLong_2 (fun H locs hu => ?_)
  refine callR_S (rest := []) hx hb hml hown hts KM_st hK (cM_lost l D d) (wX2_lost hts ⟨Nat.le_of_ble_eq_true rfl, Nat.le_of_ble_eq_true rfl⟩) trivial rfl hl.1 rfl (Nat.le_of_ble_eq_true rfl) dX2_failedLong_5 ⟨Nat.le_of_ble_eq_true rfl, Nat.le_of_ble_eq_true rfl⟩ ?_
  exact rU_l hx hb hr hlk hu dX2_failedLong_8 (Nat.le_of_ble_eq_true rfl) (Nat.le_of_ble_eq_true rfl) (⟨rfl, rfl⟩)

set_option maxHeartbeats 4000000 in
set_option maxRecDepth 100000 in
theorem cM_traced (l : Launch) (D : va_G) (d : Nat → ClassId) (H00 : Heap) (q : Nat) (Aq : Nat → Nat) (τ : Nat → Nat → Int32) (k : Int32) : cU l (KM D d) H00 D yX2_traced cX2_traced 2 none (rc 0 0 0) [.ref q, .int k] (mw d q Aq τ) (fun r0 ws => r0 = none ∧ ws = mw d q Aq (put2 τ 28 0 (31 * τ 28 0 + k))) := by
  refine cU_start RX2 rfl (by decide) (Nat.le_of_ble_eq_true rfl) ?_
  intro p e s m below meth c A hx hb hml hown hts hr hlk hnm hK hA hAN hZ hu ls hl
  have hl : lv_has ls 2 [(0, .ref q), (1, .int k)] := hl
  refine lv_aload_n hx hb dX2_traced_0 rfl (lv_at hl 0 rfl) ?_
  refine lv_bipush (v := 31) hx hb dX2_traced_1 (by decide) ?_
  refine lv_aload_n hx hb dX2_traced_3 rfl (lv_at hl 0 rfl) ?_
  refine mg28 hx hb hts hown hK hu.1 dX2_traced_4 ?_
  refine lv_imul hx hb dX2_traced_7 ?_
  refine lv_iload_n hx hb dX2_traced_8 rfl (lv_at hl 1 rfl) ?_
  refine lv_iadd hx hb dX2_traced_9 ?_
  refine lv_topi (fun x1 ex1 => ?_)
  refine mp28 hx hb hts hown hK hu dX2_traced_10 (fun H locs hu => ?_)
  exact rU_v hx hb hr hlk hu dX2_traced_13 (Nat.le_of_ble_eq_true rfl) (Nat.le_of_ble_eq_true rfl) (⟨rfl, by rw [ex1]⟩)

set_option maxHeartbeats 4000000 in
set_option maxRecDepth 100000 in
theorem cM_pull (l : Launch) (D : va_G) (d : Nat → ClassId) (H00 : Heap) (q : Nat) (Aq : Nat → Nat) (τ : Nat → Nat → Int32) (σ : ASt) (x v : Int32) (hm : mRep σ τ)  : cU l (KM D d) H00 D yX2_pull cX2_pull 4 (some .int) (rc 2 0 0) [.ref q, .int x, .int v] (mw d q Aq τ) (mPost d q Aq (some (.int (f_pull σ x v).1)) (f_pull σ x v).2) := by
  refine cU_start RX2 rfl (by decide) (Nat.le_of_ble_eq_true rfl) ?_
  intro p e s m below meth c A hx hb hml hown hts hr hlk hnm hK hA hAN hZ hu ls hl
  have hl : lv_has ls 4 [(0, .ref q), (1, .int x), (2, .int v)] := hl
  have hok := hm.ok
  have hD6 : aD σ ≤ 6 := hok.1
  have hE4 : aE σ ≤ 4 := hok.2.1
  have h64 := pow6 hD6
  have hd := hm.day
  have he := hm.eat
  refine lv_aload_n hx hb dX2_pull_0 rfl (lv_at hl 0 rfl) ?_
  refine lv_iload_n hx hb dX2_pull_1 rfl (lv_at hl 1 rfl) ?_
  refine callR_V (rest := []) hx hb hml hown hts KM_st hK (cM_noDay l D d q Aq τ x) (wX2_noDay hts ⟨Nat.le_of_ble_eq_true rfl, Nat.le_of_ble_eq_true rfl⟩) (m_recv hK hu.1) hu.1 rfl hl.1 rfl (Nat.le_of_ble_eq_true rfl) dX2_pull_2 ⟨Nat.le_of_ble_eq_true rfl, Nat.le_of_ble_eq_true rfl⟩ ?_
  refine top_i (hm.isD x) ?_
  refine bzn_eq (tgt := 10) hx hb dX2_pull_5 (by decide) (fun c1 => ?_) (fun c1 => ?_)
  · obtain ⟨jx, hjx, ej⟩ := isD_ix hok c1
    subst ej
    have ejx : ix (nI jx) = jx := nI_clamp (by omega)
    refine lv_iload_n hx hb dX2_pull_10 rfl (lv_at hl 2 rfl) ?_
    refine lv_i2l (v := v.toInt64) hx hb dX2_pull_11 rfl ?_
    refine lv_lconst (v := 0) hx hb dX2_pull_12 (by decide) ?_
    refine lv_ldc2 (v := 9) hx hb hown (hts _ q1063) dX2_pull_13 ?_
    refine callR_S (rest := []) hx hb hml hown hts KM_st hK (cM_in l D d v.toInt64 0 9) (wX2_in hts ⟨Nat.le_of_ble_eq_true rfl, Nat.le_of_ble_eq_true rfl⟩) trivial rfl hl.1 rfl (Nat.le_of_ble_eq_true rfl) dX2_pull_16 ⟨Nat.le_of_ble_eq_true rfl, Nat.le_of_ble_eq_true rfl⟩ ?_
    refine bz_ne (tgt := 25) hx hb dX2_pull_19 (by decide) (fun c2 => ?_) (fun c2 => ?_)
    · refine lv_aload_n hx hb dX2_pull_25 rfl (lv_at hl 0 rfl) ?_
      refine mg3 hx hb hts hown hK hu.1 dX2_pull_26 ?_
      refine lv_iload_n hx hb dX2_pull_29 rfl (lv_at hl 1 rfl) ?_
      refine ma3 hx hb hK hu.1 (by omega) dX2_pull_30 ?_
      refine top_i (y := aL σ jx) (hm.look jx hjx) ?_
      refine lv_istore_n (lv' := [(3, .int (aL σ jx)), (0, .ref q), (1, .int (nI jx)), (2, .int v)]) hx hb dX2_pull_31 rfl hl (by decide) rfl (fun ls hl => ?_)
      refine lv_aload_n hx hb dX2_pull_32 rfl (lv_at hl 1 rfl) ?_
      refine mg3 hx hb hts hown hK hu.1 dX2_pull_33 ?_
      refine lv_iload_n hx hb dX2_pull_36 rfl (lv_at hl 2 rfl) ?_
      refine lv_iload_n hx hb dX2_pull_37 rfl (lv_at hl 3 rfl) ?_
      refine ms3 hx hb hK hu (by omega) dX2_pull_38 (fun H locs hu => ?_)
      refine lv_iload_n hx hb dX2_pull_39 rfl (lv_at hl 0 rfl) ?_
      exact rU_i hx hb hr hlk hu dX2_pull_40 (Nat.le_of_ble_eq_true rfl) (Nat.le_of_ble_eq_true rfl) (by rw [show f_pull σ (nI jx) v = (aL σ jx, uL σ jx v) from by rw [f_pull, if_neg (bt_nf c1), if_neg (bt_nf c2)] <;> simp only [ejx]]; exact ⟨rfl, _, rfl, mRep_look hm jx v⟩)
    · refine lv_bipush (v := (-2)) hx hb dX2_pull_22 (by decide) ?_
      exact rU_i hx hb hr hlk hu dX2_pull_24 (Nat.le_of_ble_eq_true rfl) (Nat.le_of_ble_eq_true rfl) (by rw [show f_pull σ (nI jx) v = ((-2), σ) from by rw [f_pull, if_neg (bt_nf c1), if_pos c2] <;> simp only [ejx]]; exact ⟨rfl, _, rfl, hm⟩)
  · refine lv_iconst (v := (-1)) hx hb dX2_pull_8 (by decide) ?_
    exact rU_i hx hb hr hlk hu dX2_pull_9 (Nat.le_of_ble_eq_true rfl) (Nat.le_of_ble_eq_true rfl) (by rw [show f_pull σ x v = ((-1), σ) from by rw [f_pull, if_pos c1]]; exact ⟨rfl, _, rfl, hm⟩)

set_option maxHeartbeats 4000000 in
set_option maxRecDepth 100000 in
theorem cM_sour (l : Launch) (D : va_G) (d : Nat → ClassId) (H00 : Heap) (q : Nat) (Aq : Nat → Nat) (τ : Nat → Nat → Int32) (σ : ASt) (v : Int32) (hm : mRep σ τ)  : cU l (KM D d) H00 D yX2_sour cX2_sour 3 (some .int) (rc 1 0 0) [.ref q, .int v] (mw d q Aq τ) (mPost d q Aq (some (.int (f_sour σ v).1)) (f_sour σ v).2) := by
  refine cU_start RX2 rfl (by decide) (Nat.le_of_ble_eq_true rfl) ?_
  intro p e s m below meth c A hx hb hml hown hts hr hlk hnm hK hA hAN hZ hu ls hl
  have hl : lv_has ls 3 [(0, .ref q), (1, .int v)] := hl
  have hok := hm.ok
  have hD6 : aD σ ≤ 6 := hok.1
  have hE4 : aE σ ≤ 4 := hok.2.1
  have h64 := pow6 hD6
  have hd := hm.day
  have he := hm.eat
  refine lv_iload_n hx hb dX2_sour_0 rfl (lv_at hl 1 rfl) ?_
  refine lv_i2l (v := v.toInt64) hx hb dX2_sour_1 rfl ?_
  refine lv_lconst (v := 0) hx hb dX2_sour_2 (by decide) ?_
  refine lv_ldc2 (v := 9) hx hb hown (hts _ q1063) dX2_sour_3 ?_
  refine callR_S (rest := []) hx hb hml hown hts KM_st hK (cM_in l D d v.toInt64 0 9) (wX2_in hts ⟨Nat.le_of_ble_eq_true rfl, Nat.le_of_ble_eq_true rfl⟩) trivial rfl hl.1 rfl (Nat.le_of_ble_eq_true rfl) dX2_sour_6 ⟨Nat.le_of_ble_eq_true rfl, Nat.le_of_ble_eq_true rfl⟩ ?_
  refine bz_ne (tgt := 15) hx hb dX2_sour_9 (by decide) (fun c1 => ?_) (fun c1 => ?_)
  · refine lv_aload_n hx hb dX2_sour_15 rfl (lv_at hl 0 rfl) ?_
    refine mg4 hx hb hts hown hK hu.1 dX2_sour_16 ?_
    refine top_i (y := nI (aE σ)) (hm.eat.2.1) ?_
    refine nz_ne (tgt := 25) hx hb dX2_sour_19 (by decide) (by omega) (fun c2 => ?_) (fun c2 => ?_)
    · refine lv_aload_n hx hb dX2_sour_25 rfl (lv_at hl 0 rfl) ?_
      refine mg1 hx hb hts hown hK hu.1 dX2_sour_26 ?_
      refine top_i (y := aI σ 2) (hm.sour) ?_
      refine lv_istore_n (lv' := [(2, .int (aI σ 2)), (0, .ref q), (1, .int v)]) hx hb dX2_sour_29 rfl hl (by decide) rfl (fun ls hl => ?_)
      refine lv_aload_n hx hb dX2_sour_30 rfl (lv_at hl 1 rfl) ?_
      refine lv_iload_n hx hb dX2_sour_31 rfl (lv_at hl 2 rfl) ?_
      refine mp1 hx hb hts hown hK hu dX2_sour_32 (fun H locs hu => ?_)
      refine lv_iload_n hx hb dX2_sour_35 rfl (lv_at hl 0 rfl) ?_
      exact rU_i hx hb hr hlk hu dX2_sour_36 (Nat.le_of_ble_eq_true rfl) (Nat.le_of_ble_eq_true rfl) (by rw [show f_sour σ v = (aI σ 2, uI σ 2 v) from by rw [f_sour, if_neg (bt_nf c1), if_neg c2]]; exact ⟨rfl, _, rfl, mRep_sour hm v⟩)
    · refine lv_bipush (v := (-3)) hx hb dX2_sour_22 (by decide) ?_
      exact rU_i hx hb hr hlk hu dX2_sour_24 (Nat.le_of_ble_eq_true rfl) (Nat.le_of_ble_eq_true rfl) (by rw [show f_sour σ v = ((-3), σ) from by rw [f_sour, if_neg (bt_nf c1), if_pos c2]]; exact ⟨rfl, _, rfl, hm⟩)
  · refine lv_bipush (v := (-2)) hx hb dX2_sour_12 (by decide) ?_
    exact rU_i hx hb hr hlk hu dX2_sour_14 (Nat.le_of_ble_eq_true rfl) (Nat.le_of_ble_eq_true rfl) (by rw [show f_sour σ v = ((-2), σ) from by rw [f_sour, if_pos c1]]; exact ⟨rfl, _, rfl, hm⟩)

set_option maxHeartbeats 4000000 in
set_option maxRecDepth 100000 in
theorem cM_crave (l : Launch) (D : va_G) (d : Nat → ClassId) (H00 : Heap) (q : Nat) (Aq : Nat → Nat) (τ : Nat → Nat → Int32) (σ : ASt) (x v : Int32) (hm : mRep σ τ)  : cU l (KM D d) H00 D yX2_crave cX2_crave 4 (some .int) (rc 2 0 0) [.ref q, .int x, .int v] (mw d q Aq τ) (mPost d q Aq (some (.int (f_crave σ x v).1)) (f_crave σ x v).2) := by
  refine cU_start RX2 rfl (by decide) (Nat.le_of_ble_eq_true rfl) ?_
  intro p e s m below meth c A hx hb hml hown hts hr hlk hnm hK hA hAN hZ hu ls hl
  have hl : lv_has ls 4 [(0, .ref q), (1, .int x), (2, .int v)] := hl
  have hok := hm.ok
  have hD6 : aD σ ≤ 6 := hok.1
  have hE4 : aE σ ≤ 4 := hok.2.1
  have h64 := pow6 hD6
  have hd := hm.day
  have he := hm.eat
  refine lv_aload_n hx hb dX2_crave_0 rfl (lv_at hl 0 rfl) ?_
  refine lv_iload_n hx hb dX2_crave_1 rfl (lv_at hl 1 rfl) ?_
  refine callR_V (rest := []) hx hb hml hown hts KM_st hK (cM_noEater l D d q Aq τ x) (wX2_noEater hts ⟨Nat.le_of_ble_eq_true rfl, Nat.le_of_ble_eq_true rfl⟩) (m_recv hK hu.1) hu.1 rfl hl.1 rfl (Nat.le_of_ble_eq_true rfl) dX2_crave_2 ⟨Nat.le_of_ble_eq_true rfl, Nat.le_of_ble_eq_true rfl⟩ ?_
  refine top_i (hm.isE x) ?_
  refine bzn_eq (tgt := 10) hx hb dX2_crave_5 (by decide) (fun c1 => ?_) (fun c1 => ?_)
  · obtain ⟨jx, hjx, ej⟩ := isE_ix hok c1
    subst ej
    have ejx : ix (nI jx) = jx := nI_clamp (by omega)
    refine lv_iload_n hx hb dX2_crave_10 rfl (lv_at hl 2 rfl) ?_
    refine lv_i2l (v := v.toInt64) hx hb dX2_crave_11 rfl ?_
    refine lv_lconst (v := 0) hx hb dX2_crave_12 (by decide) ?_
    refine lv_ldc2 (v := 6) hx hb hown (hts _ q1072) dX2_crave_13 ?_
    refine callR_S (rest := []) hx hb hml hown hts KM_st hK (cM_in l D d v.toInt64 0 6) (wX2_in hts ⟨Nat.le_of_ble_eq_true rfl, Nat.le_of_ble_eq_true rfl⟩) trivial rfl hl.1 rfl (Nat.le_of_ble_eq_true rfl) dX2_crave_16 ⟨Nat.le_of_ble_eq_true rfl, Nat.le_of_ble_eq_true rfl⟩ ?_
    refine bz_ne (tgt := 25) hx hb dX2_crave_19 (by decide) (fun c2 => ?_) (fun c2 => ?_)
    · obtain ⟨jv, hjv, ej⟩ := pIn_k (k := 6) (by decide) (by decide) c2
      subst ej
      have ejv : ix (nI jv) = jv := nI_clamp (by omega)
      refine lv_aload_n hx hb dX2_crave_25 rfl (lv_at hl 0 rfl) ?_
      refine mg8 hx hb hts hown hK hu.1 dX2_crave_26 ?_
      refine lv_iload_n hx hb dX2_crave_29 rfl (lv_at hl 1 rfl) ?_
      refine ma8 hx hb hK hu.1 (by omega) dX2_crave_30 ?_
      refine top_i (y := nI (aN σ 3 jx)) ((he.2.2 jx hjx).2.2.2.1) ?_
      refine lv_istore_n (lv' := [(3, .int (nI (aN σ 3 jx))), (0, .ref q), (1, .int (nI jx)), (2, .int (nI jv))]) hx hb dX2_crave_31 rfl hl (by decide) rfl (fun ls hl => ?_)
      refine lv_aload_n hx hb dX2_crave_32 rfl (lv_at hl 1 rfl) ?_
      refine mg8 hx hb hts hown hK hu.1 dX2_crave_33 ?_
      refine lv_iload_n hx hb dX2_crave_36 rfl (lv_at hl 2 rfl) ?_
      refine lv_iload_n hx hb dX2_crave_37 rfl (lv_at hl 3 rfl) ?_
      refine ms8 hx hb hK hu (by omega) dX2_crave_38 (fun H locs hu => ?_)
      refine lv_iload_n hx hb dX2_crave_39 rfl (lv_at hl 0 rfl) ?_
      exact rU_i hx hb hr hlk hu dX2_crave_40 (Nat.le_of_ble_eq_true rfl) (Nat.le_of_ble_eq_true rfl) (by rw [show f_crave σ (nI jx) (nI jv) = (nI (aN σ 3 jx), uN σ 3 jx jv) from by rw [f_crave, if_neg (bt_nf c1), if_neg (bt_nf c2)] <;> simp only [ejx, ejv]]; exact ⟨rfl, _, rfl, mRep_need hm jx (by omega)⟩)
    · refine lv_bipush (v := (-2)) hx hb dX2_crave_22 (by decide) ?_
      exact rU_i hx hb hr hlk hu dX2_crave_24 (Nat.le_of_ble_eq_true rfl) (Nat.le_of_ble_eq_true rfl) (by rw [show f_crave σ (nI jx) v = ((-2), σ) from by rw [f_crave, if_neg (bt_nf c1), if_pos c2] <;> simp only [ejx]]; exact ⟨rfl, _, rfl, hm⟩)
  · refine lv_iconst (v := (-1)) hx hb dX2_crave_8 (by decide) ?_
    exact rU_i hx hb hr hlk hu dX2_crave_9 (Nat.le_of_ble_eq_true rfl) (Nat.le_of_ble_eq_true rfl) (by rw [show f_crave σ x v = ((-1), σ) from by rw [f_crave, if_pos c1]]; exact ⟨rfl, _, rfl, hm⟩)

set_option maxHeartbeats 4000000 in
set_option maxRecDepth 100000 in
theorem cM_back (l : Launch) (D : va_G) (d : Nat → ClassId) (H00 : Heap) (q : Nat) (Aq : Nat → Nat) (τ : Nat → Nat → Int32) (σ : ASt) (k : Int32) (hm : mRep σ τ)  : cU l (KM D d) H00 D yX2_back cX2_back 2 (some .int) (rc 1 0 0) [.ref q, .int k] (mw d q Aq τ) (mPost d q Aq (some (.int (f_back σ k).1)) (f_back σ k).2) := by
  refine cU_start RX2 rfl (by decide) (Nat.le_of_ble_eq_true rfl) ?_
  intro p e s m below meth c A hx hb hml hown hts hr hlk hnm hK hA hAN hZ hu ls hl
  have hl : lv_has ls 2 [(0, .ref q), (1, .int k)] := hl
  have hok := hm.ok
  have hD6 : aD σ ≤ 6 := hok.1
  have hE4 : aE σ ≤ 4 := hok.2.1
  have h64 := pow6 hD6
  have hd := hm.day
  have he := hm.eat
  have hR8 : aR σ ≤ 8 := hok.2.2.2.1
  refine lv_iload_n hx hb dX2_back_0 rfl (lv_at hl 1 rfl) ?_
  refine lv_i2l (v := k.toInt64) hx hb dX2_back_1 rfl ?_
  refine lv_lconst (v := 0) hx hb dX2_back_2 (by decide) ?_
  refine lv_aload_n hx hb dX2_back_3 rfl (lv_at hl 0 rfl) ?_
  refine mg19 hx hb hts hown hK hu.1 dX2_back_4 ?_
  refine top_i (y := nI (aR σ)) (hm.rd.1) ?_
  refine lv_i2l (v := (nI (aR σ)).toInt64) hx hb dX2_back_7 rfl ?_
  refine callR_S (rest := []) hx hb hml hown hts KM_st hK (cM_in l D d k.toInt64 0 ((nI (aR σ)).toInt64)) (wX2_in hts ⟨Nat.le_of_ble_eq_true rfl, Nat.le_of_ble_eq_true rfl⟩) trivial rfl hl.1 rfl (Nat.le_of_ble_eq_true rfl) dX2_back_8 ⟨Nat.le_of_ble_eq_true rfl, Nat.le_of_ble_eq_true rfl⟩ ?_
  refine bz_ne (tgt := 17) hx hb dX2_back_11 (by decide) (fun c1 => ?_) (fun c1 => ?_)
  · obtain ⟨jk, hjk, ej⟩ := pIn_k (k := aR σ) (by omega) (nI_l (by omega)) c1
    subst ej
    have ejk : ix (nI jk) = jk := nI_clamp (by omega)
    refine lv_aload_n hx hb dX2_back_17 rfl (lv_at hl 0 rfl) ?_
    refine lv_dup hx hb dX2_back_18 rfl ?_
    refine mg19 hx hb hts hown hK hu.1 dX2_back_19 ?_
    refine top_i (y := nI (aR σ)) (hm.rd.1) ?_
    refine lv_iload_n hx hb dX2_back_22 rfl (lv_at hl 1 rfl) ?_
    refine lv_isub hx hb dX2_back_23 ?_
    refine top_i (y := nI (aR σ - jk)) (pk_sub hjk) ?_
    refine mp19 hx hb hts hown hK hu dX2_back_24 (fun H locs hu => ?_)
    refine lv_aload_n hx hb dX2_back_27 rfl (lv_at hl 0 rfl) ?_
    refine mg19 hx hb hts hown hK hu.1 dX2_back_28 ?_
    refine top_i (y := nI (aR σ - jk)) rfl ?_
    exact rU_i hx hb hr hlk hu dX2_back_31 (Nat.le_of_ble_eq_true rfl) (Nat.le_of_ble_eq_true rfl) (by rw [show f_back σ (nI jk) = (nI (aR σ - jk), uN σ 7 2 (aR σ - jk)) from by rw [f_back, if_neg (bt_nf c1)] <;> simp only [ejk]]; exact ⟨rfl, _, rfl, mRep_back hm (Nat.sub_le _ _)⟩)
  · refine lv_bipush (v := (-2)) hx hb dX2_back_14 (by decide) ?_
    exact rU_i hx hb hr hlk hu dX2_back_16 (Nat.le_of_ble_eq_true rfl) (Nat.le_of_ble_eq_true rfl) (by rw [show f_back σ k = ((-2), σ) from by rw [f_back, if_pos c1]]; exact ⟨rfl, _, rfl, hm⟩)

set_option maxHeartbeats 4000000 in
set_option maxRecDepth 100000 in
theorem cM_tell (l : Launch) (D : va_G) (d : Nat → ClassId) (H00 : Heap) (q : Nat) (Aq : Nat → Nat) (τ : Nat → Nat → Int32) (σ : ASt) (x : Int32) (hm : mRep σ τ)  : cU l (KM D d) H00 D yX2_tell cX2_tell 4 (some .int) (rc 2 0 0) [.ref q, .int x] (mw d q Aq τ) (mPost d q Aq (some (.int (f_tell σ x).1)) (f_tell σ x).2) := by
  refine cU_start RX2 rfl (by decide) (Nat.le_of_ble_eq_true rfl) ?_
  intro p e s m below meth c A hx hb hml hown hts hr hlk hnm hK hA hAN hZ hu ls hl
  have hl : lv_has ls 4 [(0, .ref q), (1, .int x)] := hl
  have hok := hm.ok
  have hD6 : aD σ ≤ 6 := hok.1
  have hE4 : aE σ ≤ 4 := hok.2.1
  have h64 := pow6 hD6
  have hd := hm.day
  have he := hm.eat
  refine lv_aload_n hx hb dX2_tell_0 rfl (lv_at hl 0 rfl) ?_
  refine lv_iload_n hx hb dX2_tell_1 rfl (lv_at hl 1 rfl) ?_
  refine callR_V (rest := []) hx hb hml hown hts KM_st hK (cM_noEater l D d q Aq τ x) (wX2_noEater hts ⟨Nat.le_of_ble_eq_true rfl, Nat.le_of_ble_eq_true rfl⟩) (m_recv hK hu.1) hu.1 rfl hl.1 rfl (Nat.le_of_ble_eq_true rfl) dX2_tell_2 ⟨Nat.le_of_ble_eq_true rfl, Nat.le_of_ble_eq_true rfl⟩ ?_
  refine top_i (hm.isE x) ?_
  refine bzn_eq (tgt := 10) hx hb dX2_tell_5 (by decide) (fun c1 => ?_) (fun c1 => ?_)
  · obtain ⟨jx, hjx, ej⟩ := isE_ix hok c1
    subst ej
    have ejx : ix (nI jx) = jx := nI_clamp (by omega)
    refine lv_aload_n hx hb dX2_tell_10 rfl (lv_at hl 0 rfl) ?_
    refine mg5 hx hb hts hown hK hu.1 dX2_tell_11 ?_
    refine lv_iload_n hx hb dX2_tell_14 rfl (lv_at hl 1 rfl) ?_
    refine ma5 hx hb hK hu.1 (by omega) dX2_tell_15 ?_
    refine top_i (y := nI (aN σ 0 jx)) ((he.2.2 jx hjx).1.1) ?_
    refine lv_istore_n (lv' := [(2, .int (nI (aN σ 0 jx))), (0, .ref q), (1, .int (nI jx))]) hx hb dX2_tell_16 rfl hl (by decide) rfl (fun ls hl => ?_)
    rcases k3 (he.2.2 jx hjx).1.2 with hk | hk | hk
    · rw [hk] at hl
      have hl : lv_has ls 4 [(2, .int 0), (0, .ref q), (1, .int (nI jx))] := hl
      refine lv_iload_n hx hb dX2_tell_17 rfl (lv_at hl 0 rfl) ?_
      refine lv_iconst (v := 2) hx hb dX2_tell_18 (by decide) ?_
      refine lv_icmp_ne (tgt := 27) hx hb dX2_tell_19 (by decide) (fun c0 => ?_) (fun c0 => absurd c0 (by decide))
      refine lv_iload_n hx hb dX2_tell_27 rfl (lv_at hl 0 rfl) ?_
      refine lv_if_le (tgt := 36) hx hb dX2_tell_28 (by decide) (fun c0 => ?_) (fun c0 => absurd (by decide) c0)
      refine lv_aload_n hx hb dX2_tell_36 rfl (lv_at hl 1 rfl) ?_
      refine lv_iconst (v := 1) hx hb dX2_tell_37 (by decide) ?_
      refine callU_V (rest := []) hx hb hml hown hts KM_st hK hA hAN hZ (cM_traced l D d H00 q Aq τ 1) (wX2_traced hts ⟨Nat.le_of_ble_eq_true rfl, Nat.le_of_ble_eq_true rfl⟩) (m_recv hK hu.1) hu rfl hl.1 rfl (Nat.le_of_ble_eq_true rfl) dX2_tell_38 ⟨Nat.le_of_ble_eq_true rfl, Nat.le_of_ble_eq_true rfl⟩ (fun r ws H locs hpo hu => ?_)
      obtain ⟨rfl, rfl⟩ := hpo
      show W _ _ _ _ _ _ _ _ _ _ _ _ _ _ _ (F0 _ 41 _ [])
      refine lv_iload_n hx hb dX2_tell_41 rfl (lv_at hl 0 rfl) ?_
      refine lv_iconst (v := 2) hx hb dX2_tell_42 (by decide) ?_
      refine lv_icmp_ne (tgt := 51) hx hb dX2_tell_43 (by decide) (fun c0 => ?_) (fun c0 => absurd c0 (by decide))
      refine lv_aload_n hx hb dX2_tell_51 rfl (lv_at hl 1 rfl) ?_
      refine mg7 hx hb hts hown hK hu.1 dX2_tell_52 ?_
      refine lv_iload_n hx hb dX2_tell_55 rfl (lv_at hl 2 rfl) ?_
      refine ma7 hx hb hK hu.1 (by omega) dX2_tell_56 ?_
      refine top_i (y := nI (aN σ 2 jx)) ((he.2.2 jx hjx).2.2.1.1) ?_
      refine lv_istore_n (lv' := [(3, .int (nI (aN σ 2 jx))), (2, .int 0), (0, .ref q), (1, .int (nI jx))]) hx hb dX2_tell_57 rfl hl (by decide) rfl (fun ls hl => ?_)
      refine lv_iload_n hx hb dX2_tell_58 rfl (lv_at hl 1 rfl) ?_
      refine lv_if_ne (tgt := 66) hx hb dX2_tell_59 (by decide) (fun c0 => absurd (by decide) c0) (fun c0 => ?_)
      refine lv_iload_n hx hb dX2_tell_62 rfl (lv_at hl 0 rfl) ?_
      refine lv_goto (tgt := 84) hx hb dX2_tell_63 (by decide) ?_
      exact rU_i hx hb hr hlk hu dX2_tell_84 (Nat.le_of_ble_eq_true rfl) (Nat.le_of_ble_eq_true rfl) (by rw [show f_tell σ (nI jx) = (nI (aN σ 2 jx), tr σ 1) from by rw [f_tell, if_neg (bt_nf c1)]; simp only [ejx]; rw [if_pos hk]]; exact ⟨rfl, _, rfl, mRep_tr hm 1⟩)
    · rw [hk] at hl
      have hl : lv_has ls 4 [(2, .int 1), (0, .ref q), (1, .int (nI jx))] := hl
      refine lv_iload_n hx hb dX2_tell_17 rfl (lv_at hl 0 rfl) ?_
      refine lv_iconst (v := 2) hx hb dX2_tell_18 (by decide) ?_
      refine lv_icmp_ne (tgt := 27) hx hb dX2_tell_19 (by decide) (fun c0 => ?_) (fun c0 => absurd c0 (by decide))
      refine lv_iload_n hx hb dX2_tell_27 rfl (lv_at hl 0 rfl) ?_
      refine lv_if_le (tgt := 36) hx hb dX2_tell_28 (by decide) (fun c0 => absurd c0 (by decide)) (fun c0 => ?_)
      refine lv_aload_n hx hb dX2_tell_31 rfl (lv_at hl 1 rfl) ?_
      refine lv_iconst (v := 2) hx hb dX2_tell_32 (by decide) ?_
      refine callU_V (rest := []) hx hb hml hown hts KM_st hK hA hAN hZ (cM_traced l D d H00 q Aq τ 2) (wX2_traced hts ⟨Nat.le_of_ble_eq_true rfl, Nat.le_of_ble_eq_true rfl⟩) (m_recv hK hu.1) hu rfl hl.1 rfl (Nat.le_of_ble_eq_true rfl) dX2_tell_33 ⟨Nat.le_of_ble_eq_true rfl, Nat.le_of_ble_eq_true rfl⟩ (fun r ws H locs hpo hu => ?_)
      obtain ⟨rfl, rfl⟩ := hpo
      show W _ _ _ _ _ _ _ _ _ _ _ _ _ _ _ (F0 _ 36 _ [])
      refine lv_aload_n hx hb dX2_tell_36 rfl (lv_at hl 1 rfl) ?_
      refine lv_iconst (v := 1) hx hb dX2_tell_37 (by decide) ?_
      refine callU_V (rest := []) hx hb hml hown hts KM_st hK hA hAN hZ (cM_traced l D d H00 q Aq (put2 τ 28 0 (31 * τ 28 0 + 2)) 1) (wX2_traced hts ⟨Nat.le_of_ble_eq_true rfl, Nat.le_of_ble_eq_true rfl⟩) (m_recv hK hu.1) hu rfl hl.1 rfl (Nat.le_of_ble_eq_true rfl) dX2_tell_38 ⟨Nat.le_of_ble_eq_true rfl, Nat.le_of_ble_eq_true rfl⟩ (fun r ws H locs hpo hu => ?_)
      obtain ⟨rfl, rfl⟩ := hpo
      show W _ _ _ _ _ _ _ _ _ _ _ _ _ _ _ (F0 _ 41 _ [])
      refine lv_iload_n hx hb dX2_tell_41 rfl (lv_at hl 0 rfl) ?_
      refine lv_iconst (v := 2) hx hb dX2_tell_42 (by decide) ?_
      refine lv_icmp_ne (tgt := 51) hx hb dX2_tell_43 (by decide) (fun c0 => ?_) (fun c0 => absurd c0 (by decide))
      refine lv_aload_n hx hb dX2_tell_51 rfl (lv_at hl 1 rfl) ?_
      refine mg7 hx hb hts hown hK hu.1 dX2_tell_52 ?_
      refine lv_iload_n hx hb dX2_tell_55 rfl (lv_at hl 2 rfl) ?_
      refine ma7 hx hb hK hu.1 (by omega) dX2_tell_56 ?_
      refine top_i (y := nI (aN σ 2 jx)) ((he.2.2 jx hjx).2.2.1.1) ?_
      refine lv_istore_n (lv' := [(3, .int (nI (aN σ 2 jx))), (2, .int 1), (0, .ref q), (1, .int (nI jx))]) hx hb dX2_tell_57 rfl hl (by decide) rfl (fun ls hl => ?_)
      refine lv_iload_n hx hb dX2_tell_58 rfl (lv_at hl 1 rfl) ?_
      refine lv_if_ne (tgt := 66) hx hb dX2_tell_59 (by decide) (fun c0 => ?_) (fun c0 => absurd c0 (by decide))
      refine lv_iload_n hx hb dX2_tell_66 rfl (lv_at hl 1 rfl) ?_
      refine lv_iconst (v := 1) hx hb dX2_tell_67 (by decide) ?_
      refine lv_icmp_ne (tgt := 78) hx hb dX2_tell_68 (by decide) (fun c0 => absurd (by decide) c0) (fun c0 => ?_)
      refine lv_iload_n hx hb dX2_tell_71 rfl (lv_at hl 0 rfl) ?_
      refine lv_bipush (v := 100) hx hb dX2_tell_72 (by decide) ?_
      refine lv_iadd hx hb dX2_tell_74 ?_
      refine lv_goto (tgt := 84) hx hb dX2_tell_75 (by decide) ?_
      exact rU_i hx hb hr hlk hu dX2_tell_84 (Nat.le_of_ble_eq_true rfl) (Nat.le_of_ble_eq_true rfl) (by rw [show f_tell σ (nI jx) = ((nI (aN σ 2 jx) + 100), tr (tr σ 2) 1) from by rw [f_tell, if_neg (bt_nf c1)]; simp only [ejx]; rw [if_neg (by rw [hk]; decide), if_pos hk]]; exact ⟨rfl, _, rfl, mRep_tr (mRep_tr hm 2) 1⟩)
    · rw [hk] at hl
      have hl : lv_has ls 4 [(2, .int 2), (0, .ref q), (1, .int (nI jx))] := hl
      refine lv_iload_n hx hb dX2_tell_17 rfl (lv_at hl 0 rfl) ?_
      refine lv_iconst (v := 2) hx hb dX2_tell_18 (by decide) ?_
      refine lv_icmp_ne (tgt := 27) hx hb dX2_tell_19 (by decide) (fun c0 => absurd (by decide) c0) (fun c0 => ?_)
      refine lv_aload_n hx hb dX2_tell_22 rfl (lv_at hl 1 rfl) ?_
      refine lv_iconst (v := 3) hx hb dX2_tell_23 (by decide) ?_
      refine callU_V (rest := []) hx hb hml hown hts KM_st hK hA hAN hZ (cM_traced l D d H00 q Aq τ 3) (wX2_traced hts ⟨Nat.le_of_ble_eq_true rfl, Nat.le_of_ble_eq_true rfl⟩) (m_recv hK hu.1) hu rfl hl.1 rfl (Nat.le_of_ble_eq_true rfl) dX2_tell_24 ⟨Nat.le_of_ble_eq_true rfl, Nat.le_of_ble_eq_true rfl⟩ (fun r ws H locs hpo hu => ?_)
      obtain ⟨rfl, rfl⟩ := hpo
      show W _ _ _ _ _ _ _ _ _ _ _ _ _ _ _ (F0 _ 27 _ [])
      refine lv_iload_n hx hb dX2_tell_27 rfl (lv_at hl 0 rfl) ?_
      refine lv_if_le (tgt := 36) hx hb dX2_tell_28 (by decide) (fun c0 => absurd c0 (by decide)) (fun c0 => ?_)
      refine lv_aload_n hx hb dX2_tell_31 rfl (lv_at hl 1 rfl) ?_
      refine lv_iconst (v := 2) hx hb dX2_tell_32 (by decide) ?_
      refine callU_V (rest := []) hx hb hml hown hts KM_st hK hA hAN hZ (cM_traced l D d H00 q Aq (put2 τ 28 0 (31 * τ 28 0 + 3)) 2) (wX2_traced hts ⟨Nat.le_of_ble_eq_true rfl, Nat.le_of_ble_eq_true rfl⟩) (m_recv hK hu.1) hu rfl hl.1 rfl (Nat.le_of_ble_eq_true rfl) dX2_tell_33 ⟨Nat.le_of_ble_eq_true rfl, Nat.le_of_ble_eq_true rfl⟩ (fun r ws H locs hpo hu => ?_)
      obtain ⟨rfl, rfl⟩ := hpo
      show W _ _ _ _ _ _ _ _ _ _ _ _ _ _ _ (F0 _ 36 _ [])
      refine lv_aload_n hx hb dX2_tell_36 rfl (lv_at hl 1 rfl) ?_
      refine lv_iconst (v := 1) hx hb dX2_tell_37 (by decide) ?_
      refine callU_V (rest := []) hx hb hml hown hts KM_st hK hA hAN hZ (cM_traced l D d H00 q Aq (put2 (put2 τ 28 0 (31 * τ 28 0 + 3)) 28 0 (31 * (put2 τ 28 0 (31 * τ 28 0 + 3)) 28 0 + 2)) 1) (wX2_traced hts ⟨Nat.le_of_ble_eq_true rfl, Nat.le_of_ble_eq_true rfl⟩) (m_recv hK hu.1) hu rfl hl.1 rfl (Nat.le_of_ble_eq_true rfl) dX2_tell_38 ⟨Nat.le_of_ble_eq_true rfl, Nat.le_of_ble_eq_true rfl⟩ (fun r ws H locs hpo hu => ?_)
      obtain ⟨rfl, rfl⟩ := hpo
      show W _ _ _ _ _ _ _ _ _ _ _ _ _ _ _ (F0 _ 41 _ [])
      refine lv_iload_n hx hb dX2_tell_41 rfl (lv_at hl 0 rfl) ?_
      refine lv_iconst (v := 2) hx hb dX2_tell_42 (by decide) ?_
      refine lv_icmp_ne (tgt := 51) hx hb dX2_tell_43 (by decide) (fun c0 => absurd (by decide) c0) (fun c0 => ?_)
      refine lv_aload_n hx hb dX2_tell_46 rfl (lv_at hl 1 rfl) ?_
      refine lv_iconst (v := 1) hx hb dX2_tell_47 (by decide) ?_
      refine callU_V (rest := []) hx hb hml hown hts KM_st hK hA hAN hZ (cM_traced l D d H00 q Aq (put2 (put2 (put2 τ 28 0 (31 * τ 28 0 + 3)) 28 0 (31 * (put2 τ 28 0 (31 * τ 28 0 + 3)) 28 0 + 2)) 28 0 (31 * (put2 (put2 τ 28 0 (31 * τ 28 0 + 3)) 28 0 (31 * (put2 τ 28 0 (31 * τ 28 0 + 3)) 28 0 + 2)) 28 0 + 1)) 1) (wX2_traced hts ⟨Nat.le_of_ble_eq_true rfl, Nat.le_of_ble_eq_true rfl⟩) (m_recv hK hu.1) hu rfl hl.1 rfl (Nat.le_of_ble_eq_true rfl) dX2_tell_48 ⟨Nat.le_of_ble_eq_true rfl, Nat.le_of_ble_eq_true rfl⟩ (fun r ws H locs hpo hu => ?_)
      obtain ⟨rfl, rfl⟩ := hpo
      show W _ _ _ _ _ _ _ _ _ _ _ _ _ _ _ (F0 _ 51 _ [])
      refine lv_aload_n hx hb dX2_tell_51 rfl (lv_at hl 1 rfl) ?_
      refine mg7 hx hb hts hown hK hu.1 dX2_tell_52 ?_
      refine lv_iload_n hx hb dX2_tell_55 rfl (lv_at hl 2 rfl) ?_
      refine ma7 hx hb hK hu.1 (by omega) dX2_tell_56 ?_
      refine top_i (y := nI (aN σ 2 jx)) ((he.2.2 jx hjx).2.2.1.1) ?_
      refine lv_istore_n (lv' := [(3, .int (nI (aN σ 2 jx))), (2, .int 2), (0, .ref q), (1, .int (nI jx))]) hx hb dX2_tell_57 rfl hl (by decide) rfl (fun ls hl => ?_)
      refine lv_iload_n hx hb dX2_tell_58 rfl (lv_at hl 1 rfl) ?_
      refine lv_if_ne (tgt := 66) hx hb dX2_tell_59 (by decide) (fun c0 => ?_) (fun c0 => absurd c0 (by decide))
      refine lv_iload_n hx hb dX2_tell_66 rfl (lv_at hl 1 rfl) ?_
      refine lv_iconst (v := 1) hx hb dX2_tell_67 (by decide) ?_
      refine lv_icmp_ne (tgt := 78) hx hb dX2_tell_68 (by decide) (fun c0 => ?_) (fun c0 => absurd c0 (by decide))
      refine lv_iconst (v := 2) hx hb dX2_tell_78 (by decide) ?_
      refine lv_iload_n hx hb dX2_tell_79 rfl (lv_at hl 0 rfl) ?_
      refine lv_imul hx hb dX2_tell_80 ?_
      refine lv_bipush (v := 100) hx hb dX2_tell_81 (by decide) ?_
      refine lv_iadd hx hb dX2_tell_83 ?_
      exact rU_i hx hb hr hlk hu dX2_tell_84 (Nat.le_of_ble_eq_true rfl) (Nat.le_of_ble_eq_true rfl) (by rw [show f_tell σ (nI jx) = ((((2 : Int32) * nI (aN σ 2 jx)) + 100), tr (tr (tr (tr σ 3) 2) 1) 1) from by rw [f_tell, if_neg (bt_nf c1)]; simp only [ejx]; rw [if_neg (by rw [hk]; decide), if_neg (by rw [hk]; decide)]]; exact ⟨rfl, _, rfl, mRep_tr (mRep_tr (mRep_tr (mRep_tr hm 3) 2) 1) 1⟩)
  · refine lv_iconst (v := (-1)) hx hb dX2_tell_8 (by decide) ?_
    exact rU_i hx hb hr hlk hu dX2_tell_9 (Nat.le_of_ble_eq_true rfl) (Nat.le_of_ble_eq_true rfl) (by rw [show f_tell σ x = ((-1), σ) from by rw [f_tell, if_pos c1]]; exact ⟨rfl, _, rfl, hm⟩)

set_option maxHeartbeats 4000000 in
set_option maxRecDepth 100000 in
theorem cM_sniff (l : Launch) (D : va_G) (d : Nat → ClassId) (H00 : Heap) (q : Nat) (Aq : Nat → Nat) (τ : Nat → Nat → Int32) (σ : ASt) (x : Int32) (hm : mRep σ τ)  : cU l (KM D d) H00 D yX2_sniff cX2_sniff 2 (some .int) (rc 2 0 0) [.ref q, .int x] (mw d q Aq τ) (mPost d q Aq (some (.int (f_sniff σ x).1)) (f_sniff σ x).2) := by
  refine cU_start RX2 rfl (by decide) (Nat.le_of_ble_eq_true rfl) ?_
  intro p e s m below meth c A hx hb hml hown hts hr hlk hnm hK hA hAN hZ hu ls hl
  have hl : lv_has ls 2 [(0, .ref q), (1, .int x)] := hl
  have hok := hm.ok
  have hD6 : aD σ ≤ 6 := hok.1
  have hE4 : aE σ ≤ 4 := hok.2.1
  have h64 := pow6 hD6
  have hd := hm.day
  have he := hm.eat
  refine lv_aload_n hx hb dX2_sniff_0 rfl (lv_at hl 0 rfl) ?_
  refine lv_iload_n hx hb dX2_sniff_1 rfl (lv_at hl 1 rfl) ?_
  refine callR_V (rest := []) hx hb hml hown hts KM_st hK (cM_noEater l D d q Aq τ x) (wX2_noEater hts ⟨Nat.le_of_ble_eq_true rfl, Nat.le_of_ble_eq_true rfl⟩) (m_recv hK hu.1) hu.1 rfl hl.1 rfl (Nat.le_of_ble_eq_true rfl) dX2_sniff_2 ⟨Nat.le_of_ble_eq_true rfl, Nat.le_of_ble_eq_true rfl⟩ ?_
  refine top_i (hm.isE x) ?_
  refine bzn_eq (tgt := 10) hx hb dX2_sniff_5 (by decide) (fun c1 => ?_) (fun c1 => ?_)
  · obtain ⟨jx, hjx, ej⟩ := isE_ix hok c1
    subst ej
    have ejx : ix (nI jx) = jx := nI_clamp (by omega)
    have hk3 := (he.2.2 jx hjx).1.2
    refine lv_aload_n hx hb dX2_sniff_10 rfl (lv_at hl 0 rfl) ?_
    refine lv_aload_n hx hb dX2_sniff_11 rfl (lv_at hl 0 rfl) ?_
    refine mg5 hx hb hts hown hK hu.1 dX2_sniff_12 ?_
    refine lv_iload_n hx hb dX2_sniff_15 rfl (lv_at hl 1 rfl) ?_
    refine ma5 hx hb hK hu.1 (by omega) dX2_sniff_16 ?_
    refine top_i (y := nI (aN σ 0 jx)) ((he.2.2 jx hjx).1.1) ?_
    refine lv_iconst (v := nI 2) hx hb dX2_sniff_17 (by decide) ?_
    refine nc_ne (tgt := 25) hx hb dX2_sniff_18 (by decide) (by omega) (by omega) (fun c2 => ?_) (fun c2 => ?_)
    · refine lv_iconst (v := 4) hx hb dX2_sniff_25 (by decide) ?_
      refine callU_V (rest := []) hx hb hml hown hts KM_st hK hA hAN hZ (cM_traced l D d H00 q Aq τ 4) (wX2_traced hts ⟨Nat.le_of_ble_eq_true rfl, Nat.le_of_ble_eq_true rfl⟩) (m_recv hK hu.1) hu rfl hl.1 rfl (Nat.le_of_ble_eq_true rfl) dX2_sniff_26 ⟨Nat.le_of_ble_eq_true rfl, Nat.le_of_ble_eq_true rfl⟩ (fun r ws H locs hpo hu => ?_)
      obtain ⟨rfl, rfl⟩ := hpo
      show W _ _ _ _ _ _ _ _ _ _ _ _ _ _ _ (F0 _ 29 _ [])
      refine lv_aload_n hx hb dX2_sniff_29 rfl (lv_at hl 0 rfl) ?_
      refine mg5 hx hb hts hown hK hu.1 dX2_sniff_30 ?_
      refine lv_iload_n hx hb dX2_sniff_33 rfl (lv_at hl 1 rfl) ?_
      refine ma5 hx hb hK hu.1 (by omega) dX2_sniff_34 ?_
      refine top_i (y := nI (aN σ 0 jx)) ((he.2.2 jx hjx).1.1) ?_
      refine lv_iconst (v := nI 2) hx hb dX2_sniff_35 (by decide) ?_
      refine nc_ne (tgt := 44) hx hb dX2_sniff_36 (by decide) (by omega) (by omega) (fun c0 => ?_) (fun c0 => absurd c0 c2)
      refine lv_iload_n hx hb dX2_sniff_44 rfl (lv_at hl 1 rfl) ?_
      exact rU_i hx hb hr hlk hu dX2_sniff_45 (Nat.le_of_ble_eq_true rfl) (Nat.le_of_ble_eq_true rfl) (by rw [show f_sniff σ (nI jx) = (nI jx, tr σ 4) from by rw [f_sniff, if_neg (bt_nf c1)]; simp only [ejx]; rw [if_neg c2]]; exact ⟨rfl, _, rfl, mRep_tr hm 4⟩)
    · refine lv_iconst (v := 5) hx hb dX2_sniff_21 (by decide) ?_
      refine lv_goto (tgt := 26) hx hb dX2_sniff_22 (by decide) ?_
      refine callU_V (rest := []) hx hb hml hown hts KM_st hK hA hAN hZ (cM_traced l D d H00 q Aq τ 5) (wX2_traced hts ⟨Nat.le_of_ble_eq_true rfl, Nat.le_of_ble_eq_true rfl⟩) (m_recv hK hu.1) hu rfl hl.1 rfl (Nat.le_of_ble_eq_true rfl) dX2_sniff_26 ⟨Nat.le_of_ble_eq_true rfl, Nat.le_of_ble_eq_true rfl⟩ (fun r ws H locs hpo hu => ?_)
      obtain ⟨rfl, rfl⟩ := hpo
      show W _ _ _ _ _ _ _ _ _ _ _ _ _ _ _ (F0 _ 29 _ [])
      refine lv_aload_n hx hb dX2_sniff_29 rfl (lv_at hl 0 rfl) ?_
      refine mg5 hx hb hts hown hK hu.1 dX2_sniff_30 ?_
      refine lv_iload_n hx hb dX2_sniff_33 rfl (lv_at hl 1 rfl) ?_
      refine ma5 hx hb hK hu.1 (by omega) dX2_sniff_34 ?_
      refine top_i (y := nI (aN σ 0 jx)) ((he.2.2 jx hjx).1.1) ?_
      refine lv_iconst (v := nI 2) hx hb dX2_sniff_35 (by decide) ?_
      refine nc_ne (tgt := 44) hx hb dX2_sniff_36 (by decide) (by omega) (by omega) (fun c0 => absurd c2 c0) (fun c0 => ?_)
      refine lv_bipush (v := 40) hx hb dX2_sniff_39 (by decide) ?_
      refine lv_goto (tgt := 45) hx hb dX2_sniff_41 (by decide) ?_
      exact rU_i hx hb hr hlk hu dX2_sniff_45 (Nat.le_of_ble_eq_true rfl) (Nat.le_of_ble_eq_true rfl) (by rw [show f_sniff σ (nI jx) = (40, tr σ 5) from by rw [f_sniff, if_neg (bt_nf c1)]; simp only [ejx]; rw [if_pos c2]]; exact ⟨rfl, _, rfl, mRep_tr hm 5⟩)
  · refine lv_iconst (v := (-1)) hx hb dX2_sniff_8 (by decide) ?_
    exact rU_i hx hb hr hlk hu dX2_sniff_9 (Nat.le_of_ble_eq_true rfl) (Nat.le_of_ble_eq_true rfl) (by rw [show f_sniff σ x = ((-1), σ) from by rw [f_sniff, if_pos c1]]; exact ⟨rfl, _, rfl, hm⟩)

set_option maxHeartbeats 4000000 in
set_option maxRecDepth 100000 in
theorem cM_as (l : Launch) (D : va_G) (d : Nat → ClassId) (H00 : Heap) (q : Nat) (Aq : Nat → Nat) (τ : Nat → Nat → Int32) (σ : ASt) (x k : Int32) (hm : mRep σ τ)  : cU l (KM D d) H00 D yX2_as cX2_as 3 (some .int) (rc 2 0 0) [.ref q, .int x, .int k] (mw d q Aq τ) (mPost d q Aq (some (.int (f_as σ x k).1)) (f_as σ x k).2) := by
  refine cU_start RX2 rfl (by decide) (Nat.le_of_ble_eq_true rfl) ?_
  intro p e s m below meth c A hx hb hml hown hts hr hlk hnm hK hA hAN hZ hu ls hl
  have hl : lv_has ls 3 [(0, .ref q), (1, .int x), (2, .int k)] := hl
  have hok := hm.ok
  have hD6 : aD σ ≤ 6 := hok.1
  have hE4 : aE σ ≤ 4 := hok.2.1
  have h64 := pow6 hD6
  have hd := hm.day
  have he := hm.eat
  refine lv_aload_n hx hb dX2_as_0 rfl (lv_at hl 0 rfl) ?_
  refine lv_iload_n hx hb dX2_as_1 rfl (lv_at hl 1 rfl) ?_
  refine callR_V (rest := []) hx hb hml hown hts KM_st hK (cM_noEater l D d q Aq τ x) (wX2_noEater hts ⟨Nat.le_of_ble_eq_true rfl, Nat.le_of_ble_eq_true rfl⟩) (m_recv hK hu.1) hu.1 rfl hl.1 rfl (Nat.le_of_ble_eq_true rfl) dX2_as_2 ⟨Nat.le_of_ble_eq_true rfl, Nat.le_of_ble_eq_true rfl⟩ ?_
  refine top_i (hm.isE x) ?_
  refine bzn_eq (tgt := 14) hx hb dX2_as_5 (by decide) (fun c1 => ?_) (fun c1 => ?_)
  · obtain ⟨jx, hjx, ej⟩ := isE_ix hok c1
    subst ej
    have ejx : ix (nI jx) = jx := nI_clamp (by omega)
    refine lv_iload_n hx hb dX2_as_14 rfl (lv_at hl 2 rfl) ?_
    refine lv_i2l (v := k.toInt64) hx hb dX2_as_15 rfl ?_
    refine lv_lconst (v := 0) hx hb dX2_as_16 (by decide) ?_
    refine lv_ldc2 (v := 2) hx hb hown (hts _ q1007) dX2_as_17 ?_
    refine callR_S (rest := []) hx hb hml hown hts KM_st hK (cM_in l D d k.toInt64 0 2) (wX2_in hts ⟨Nat.le_of_ble_eq_true rfl, Nat.le_of_ble_eq_true rfl⟩) trivial rfl hl.1 rfl (Nat.le_of_ble_eq_true rfl) dX2_as_20 ⟨Nat.le_of_ble_eq_true rfl, Nat.le_of_ble_eq_true rfl⟩ ?_
    refine bz_ne (tgt := 33) hx hb dX2_as_23 (by decide) (fun c2 => ?_) (fun c2 => ?_)
    · obtain ⟨jk, hjk, ej⟩ := pIn_k (k := 2) (by decide) (by decide) c2
      subst ej
      have ejk : ix (nI jk) = jk := nI_clamp (by omega)
      have hk3 := (he.2.2 jx hjx).1.2
      refine lv_aload_n hx hb dX2_as_33 rfl (lv_at hl 0 rfl) ?_
      refine mg5 hx hb hts hown hK hu.1 dX2_as_34 ?_
      refine lv_iload_n hx hb dX2_as_37 rfl (lv_at hl 1 rfl) ?_
      refine ma5 hx hb hK hu.1 (by omega) dX2_as_38 ?_
      refine top_i (y := nI (aN σ 0 jx)) ((he.2.2 jx hjx).1.1) ?_
      refine lv_iload_n hx hb dX2_as_39 rfl (lv_at hl 2 rfl) ?_
      refine nc_lt (tgt := 51) hx hb dX2_as_40 (by decide) (by omega) (by omega) (fun c3 => ?_) (fun c3 => ?_)
      · refine lv_aload_n hx hb dX2_as_51 rfl (lv_at hl 0 rfl) ?_
        refine lv_iconst (v := 2) hx hb dX2_as_52 (by decide) ?_
        refine callU_V (rest := []) hx hb hml hown hts KM_st hK hA hAN hZ (cM_failed l D d H00 q Aq τ 2) (wX2_failed hts ⟨Nat.le_of_ble_eq_true rfl, Nat.le_of_ble_eq_true rfl⟩) (m_recv hK hu.1) hu rfl hl.1 rfl (Nat.le_of_ble_eq_true rfl) dX2_as_53 ⟨Nat.le_of_ble_eq_true rfl, Nat.le_of_ble_eq_true rfl⟩ (fun r ws H locs hpo hu => ?_)
        obtain ⟨rfl, rfl⟩ := hpo
        show W _ _ _ _ _ _ _ _ _ _ _ _ _ _ _ (F0 _ 56 _ [.int ((-10) - 2)])
        exact rU_i hx hb hr hlk hu dX2_as_56 (Nat.le_of_ble_eq_true rfl) (Nat.le_of_ble_eq_true rfl) (by rw [show f_as σ (nI jx) (nI jk) = ((-12), uI σ 0 2) from by rw [f_as, if_neg (bt_nf c1), if_neg (bt_nf c2)]; simp only [ejx, ejk]; rw [if_neg (Nat.not_le.mpr c3)]]; exact ⟨rfl, _, rfl, mRep_fault hm 2⟩)
      · refine lv_aload_n hx hb dX2_as_43 rfl (lv_at hl 0 rfl) ?_
        refine lv_iconst (v := 1) hx hb dX2_as_44 (by decide) ?_
        refine callU_V (rest := []) hx hb hml hown hts KM_st hK hA hAN hZ (cM_refused l D d H00 q Aq τ 1) (wX2_refused hts ⟨Nat.le_of_ble_eq_true rfl, Nat.le_of_ble_eq_true rfl⟩) (m_recv hK hu.1) hu rfl hl.1 rfl (Nat.le_of_ble_eq_true rfl) dX2_as_45 ⟨Nat.le_of_ble_eq_true rfl, Nat.le_of_ble_eq_true rfl⟩ (fun r ws H locs hpo hu => ?_)
        obtain ⟨rfl, rfl⟩ := hpo
        show W _ _ _ _ _ _ _ _ _ _ _ _ _ _ _ (F0 _ 48 _ [.int 1])
        refine lv_goto (tgt := 56) hx hb dX2_as_48 (by decide) ?_
        exact rU_i hx hb hr hlk hu dX2_as_56 (Nat.le_of_ble_eq_true rfl) (Nat.le_of_ble_eq_true rfl) (by rw [show f_as σ (nI jx) (nI jk) = (1, uI σ 0 0) from by rw [f_as, if_neg (bt_nf c1), if_neg (bt_nf c2)]; simp only [ejx, ejk]; rw [if_pos c3]]; exact ⟨rfl, _, rfl, mRep_fault hm 0⟩)
    · refine lv_aload_n hx hb dX2_as_26 rfl (lv_at hl 0 rfl) ?_
      refine lv_bipush (v := (-2)) hx hb dX2_as_27 (by decide) ?_
      refine callU_V (rest := []) hx hb hml hown hts KM_st hK hA hAN hZ (cM_refused l D d H00 q Aq τ (-2)) (wX2_refused hts ⟨Nat.le_of_ble_eq_true rfl, Nat.le_of_ble_eq_true rfl⟩) (m_recv hK hu.1) hu rfl hl.1 rfl (Nat.le_of_ble_eq_true rfl) dX2_as_29 ⟨Nat.le_of_ble_eq_true rfl, Nat.le_of_ble_eq_true rfl⟩ (fun r ws H locs hpo hu => ?_)
      obtain ⟨rfl, rfl⟩ := hpo
      show W _ _ _ _ _ _ _ _ _ _ _ _ _ _ _ (F0 _ 32 _ [.int (-2)])
      exact rU_i hx hb hr hlk hu dX2_as_32 (Nat.le_of_ble_eq_true rfl) (Nat.le_of_ble_eq_true rfl) (by rw [show f_as σ (nI jx) k = ((-2), uI σ 0 0) from by rw [f_as, if_neg (bt_nf c1), if_pos c2]]; exact ⟨rfl, _, rfl, mRep_fault hm 0⟩)
  · refine lv_aload_n hx hb dX2_as_8 rfl (lv_at hl 0 rfl) ?_
    refine lv_iconst (v := (-1)) hx hb dX2_as_9 (by decide) ?_
    refine callU_V (rest := []) hx hb hml hown hts KM_st hK hA hAN hZ (cM_refused l D d H00 q Aq τ (-1)) (wX2_refused hts ⟨Nat.le_of_ble_eq_true rfl, Nat.le_of_ble_eq_true rfl⟩) (m_recv hK hu.1) hu rfl hl.1 rfl (Nat.le_of_ble_eq_true rfl) dX2_as_10 ⟨Nat.le_of_ble_eq_true rfl, Nat.le_of_ble_eq_true rfl⟩ (fun r ws H locs hpo hu => ?_)
    obtain ⟨rfl, rfl⟩ := hpo
    show W _ _ _ _ _ _ _ _ _ _ _ _ _ _ _ (F0 _ 13 _ [.int (-1)])
    exact rU_i hx hb hr hlk hu dX2_as_13 (Nat.le_of_ble_eq_true rfl) (Nat.le_of_ble_eq_true rfl) (by rw [show f_as σ x k = ((-1), uI σ 0 0) from by rw [f_as, if_pos c1]]; exact ⟨rfl, _, rfl, mRep_fault hm 0⟩)

set_option maxHeartbeats 4000000 in
set_option maxRecDepth 100000 in
theorem cM_reading (l : Launch) (D : va_G) (d : Nat → ClassId) (H00 : Heap) (q : Nat) (Aq : Nat → Nat) (τ : Nat → Nat → Int32) (σ : ASt) (x z y : Int32) (b : Bool) (hm : mRep σ τ)  : cU l (KM D d) H00 D yX2_reading cX2_reading 5 (some .int) (rc 2 0 0) [.ref q, .int x, .int z, .int y, .int (bI b)] (mw d q Aq τ) (mPost d q Aq (some (.int (f_reading σ x z y b).1)) (f_reading σ x z y b).2) := by
  refine cU_start RX2 rfl (by decide) (Nat.le_of_ble_eq_true rfl) ?_
  intro p e s m below meth c A hx hb hml hown hts hr hlk hnm hK hA hAN hZ hu ls hl
  have hl : lv_has ls 5 [(0, .ref q), (1, .int x), (2, .int z), (3, .int y), (4, .int (bI b))] := hl
  have hok := hm.ok
  have hD6 : aD σ ≤ 6 := hok.1
  have hE4 : aE σ ≤ 4 := hok.2.1
  have h64 := pow6 hD6
  have hd := hm.day
  have he := hm.eat
  have hR8 : aR σ ≤ 8 := hok.2.2.2.1
  refine lv_aload_n hx hb dX2_reading_0 rfl (lv_at hl 0 rfl) ?_
  refine lv_iload_n hx hb dX2_reading_1 rfl (lv_at hl 1 rfl) ?_
  refine callR_V (rest := []) hx hb hml hown hts KM_st hK (cM_noEater l D d q Aq τ x) (wX2_noEater hts ⟨Nat.le_of_ble_eq_true rfl, Nat.le_of_ble_eq_true rfl⟩) (m_recv hK hu.1) hu.1 rfl hl.1 rfl (Nat.le_of_ble_eq_true rfl) dX2_reading_2 ⟨Nat.le_of_ble_eq_true rfl, Nat.le_of_ble_eq_true rfl⟩ ?_
  refine top_i (hm.isE x) ?_
  refine bzn_eq (tgt := 10) hx hb dX2_reading_5 (by decide) (fun c1 => ?_) (fun c1 => ?_)
  · obtain ⟨jx, hjx, ej⟩ := isE_ix hok c1
    subst ej
    have ejx : ix (nI jx) = jx := nI_clamp (by omega)
    refine lv_aload_n hx hb dX2_reading_10 rfl (lv_at hl 0 rfl) ?_
    refine lv_iload_n hx hb dX2_reading_11 rfl (lv_at hl 2 rfl) ?_
    refine callR_V (rest := []) hx hb hml hown hts KM_st hK (cM_noSet l D d q Aq τ z) (wX2_noSet hts ⟨Nat.le_of_ble_eq_true rfl, Nat.le_of_ble_eq_true rfl⟩) (m_recv hK hu.1) hu.1 rfl hl.1 rfl (Nat.le_of_ble_eq_true rfl) dX2_reading_12 ⟨Nat.le_of_ble_eq_true rfl, Nat.le_of_ble_eq_true rfl⟩ ?_
    refine top_i (hm.isT z) ?_
    refine bzn_eq (tgt := 21) hx hb dX2_reading_15 (by decide) (fun c2 => ?_) (fun c2 => ?_)
    · obtain ⟨jz, hjz, ej⟩ := isT_ix hok c2
      subst ej
      have ejz : ix (nI jz) = jz := nI_clamp (by omega)
      refine lv_aload_n hx hb dX2_reading_21 rfl (lv_at hl 0 rfl) ?_
      refine lv_iload_n hx hb dX2_reading_22 rfl (lv_at hl 3 rfl) ?_
      refine callR_V (rest := []) hx hb hml hown hts KM_st hK (cM_noDay l D d q Aq τ y) (wX2_noDay hts ⟨Nat.le_of_ble_eq_true rfl, Nat.le_of_ble_eq_true rfl⟩) (m_recv hK hu.1) hu.1 rfl hl.1 rfl (Nat.le_of_ble_eq_true rfl) dX2_reading_23 ⟨Nat.le_of_ble_eq_true rfl, Nat.le_of_ble_eq_true rfl⟩ ?_
      refine top_i (hm.isD y) ?_
      refine bzn_eq (tgt := 31) hx hb dX2_reading_26 (by decide) (fun c3 => ?_) (fun c3 => ?_)
      · obtain ⟨jy, hjy, ej⟩ := isD_ix hok c3
        subst ej
        have ejy : ix (nI jy) = jy := nI_clamp (by omega)
        refine lv_aload_n hx hb dX2_reading_31 rfl (lv_at hl 0 rfl) ?_
        refine mg19 hx hb hts hown hK hu.1 dX2_reading_32 ?_
        refine top_i (y := nI (aR σ)) (hm.rd.1) ?_
        refine lv_bipush (v := nI 8) hx hb dX2_reading_35 (by decide) ?_
        refine nc_ne (tgt := 43) hx hb dX2_reading_37 (by decide) (by omega) (by omega) (fun c4 => ?_) (fun c4 => ?_)
        · refine lv_aload_n hx hb dX2_reading_43 rfl (lv_at hl 0 rfl) ?_
          refine mg20 hx hb hts hown hK hu.1 dX2_reading_44 ?_
          refine lv_aload_n hx hb dX2_reading_47 rfl (lv_at hl 0 rfl) ?_
          refine mg19 hx hb hts hown hK hu.1 dX2_reading_48 ?_
          refine top_i (y := nI (aR σ)) (hm.rd.1) ?_
          refine lv_iload_n hx hb dX2_reading_51 rfl (lv_at hl 1 rfl) ?_
          refine ms20 hx hb hK hu (by omega) dX2_reading_52 (fun H locs hu => ?_)
          refine lv_aload_n hx hb dX2_reading_53 rfl (lv_at hl 0 rfl) ?_
          refine mg21 hx hb hts hown hK hu.1 dX2_reading_54 ?_
          refine lv_aload_n hx hb dX2_reading_57 rfl (lv_at hl 0 rfl) ?_
          refine mg19 hx hb hts hown hK hu.1 dX2_reading_58 ?_
          refine top_i (y := τ 19 0) rfl ?_
          refine top_i (y := nI (aR σ)) (hm.rd.1) ?_
          refine lv_iload_n hx hb dX2_reading_61 rfl (lv_at hl 2 rfl) ?_
          refine ms21 hx hb hK hu (by omega) dX2_reading_62 (fun H locs hu => ?_)
          refine lv_aload_n hx hb dX2_reading_63 rfl (lv_at hl 0 rfl) ?_
          refine mg22 hx hb hts hown hK hu.1 dX2_reading_64 ?_
          refine lv_aload_n hx hb dX2_reading_67 rfl (lv_at hl 0 rfl) ?_
          refine mg19 hx hb hts hown hK hu.1 dX2_reading_68 ?_
          refine top_i (y := τ 19 0) rfl ?_
          refine top_i (y := nI (aR σ)) (hm.rd.1) ?_
          refine lv_iload_n hx hb dX2_reading_71 rfl (lv_at hl 3 rfl) ?_
          refine ms22 hx hb hK hu (by omega) dX2_reading_72 (fun H locs hu => ?_)
          refine lv_aload_n hx hb dX2_reading_73 rfl (lv_at hl 0 rfl) ?_
          refine mg23 hx hb hts hown hK hu.1 dX2_reading_74 ?_
          refine lv_aload_n hx hb dX2_reading_77 rfl (lv_at hl 0 rfl) ?_
          refine mg19 hx hb hts hown hK hu.1 dX2_reading_78 ?_
          refine top_i (y := τ 19 0) rfl ?_
          refine top_i (y := nI (aR σ)) (hm.rd.1) ?_
          refine lv_iload hx hb dX2_reading_81 (lv_at hl 4 rfl) ?_
          refine ms23 (v := b) hx hb hK hu (by omega) dX2_reading_83 (fun H locs hu => ?_)
          refine lv_aload_n hx hb dX2_reading_84 rfl (lv_at hl 0 rfl) ?_
          refine lv_dup hx hb dX2_reading_85 rfl ?_
          refine mg19 hx hb hts hown hK hu.1 dX2_reading_86 ?_
          refine top_i (y := τ 19 0) rfl ?_
          refine top_i (y := nI (aR σ)) (hm.rd.1) ?_
          refine lv_iconst (v := 1) hx hb dX2_reading_89 (by decide) ?_
          refine lv_iadd hx hb dX2_reading_90 ?_
          refine top_i (y := nI (aR σ + 1)) (nI_1 _) ?_
          refine mp19 hx hb hts hown hK hu dX2_reading_91 (fun H locs hu => ?_)
          refine lv_aload_n hx hb dX2_reading_94 rfl (lv_at hl 0 rfl) ?_
          refine mg19 hx hb hts hown hK hu.1 dX2_reading_95 ?_
          refine top_i (y := nI (aR σ + 1)) rfl ?_
          refine lv_iconst (v := 1) hx hb dX2_reading_98 (by decide) ?_
          refine lv_isub hx hb dX2_reading_99 ?_
          refine top_i (y := nI (aR σ)) (nI_pred _) ?_
          exact rU_i hx hb hr hlk hu dX2_reading_100 (Nat.le_of_ble_eq_true rfl) (Nat.le_of_ble_eq_true rfl) (by rw [show f_reading σ (nI jx) (nI jz) (nI jy) b = (nI (aR σ), uN (uB (uN (uN (uN σ 4 (aR σ) jx) 5 (aR σ) jz) 6 (aR σ) jy) (aR σ) b) 7 2 (aR σ + 1)) from by rw [f_reading, if_neg (bt_nf c1), if_neg (bt_nf c2), if_neg (bt_nf c3), if_neg c4] <;> simp only [ejx, ejz, ejy]]; exact ⟨rfl, _, rfl, mRep_reading hm hjx hjz hjy c4⟩)
        · refine lv_bipush (v := (-4)) hx hb dX2_reading_40 (by decide) ?_
          exact rU_i hx hb hr hlk hu dX2_reading_42 (Nat.le_of_ble_eq_true rfl) (Nat.le_of_ble_eq_true rfl) (by rw [show f_reading σ (nI jx) (nI jz) (nI jy) b = ((-4), σ) from by rw [f_reading, if_neg (bt_nf c1), if_neg (bt_nf c2), if_neg (bt_nf c3), if_pos c4] <;> simp only [ejx, ejz, ejy]]; exact ⟨rfl, _, rfl, hm⟩)
      · refine lv_iconst (v := (-1)) hx hb dX2_reading_29 (by decide) ?_
        exact rU_i hx hb hr hlk hu dX2_reading_30 (Nat.le_of_ble_eq_true rfl) (Nat.le_of_ble_eq_true rfl) (by rw [show f_reading σ (nI jx) (nI jz) y b = ((-1), σ) from by rw [f_reading, if_neg (bt_nf c1), if_neg (bt_nf c2), if_pos c3] <;> simp only [ejx, ejz]]; exact ⟨rfl, _, rfl, hm⟩)
    · refine lv_bipush (v := (-2)) hx hb dX2_reading_18 (by decide) ?_
      exact rU_i hx hb hr hlk hu dX2_reading_20 (Nat.le_of_ble_eq_true rfl) (Nat.le_of_ble_eq_true rfl) (by rw [show f_reading σ (nI jx) z y b = ((-2), σ) from by rw [f_reading, if_neg (bt_nf c1), if_pos c2] <;> simp only [ejx]]; exact ⟨rfl, _, rfl, hm⟩)
  · refine lv_iconst (v := (-1)) hx hb dX2_reading_8 (by decide) ?_
    exact rU_i hx hb hr hlk hu dX2_reading_9 (Nat.le_of_ble_eq_true rfl) (Nat.le_of_ble_eq_true rfl) (by rw [show f_reading σ x z y b = ((-1), σ) from by rw [f_reading, if_pos c1]]; exact ⟨rfl, _, rfl, hm⟩)
