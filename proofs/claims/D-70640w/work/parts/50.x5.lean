/-! X: calls that change it -/
set_option maxHeartbeats 4000000 in
set_option maxRecDepth 100000 in
theorem cX_pull (l : Launch) (D : va_G) (d : Nat → ClassId) (H00 : Heap) (B : Nat → Nat) (τ : Nat → Nat → Int32) (ea : Nat) (hs : Nat → Option Nat) (ρ : va_W) (e0 : Nat) (F : Nat → Nat) (σ : ASt) (x v : Int32) (hm : xRep d B e0 σ τ ea hs ρ F)  : cU l (KX D d) H00 D yX0_pull cX0_pull 4 (some .int) (rc 2 0 0) [.ref (B 0), .int x, .int v] (xw d B τ ea hs ρ) (xPost d B e0 (some (.int (f_pull σ x v).1)) (f_pull σ x v).2) := by
  refine cU_start RX0 rfl (by decide) (Nat.le_of_ble_eq_true rfl) ?_
  intro p e s m below meth c A hx hb hml hown hts hr hlk hnm hK hA hAN hZ hu ls hl
  have hl : lv_has ls 4 [(0, .ref (B 0)), (1, .int x), (2, .int v)] := hl
  have hok := hm.ok
  have hD6 : aD σ ≤ 6 := hok.1
  have hE4 : aE σ ≤ 4 := hok.2.1
  have h64 := pow6 hD6
  have hd := hm.day
  have hd6 := hD6
  have hE := hm.eat
  have hL := hm.lst
  have hno := hm.no
  have hR8 : aR σ ≤ 8 := hok.2.2.2.1
  refine lv_aload_n hx hb dX0_pull_0 rfl (lv_at hl 0 rfl) ?_
  refine lv_iload_n hx hb dX0_pull_1 rfl (lv_at hl 1 rfl) ?_
  refine callR_V (rest := []) hx hb hml hown hts KX_st hK (cX_isDay l D d B τ ea hs ρ x) (wX0_isDay hts ⟨Nat.le_of_ble_eq_true rfl, Nat.le_of_ble_eq_true rfl⟩) (x_recv hK hu.1) hu.1 rfl hl.1 rfl (Nat.le_of_ble_eq_true rfl) dX0_pull_2 ⟨Nat.le_of_ble_eq_true rfl, Nat.le_of_ble_eq_true rfl⟩ ?_
  refine top_i (hm.isD x) ?_
  refine bz_ne (tgt := 10) hx hb dX0_pull_5 (by decide) (fun c1 => ?_) (fun c1 => ?_)
  · obtain ⟨jx, hjx, ej⟩ := isD_ix hok c1
    subst ej
    have ejx : ix (nI jx) = jx := nI_clamp (by omega)
    refine lv_iload_n hx hb dX0_pull_10 rfl (lv_at hl 2 rfl) ?_
    refine callR_S (rest := []) hx hb hml hown hts KX_st hK (cX_isDigit l D d v) (wX0_isDigit hts ⟨Nat.le_of_ble_eq_true rfl, Nat.le_of_ble_eq_true rfl⟩) trivial rfl hl.1 rfl (Nat.le_of_ble_eq_true rfl) dX0_pull_11 ⟨Nat.le_of_ble_eq_true rfl, Nat.le_of_ble_eq_true rfl⟩ ?_
    refine bz_ne (tgt := 20) hx hb dX0_pull_14 (by decide) (fun c2 => ?_) (fun c2 => ?_)
    · refine lv_aload_n hx hb dX0_pull_20 rfl (lv_at hl 0 rfl) ?_
      refine xg5 hx hb hts hown hK hu.1 dX0_pull_21 ?_
      refine lv_iload_n hx hb dX0_pull_24 rfl (lv_at hl 1 rfl) ?_
      refine xa5 hx hb hK hu.1 (by omega) dX0_pull_25 ?_
      refine top_i (y := aL σ jx) (hm.look jx hjx) ?_
      refine lv_istore_n (lv' := [(3, .int (aL σ jx)), (0, .ref (B 0)), (1, .int (nI jx)), (2, .int v)]) hx hb dX0_pull_26 rfl hl (by decide) rfl (fun ls hl => ?_)
      refine lv_aload_n hx hb dX0_pull_27 rfl (lv_at hl 1 rfl) ?_
      refine xg5 hx hb hts hown hK hu.1 dX0_pull_28 ?_
      refine lv_iload_n hx hb dX0_pull_31 rfl (lv_at hl 2 rfl) ?_
      refine lv_iload_n hx hb dX0_pull_32 rfl (lv_at hl 3 rfl) ?_
      refine xs5 hx hb hK hu (by omega) dX0_pull_33 (fun H locs hu => ?_)
      refine lv_iload_n hx hb dX0_pull_34 rfl (lv_at hl 0 rfl) ?_
      exact rU_i hx hb hr hlk hu dX0_pull_35 (Nat.le_of_ble_eq_true rfl) (Nat.le_of_ble_eq_true rfl) (by rw [show f_pull σ (nI jx) v = (aL σ jx, uL σ jx v) from by rw [f_pull, if_neg (bt_nf c1), if_neg (bt_nf c2)] <;> simp only [ejx]]; exact ⟨rfl, _, _, _, _, _, rfl, xRep_look hm jx v⟩)
    · refine lv_bipush (v := (-2)) hx hb dX0_pull_17 (by decide) ?_
      exact rU_i hx hb hr hlk hu dX0_pull_19 (Nat.le_of_ble_eq_true rfl) (Nat.le_of_ble_eq_true rfl) (by rw [show f_pull σ (nI jx) v = ((-2), σ) from by rw [f_pull, if_neg (bt_nf c1), if_pos c2] <;> simp only [ejx]]; exact ⟨rfl, _, _, _, _, _, rfl, hm⟩)
  · refine lv_iconst (v := (-1)) hx hb dX0_pull_8 (by decide) ?_
    exact rU_i hx hb hr hlk hu dX0_pull_9 (Nat.le_of_ble_eq_true rfl) (Nat.le_of_ble_eq_true rfl) (by rw [show f_pull σ x v = ((-1), σ) from by rw [f_pull, if_pos c1]]; exact ⟨rfl, _, _, _, _, _, rfl, hm⟩)

set_option maxHeartbeats 4000000 in
set_option maxRecDepth 100000 in
theorem cX_sour (l : Launch) (D : va_G) (d : Nat → ClassId) (H00 : Heap) (B : Nat → Nat) (τ : Nat → Nat → Int32) (ea : Nat) (hs : Nat → Option Nat) (ρ : va_W) (e0 : Nat) (F : Nat → Nat) (σ : ASt) (v : Int32) (hm : xRep d B e0 σ τ ea hs ρ F)  : cU l (KX D d) H00 D yX0_sour cX0_sour 3 (some .int) (rc 2 0 0) [.ref (B 0), .int v] (xw d B τ ea hs ρ) (xPost d B e0 (some (.int (f_sour σ v).1)) (f_sour σ v).2) := by
  refine cU_start RX0 rfl (by decide) (Nat.le_of_ble_eq_true rfl) ?_
  intro p e s m below meth c A hx hb hml hown hts hr hlk hnm hK hA hAN hZ hu ls hl
  have hl : lv_has ls 3 [(0, .ref (B 0)), (1, .int v)] := hl
  have hok := hm.ok
  have hD6 : aD σ ≤ 6 := hok.1
  have hE4 : aE σ ≤ 4 := hok.2.1
  have h64 := pow6 hD6
  have hd := hm.day
  have hd6 := hD6
  have hE := hm.eat
  have hL := hm.lst
  have hno := hm.no
  have hR8 : aR σ ≤ 8 := hok.2.2.2.1
  refine lv_iload_n hx hb dX0_sour_0 rfl (lv_at hl 1 rfl) ?_
  refine callR_S (rest := []) hx hb hml hown hts KX_st hK (cX_isDigit l D d v) (wX0_isDigit hts ⟨Nat.le_of_ble_eq_true rfl, Nat.le_of_ble_eq_true rfl⟩) trivial rfl hl.1 rfl (Nat.le_of_ble_eq_true rfl) dX0_sour_1 ⟨Nat.le_of_ble_eq_true rfl, Nat.le_of_ble_eq_true rfl⟩ ?_
  refine bz_ne (tgt := 10) hx hb dX0_sour_4 (by decide) (fun c1 => ?_) (fun c1 => ?_)
  · refine lv_aload_n hx hb dX0_sour_10 rfl (lv_at hl 0 rfl) ?_
    refine callR_V (rest := []) hx hb hml hown hts KX_st hK (cX_isDuchy l D d B τ ea hs ρ) (wX0_isDuchy hts ⟨Nat.le_of_ble_eq_true rfl, Nat.le_of_ble_eq_true rfl⟩) (x_recv hK hu.1) hu.1 rfl hl.1 rfl (Nat.le_of_ble_eq_true rfl) dX0_sour_11 ⟨Nat.le_of_ble_eq_true rfl, Nat.le_of_ble_eq_true rfl⟩ ?_
    refine top_i hm.duchy ?_
    refine bd_ne (tgt := 20) hx hb dX0_sour_14 (by decide) (fun c2 => ?_) (fun c2 => ?_)
    · refine lv_aload_n hx hb dX0_sour_20 rfl (lv_at hl 0 rfl) ?_
      refine xg3 hx hb hts hown hK hu.1 dX0_sour_21 ?_
      refine top_i (y := aI σ 2) (hm.sour) ?_
      refine lv_istore_n (lv' := [(2, .int (aI σ 2)), (0, .ref (B 0)), (1, .int v)]) hx hb dX0_sour_24 rfl hl (by decide) rfl (fun ls hl => ?_)
      refine lv_aload_n hx hb dX0_sour_25 rfl (lv_at hl 1 rfl) ?_
      refine lv_iload_n hx hb dX0_sour_26 rfl (lv_at hl 2 rfl) ?_
      refine xp3 hx hb hts hown hK hu dX0_sour_27 (fun H locs hu => ?_)
      refine lv_iload_n hx hb dX0_sour_30 rfl (lv_at hl 0 rfl) ?_
      exact rU_i hx hb hr hlk hu dX0_sour_31 (Nat.le_of_ble_eq_true rfl) (Nat.le_of_ble_eq_true rfl) (by rw [show f_sour σ v = (aI σ 2, uI σ 2 v) from by rw [f_sour, if_neg (bt_nf c1), if_neg c2]]; exact ⟨rfl, _, _, _, _, _, rfl, xRep_sour hm v⟩)
    · refine lv_bipush (v := (-3)) hx hb dX0_sour_17 (by decide) ?_
      exact rU_i hx hb hr hlk hu dX0_sour_19 (Nat.le_of_ble_eq_true rfl) (Nat.le_of_ble_eq_true rfl) (by rw [show f_sour σ v = ((-3), σ) from by rw [f_sour, if_neg (bt_nf c1), if_pos c2]]; exact ⟨rfl, _, _, _, _, _, rfl, hm⟩)
  · refine lv_bipush (v := (-2)) hx hb dX0_sour_7 (by decide) ?_
    exact rU_i hx hb hr hlk hu dX0_sour_9 (Nat.le_of_ble_eq_true rfl) (Nat.le_of_ble_eq_true rfl) (by rw [show f_sour σ v = ((-2), σ) from by rw [f_sour, if_pos c1]]; exact ⟨rfl, _, _, _, _, _, rfl, hm⟩)

set_option maxHeartbeats 4000000 in
set_option maxRecDepth 100000 in
theorem cX_crave (l : Launch) (D : va_G) (d : Nat → ClassId) (H00 : Heap) (B : Nat → Nat) (τ : Nat → Nat → Int32) (ea : Nat) (hs : Nat → Option Nat) (ρ : va_W) (e0 : Nat) (F : Nat → Nat) (σ : ASt) (x v : Int32) (hm : xRep d B e0 σ τ ea hs ρ F)  : cU l (KX D d) H00 D yX0_crave cX0_crave 4 (some .int) (rc 3 0 0) [.ref (B 0), .int x, .int v] (xw d B τ ea hs ρ) (xPost d B e0 (some (.int (f_crave σ x v).1)) (f_crave σ x v).2) := by
  refine cU_start RX0 rfl (by decide) (Nat.le_of_ble_eq_true rfl) ?_
  intro p e s m below meth c A hx hb hml hown hts hr hlk hnm hK hA hAN hZ hu ls hl
  have hl : lv_has ls 4 [(0, .ref (B 0)), (1, .int x), (2, .int v)] := hl
  have hok := hm.ok
  have hD6 : aD σ ≤ 6 := hok.1
  have hE4 : aE σ ≤ 4 := hok.2.1
  have h64 := pow6 hD6
  have hd := hm.day
  have hd6 := hD6
  have hE := hm.eat
  have hL := hm.lst
  have hno := hm.no
  have hR8 : aR σ ≤ 8 := hok.2.2.2.1
  refine lv_aload_n hx hb dX0_crave_0 rfl (lv_at hl 0 rfl) ?_
  refine lv_iload_n hx hb dX0_crave_1 rfl (lv_at hl 1 rfl) ?_
  refine callR_V (rest := []) hx hb hml hown hts KX_st hK (cX_isEater l D d B τ ea hs ρ e0 F (aE σ) (aD σ) (aN σ) x hE hL hd hd6) (wX0_isEater hts ⟨Nat.le_of_ble_eq_true rfl, Nat.le_of_ble_eq_true rfl⟩) (x_recv hK hu.1) hu.1 rfl hl.1 rfl (Nat.le_of_ble_eq_true rfl) dX0_crave_2 ⟨Nat.le_of_ble_eq_true rfl, Nat.le_of_ble_eq_true rfl⟩ ?_
  refine top_i (y := bI (isE σ x)) rfl ?_
  refine bz_ne (tgt := 10) hx hb dX0_crave_5 (by decide) (fun c1 => ?_) (fun c1 => ?_)
  · obtain ⟨jx, hjx, ej⟩ := isE_ix hok c1
    subst ej
    have ejx : ix (nI jx) = jx := nI_clamp (by omega)
    refine lv_iload_n hx hb dX0_crave_10 rfl (lv_at hl 2 rfl) ?_
    refine lv_i2l (v := v.toInt64) hx hb dX0_crave_11 rfl ?_
    refine lv_lconst (v := 0) hx hb dX0_crave_12 (by decide) ?_
    refine lv_ldc2 (v := 6) hx hb hown (hts _ q625) dX0_crave_13 ?_
    refine callR_S (rest := []) hx hb hml hown hts KX_st hK (cX_isIn l D d v.toInt64 0 6) (wX0_isIn hts ⟨Nat.le_of_ble_eq_true rfl, Nat.le_of_ble_eq_true rfl⟩) trivial rfl hl.1 rfl (Nat.le_of_ble_eq_true rfl) dX0_crave_16 ⟨Nat.le_of_ble_eq_true rfl, Nat.le_of_ble_eq_true rfl⟩ ?_
    refine bz_ne (tgt := 25) hx hb dX0_crave_19 (by decide) (fun c2 => ?_) (fun c2 => ?_)
    · obtain ⟨jv, hjv, ej⟩ := pIn_k (k := 6) (by decide) (by decide) c2
      subst ej
      have ejv : ix (nI jv) = jv := nI_clamp (by omega)
      refine lv_aload_n hx hb dX0_crave_25 rfl (lv_at hl 0 rfl) ?_
      refine xg2 hx hb hts hown hK hu.1 dX0_crave_26 ?_
      refine lv_iload_n hx hb dX0_crave_29 rfl (lv_at hl 1 rfl) ?_
      refine xr_get (rest := []) hx hb hml hown hts hK hu.1 hE hL hjx ⟨Nat.le_of_ble_eq_true rfl, Nat.le_of_ble_eq_true rfl⟩ ⟨Nat.le_of_ble_eq_true rfl, Nat.le_of_ble_eq_true rfl⟩ hl.1 (Nat.le_of_ble_eq_true rfl) dX0_crave_30 dX0_crave_35 ?_
      refine xr_need hx hb hown hts hK hu.1 hE hjx dX0_crave_38 ?_
      refine lv_istore_n (lv' := [(3, .int (nI ((aN σ) 3 jx))), (0, .ref (B 0)), (1, .int (nI jx)), (2, .int (nI jv))]) hx hb dX0_crave_41 rfl hl (by decide) rfl (fun ls hl => ?_)
      refine lv_aload_n hx hb dX0_crave_42 rfl (lv_at hl 1 rfl) ?_
      refine xg2 hx hb hts hown hK hu.1 dX0_crave_43 ?_
      refine lv_iload_n hx hb dX0_crave_46 rfl (lv_at hl 2 rfl) ?_
      refine xr_get (rest := []) hx hb hml hown hts hK hu.1 hE hL hjx ⟨Nat.le_of_ble_eq_true rfl, Nat.le_of_ble_eq_true rfl⟩ ⟨Nat.le_of_ble_eq_true rfl, Nat.le_of_ble_eq_true rfl⟩ hl.1 (Nat.le_of_ble_eq_true rfl) dX0_crave_47 dX0_crave_52 ?_
      refine lv_iload_n hx hb dX0_crave_55 rfl (lv_at hl 3 rfl) ?_
      refine xr_putneed hx hb hown hts hK hu hE hjx (by omega) dX0_crave_56 (fun H locs ρ1 hmv hE1 hu => ?_)
      refine lv_iload_n hx hb dX0_crave_59 rfl (lv_at hl 0 rfl) ?_
      exact rU_i hx hb hr hlk hu dX0_crave_60 (Nat.le_of_ble_eq_true rfl) (Nat.le_of_ble_eq_true rfl) (by rw [show f_crave σ (nI jx) (nI jv) = (nI (aN σ 3 jx), uN σ 3 jx jv) from by rw [f_crave, if_neg (bt_nf c1), if_neg (bt_nf c2)] <;> simp only [ejx, ejv]]; exact ⟨rfl, _, _, _, _, _, rfl, xRep_need hm (by omega) hmv hE1⟩)
    · refine lv_bipush (v := (-2)) hx hb dX0_crave_22 (by decide) ?_
      exact rU_i hx hb hr hlk hu dX0_crave_24 (Nat.le_of_ble_eq_true rfl) (Nat.le_of_ble_eq_true rfl) (by rw [show f_crave σ (nI jx) v = ((-2), σ) from by rw [f_crave, if_neg (bt_nf c1), if_pos c2] <;> simp only [ejx]]; exact ⟨rfl, _, _, _, _, _, rfl, hm⟩)
  · refine lv_iconst (v := (-1)) hx hb dX0_crave_8 (by decide) ?_
    exact rU_i hx hb hr hlk hu dX0_crave_9 (Nat.le_of_ble_eq_true rfl) (Nat.le_of_ble_eq_true rfl) (by rw [show f_crave σ x v = ((-1), σ) from by rw [f_crave, if_pos c1]]; exact ⟨rfl, _, _, _, _, _, rfl, hm⟩)

set_option maxHeartbeats 4000000 in
set_option maxRecDepth 100000 in
theorem cX_back (l : Launch) (D : va_G) (d : Nat → ClassId) (H00 : Heap) (B : Nat → Nat) (τ : Nat → Nat → Int32) (ea : Nat) (hs : Nat → Option Nat) (ρ : va_W) (e0 : Nat) (F : Nat → Nat) (σ : ASt) (k : Int32) (hm : xRep d B e0 σ τ ea hs ρ F)  : cU l (KX D d) H00 D yX0_back cX0_back 2 (some .int) (rc 1 0 0) [.ref (B 0), .int k] (xw d B τ ea hs ρ) (xPost d B e0 (some (.int (f_back σ k).1)) (f_back σ k).2) := by
  refine cU_start RX0 rfl (by decide) (Nat.le_of_ble_eq_true rfl) ?_
  intro p e s m below meth c A hx hb hml hown hts hr hlk hnm hK hA hAN hZ hu ls hl
  have hl : lv_has ls 2 [(0, .ref (B 0)), (1, .int k)] := hl
  have hok := hm.ok
  have hD6 : aD σ ≤ 6 := hok.1
  have hE4 : aE σ ≤ 4 := hok.2.1
  have h64 := pow6 hD6
  have hd := hm.day
  have hd6 := hD6
  have hE := hm.eat
  have hL := hm.lst
  have hno := hm.no
  have hR8 : aR σ ≤ 8 := hok.2.2.2.1
  refine lv_iload_n hx hb dX0_back_0 rfl (lv_at hl 1 rfl) ?_
  refine lv_i2l (v := k.toInt64) hx hb dX0_back_1 rfl ?_
  refine lv_lconst (v := 0) hx hb dX0_back_2 (by decide) ?_
  refine lv_aload_n hx hb dX0_back_3 rfl (lv_at hl 0 rfl) ?_
  refine xg14 hx hb hts hown hK hu.1 dX0_back_4 ?_
  refine top_i (y := nI (aR σ)) (hm.rd.1) ?_
  refine lv_i2l (v := (nI (aR σ)).toInt64) hx hb dX0_back_7 rfl ?_
  refine callR_S (rest := []) hx hb hml hown hts KX_st hK (cX_isIn l D d k.toInt64 0 ((nI (aR σ)).toInt64)) (wX0_isIn hts ⟨Nat.le_of_ble_eq_true rfl, Nat.le_of_ble_eq_true rfl⟩) trivial rfl hl.1 rfl (Nat.le_of_ble_eq_true rfl) dX0_back_8 ⟨Nat.le_of_ble_eq_true rfl, Nat.le_of_ble_eq_true rfl⟩ ?_
  refine bz_ne (tgt := 17) hx hb dX0_back_11 (by decide) (fun c1 => ?_) (fun c1 => ?_)
  · obtain ⟨jk, hjk, ej⟩ := pIn_k (k := aR σ) (by omega) (nI_l (by omega)) c1
    subst ej
    have ejk : ix (nI jk) = jk := nI_clamp (by omega)
    refine lv_aload_n hx hb dX0_back_17 rfl (lv_at hl 0 rfl) ?_
    refine lv_dup hx hb dX0_back_18 rfl ?_
    refine xg14 hx hb hts hown hK hu.1 dX0_back_19 ?_
    refine top_i (y := nI (aR σ)) (hm.rd.1) ?_
    refine lv_iload_n hx hb dX0_back_22 rfl (lv_at hl 1 rfl) ?_
    refine lv_isub hx hb dX0_back_23 ?_
    refine top_i (y := nI (aR σ - jk)) (pk_sub hjk) ?_
    refine xp14 hx hb hts hown hK hu dX0_back_24 (fun H locs hu => ?_)
    refine lv_aload_n hx hb dX0_back_27 rfl (lv_at hl 0 rfl) ?_
    refine xg14 hx hb hts hown hK hu.1 dX0_back_28 ?_
    refine top_i (y := nI (aR σ - jk)) rfl ?_
    exact rU_i hx hb hr hlk hu dX0_back_31 (Nat.le_of_ble_eq_true rfl) (Nat.le_of_ble_eq_true rfl) (by rw [show f_back σ (nI jk) = (nI (aR σ - jk), uN σ 7 2 (aR σ - jk)) from by rw [f_back, if_neg (bt_nf c1)] <;> simp only [ejk]]; exact ⟨rfl, _, _, _, _, _, rfl, xRep_back hm (Nat.sub_le _ _)⟩)
  · refine lv_bipush (v := (-2)) hx hb dX0_back_14 (by decide) ?_
    exact rU_i hx hb hr hlk hu dX0_back_16 (Nat.le_of_ble_eq_true rfl) (Nat.le_of_ble_eq_true rfl) (by rw [show f_back σ k = ((-2), σ) from by rw [f_back, if_pos c1]]; exact ⟨rfl, _, _, _, _, _, rfl, hm⟩)

set_option maxHeartbeats 4000000 in
set_option maxRecDepth 100000 in
theorem cX_reading (l : Launch) (D : va_G) (d : Nat → ClassId) (H00 : Heap) (B : Nat → Nat) (τ : Nat → Nat → Int32) (ea : Nat) (hs : Nat → Option Nat) (ρ : va_W) (e0 : Nat) (F : Nat → Nat) (σ : ASt) (x z y : Int32) (b : Bool) (hm : xRep d B e0 σ τ ea hs ρ F)  : cU l (KX D d) H00 D yX0_reading cX0_reading 5 (some .int) (rc 2 0 0) [.ref (B 0), .int x, .int z, .int y, .int (bI b)] (xw d B τ ea hs ρ) (xPost d B e0 (some (.int (f_reading σ x z y b).1)) (f_reading σ x z y b).2) := by
  refine cU_start RX0 rfl (by decide) (Nat.le_of_ble_eq_true rfl) ?_
  intro p e s m below meth c A hx hb hml hown hts hr hlk hnm hK hA hAN hZ hu ls hl
  have hl : lv_has ls 5 [(0, .ref (B 0)), (1, .int x), (2, .int z), (3, .int y), (4, .int (bI b))] := hl
  have hok := hm.ok
  have hD6 : aD σ ≤ 6 := hok.1
  have hE4 : aE σ ≤ 4 := hok.2.1
  have h64 := pow6 hD6
  have hd := hm.day
  have hd6 := hD6
  have hE := hm.eat
  have hL := hm.lst
  have hno := hm.no
  have hR8 : aR σ ≤ 8 := hok.2.2.2.1
  refine lv_aload_n hx hb dX0_reading_0 rfl (lv_at hl 0 rfl) ?_
  refine lv_iload_n hx hb dX0_reading_1 rfl (lv_at hl 1 rfl) ?_
  refine callR_V (rest := []) hx hb hml hown hts KX_st hK (cX_isEater l D d B τ ea hs ρ e0 F (aE σ) (aD σ) (aN σ) x hE hL hd hd6) (wX0_isEater hts ⟨Nat.le_of_ble_eq_true rfl, Nat.le_of_ble_eq_true rfl⟩) (x_recv hK hu.1) hu.1 rfl hl.1 rfl (Nat.le_of_ble_eq_true rfl) dX0_reading_2 ⟨Nat.le_of_ble_eq_true rfl, Nat.le_of_ble_eq_true rfl⟩ ?_
  refine top_i (y := bI (isE σ x)) rfl ?_
  refine bz_ne (tgt := 10) hx hb dX0_reading_5 (by decide) (fun c1 => ?_) (fun c1 => ?_)
  · obtain ⟨jx, hjx, ej⟩ := isE_ix hok c1
    subst ej
    have ejx : ix (nI jx) = jx := nI_clamp (by omega)
    refine lv_aload_n hx hb dX0_reading_10 rfl (lv_at hl 0 rfl) ?_
    refine lv_iload_n hx hb dX0_reading_11 rfl (lv_at hl 2 rfl) ?_
    refine callR_V (rest := []) hx hb hml hown hts KX_st hK (cX_isSet l D d B τ ea hs ρ z) (wX0_isSet hts ⟨Nat.le_of_ble_eq_true rfl, Nat.le_of_ble_eq_true rfl⟩) (x_recv hK hu.1) hu.1 rfl hl.1 rfl (Nat.le_of_ble_eq_true rfl) dX0_reading_12 ⟨Nat.le_of_ble_eq_true rfl, Nat.le_of_ble_eq_true rfl⟩ ?_
    refine top_i (hm.isT z) ?_
    refine bz_ne (tgt := 21) hx hb dX0_reading_15 (by decide) (fun c2 => ?_) (fun c2 => ?_)
    · obtain ⟨jz, hjz, ej⟩ := isT_ix hok c2
      subst ej
      have ejz : ix (nI jz) = jz := nI_clamp (by omega)
      refine lv_aload_n hx hb dX0_reading_21 rfl (lv_at hl 0 rfl) ?_
      refine lv_iload_n hx hb dX0_reading_22 rfl (lv_at hl 3 rfl) ?_
      refine callR_V (rest := []) hx hb hml hown hts KX_st hK (cX_isDay l D d B τ ea hs ρ y) (wX0_isDay hts ⟨Nat.le_of_ble_eq_true rfl, Nat.le_of_ble_eq_true rfl⟩) (x_recv hK hu.1) hu.1 rfl hl.1 rfl (Nat.le_of_ble_eq_true rfl) dX0_reading_23 ⟨Nat.le_of_ble_eq_true rfl, Nat.le_of_ble_eq_true rfl⟩ ?_
      refine top_i (hm.isD y) ?_
      refine bz_ne (tgt := 31) hx hb dX0_reading_26 (by decide) (fun c3 => ?_) (fun c3 => ?_)
      · obtain ⟨jy, hjy, ej⟩ := isD_ix hok c3
        subst ej
        have ejy : ix (nI jy) = jy := nI_clamp (by omega)
        refine lv_aload_n hx hb dX0_reading_31 rfl (lv_at hl 0 rfl) ?_
        refine xg14 hx hb hts hown hK hu.1 dX0_reading_32 ?_
        refine top_i (y := nI (aR σ)) (hm.rd.1) ?_
        refine lv_bipush (v := nI 8) hx hb dX0_reading_35 (by decide) ?_
        refine nc_ne (tgt := 43) hx hb dX0_reading_37 (by decide) (by omega) (by omega) (fun c4 => ?_) (fun c4 => ?_)
        · refine lv_aload_n hx hb dX0_reading_43 rfl (lv_at hl 0 rfl) ?_
          refine xg15 hx hb hts hown hK hu.1 dX0_reading_44 ?_
          refine lv_aload_n hx hb dX0_reading_47 rfl (lv_at hl 0 rfl) ?_
          refine xg14 hx hb hts hown hK hu.1 dX0_reading_48 ?_
          refine top_i (y := nI (aR σ)) (hm.rd.1) ?_
          refine lv_iload_n hx hb dX0_reading_51 rfl (lv_at hl 1 rfl) ?_
          refine xs15 hx hb hK hu (by omega) dX0_reading_52 (fun H locs hu => ?_)
          refine lv_aload_n hx hb dX0_reading_53 rfl (lv_at hl 0 rfl) ?_
          refine xg16 hx hb hts hown hK hu.1 dX0_reading_54 ?_
          refine lv_aload_n hx hb dX0_reading_57 rfl (lv_at hl 0 rfl) ?_
          refine xg14 hx hb hts hown hK hu.1 dX0_reading_58 ?_
          refine top_i (y := τ 14 0) rfl ?_
          refine top_i (y := nI (aR σ)) (hm.rd.1) ?_
          refine lv_iload_n hx hb dX0_reading_61 rfl (lv_at hl 2 rfl) ?_
          refine xs16 hx hb hK hu (by omega) dX0_reading_62 (fun H locs hu => ?_)
          refine lv_aload_n hx hb dX0_reading_63 rfl (lv_at hl 0 rfl) ?_
          refine xg17 hx hb hts hown hK hu.1 dX0_reading_64 ?_
          refine lv_aload_n hx hb dX0_reading_67 rfl (lv_at hl 0 rfl) ?_
          refine xg14 hx hb hts hown hK hu.1 dX0_reading_68 ?_
          refine top_i (y := τ 14 0) rfl ?_
          refine top_i (y := nI (aR σ)) (hm.rd.1) ?_
          refine lv_iload_n hx hb dX0_reading_71 rfl (lv_at hl 3 rfl) ?_
          refine xs17 hx hb hK hu (by omega) dX0_reading_72 (fun H locs hu => ?_)
          refine lv_aload_n hx hb dX0_reading_73 rfl (lv_at hl 0 rfl) ?_
          refine xg18 hx hb hts hown hK hu.1 dX0_reading_74 ?_
          refine lv_aload_n hx hb dX0_reading_77 rfl (lv_at hl 0 rfl) ?_
          refine xg14 hx hb hts hown hK hu.1 dX0_reading_78 ?_
          refine top_i (y := τ 14 0) rfl ?_
          refine top_i (y := nI (aR σ)) (hm.rd.1) ?_
          refine lv_iload hx hb dX0_reading_81 (lv_at hl 4 rfl) ?_
          refine xs18 (v := b) hx hb hK hu (by omega) dX0_reading_83 (fun H locs hu => ?_)
          refine lv_aload_n hx hb dX0_reading_84 rfl (lv_at hl 0 rfl) ?_
          refine lv_dup hx hb dX0_reading_85 rfl ?_
          refine xg14 hx hb hts hown hK hu.1 dX0_reading_86 ?_
          refine top_i (y := τ 14 0) rfl ?_
          refine top_i (y := nI (aR σ)) (hm.rd.1) ?_
          refine lv_iconst (v := 1) hx hb dX0_reading_89 (by decide) ?_
          refine lv_iadd hx hb dX0_reading_90 ?_
          refine top_i (y := nI (aR σ + 1)) (nI_1 _) ?_
          refine xp14 hx hb hts hown hK hu dX0_reading_91 (fun H locs hu => ?_)
          refine lv_aload_n hx hb dX0_reading_94 rfl (lv_at hl 0 rfl) ?_
          refine xg14 hx hb hts hown hK hu.1 dX0_reading_95 ?_
          refine top_i (y := nI (aR σ + 1)) rfl ?_
          refine lv_iconst (v := 1) hx hb dX0_reading_98 (by decide) ?_
          refine lv_isub hx hb dX0_reading_99 ?_
          refine top_i (y := nI (aR σ)) (nI_pred _) ?_
          exact rU_i hx hb hr hlk hu dX0_reading_100 (Nat.le_of_ble_eq_true rfl) (Nat.le_of_ble_eq_true rfl) (by rw [show f_reading σ (nI jx) (nI jz) (nI jy) b = (nI (aR σ), uN (uB (uN (uN (uN σ 4 (aR σ) jx) 5 (aR σ) jz) 6 (aR σ) jy) (aR σ) b) 7 2 (aR σ + 1)) from by rw [f_reading, if_neg (bt_nf c1), if_neg (bt_nf c2), if_neg (bt_nf c3), if_neg c4] <;> simp only [ejx, ejz, ejy]]; exact ⟨rfl, _, _, _, _, _, rfl, xRep_reading hm hjx hjz hjy c4⟩)
        · refine lv_bipush (v := (-4)) hx hb dX0_reading_40 (by decide) ?_
          exact rU_i hx hb hr hlk hu dX0_reading_42 (Nat.le_of_ble_eq_true rfl) (Nat.le_of_ble_eq_true rfl) (by rw [show f_reading σ (nI jx) (nI jz) (nI jy) b = ((-4), σ) from by rw [f_reading, if_neg (bt_nf c1), if_neg (bt_nf c2), if_neg (bt_nf c3), if_pos c4] <;> simp only [ejx, ejz, ejy]]; exact ⟨rfl, _, _, _, _, _, rfl, hm⟩)
      · refine lv_iconst (v := (-1)) hx hb dX0_reading_29 (by decide) ?_
        exact rU_i hx hb hr hlk hu dX0_reading_30 (Nat.le_of_ble_eq_true rfl) (Nat.le_of_ble_eq_true rfl) (by rw [show f_reading σ (nI jx) (nI jz) y b = ((-1), σ) from by rw [f_reading, if_neg (bt_nf c1), if_neg (bt_nf c2), if_pos c3] <;> simp only [ejx, ejz]]; exact ⟨rfl, _, _, _, _, _, rfl, hm⟩)
    · refine lv_bipush (v := (-2)) hx hb dX0_reading_18 (by decide) ?_
      exact rU_i hx hb hr hlk hu dX0_reading_20 (Nat.le_of_ble_eq_true rfl) (Nat.le_of_ble_eq_true rfl) (by rw [show f_reading σ (nI jx) z y b = ((-2), σ) from by rw [f_reading, if_neg (bt_nf c1), if_pos c2] <;> simp only [ejx]]; exact ⟨rfl, _, _, _, _, _, rfl, hm⟩)
  · refine lv_iconst (v := (-1)) hx hb dX0_reading_8 (by decide) ?_
    exact rU_i hx hb hr hlk hu dX0_reading_9 (Nat.le_of_ble_eq_true rfl) (Nat.le_of_ble_eq_true rfl) (by rw [show f_reading σ x z y b = ((-1), σ) from by rw [f_reading, if_pos c1]]; exact ⟨rfl, _, _, _, _, _, rfl, hm⟩)

set_option maxHeartbeats 4000000 in
set_option maxRecDepth 100000 in
theorem cX_stays (l : Launch) (D : va_G) (d : Nat → ClassId) (H00 : Heap) (B : Nat → Nat) (τ : Nat → Nat → Int32) (ea : Nat) (hs : Nat → Option Nat) (ρ : va_W) (e0 : Nat) (F : Nat → Nat) (σ : ASt) (x : Int32) (hm : xRep d B e0 σ τ ea hs ρ F)  : cU l (KX D d) H00 D yX0_stays cX0_stays 5 (some .int) (rc 8 0 0) [.ref (B 0), .int x] (xw d B τ ea hs ρ) (xPost d B e0 (some (.int (f_stays σ x))) σ) := by
  refine cU_start RX0 rfl (by decide) (Nat.le_of_ble_eq_true rfl) ?_
  intro p e s m below meth c A hx hb hml hown hts hr hlk hnm hK hA hAN hZ hu ls hl
  have hl : lv_has ls 5 [(0, .ref (B 0)), (1, .int x)] := hl
  have hok := hm.ok
  have hD6 : aD σ ≤ 6 := hok.1
  have hE4 : aE σ ≤ 4 := hok.2.1
  have h64 := pow6 hD6
  have hd := hm.day
  have hd6 := hD6
  have hE := hm.eat
  have hL := hm.lst
  have hno := hm.no
  have hR8 : aR σ ≤ 8 := hok.2.2.2.1
  refine lv_aload_n hx hb dX0_stays_0 rfl (lv_at hl 0 rfl) ?_
  refine lv_iload_n hx hb dX0_stays_1 rfl (lv_at hl 1 rfl) ?_
  refine callR_V (rest := []) hx hb hml hown hts KX_st hK (cX_isEater l D d B τ ea hs ρ e0 F (aE σ) (aD σ) (aN σ) x hE hL hd hd6) (wX0_isEater hts ⟨Nat.le_of_ble_eq_true rfl, Nat.le_of_ble_eq_true rfl⟩) (x_recv hK hu.1) hu.1 rfl hl.1 rfl (Nat.le_of_ble_eq_true rfl) dX0_stays_2 ⟨Nat.le_of_ble_eq_true rfl, Nat.le_of_ble_eq_true rfl⟩ ?_
  refine top_i (y := bI (isE σ x)) rfl ?_
  refine bz_ne (tgt := 10) hx hb dX0_stays_5 (by decide) (fun c1 => ?_) (fun c1 => ?_)
  · obtain ⟨jx, hjx, ej⟩ := isE_ix hok c1
    subst ej
    have ejx : ix (nI jx) = jx := nI_clamp (by omega)
    refine lv_aload_n hx hb dX0_stays_10 rfl (lv_at hl 0 rfl) ?_
    refine xg2 hx hb hts hown hK hu.1 dX0_stays_11 ?_
    refine lv_iload_n hx hb dX0_stays_14 rfl (lv_at hl 1 rfl) ?_
    refine xr_get (rest := []) hx hb hml hown hts hK hu.1 hE hL hjx ⟨Nat.le_of_ble_eq_true rfl, Nat.le_of_ble_eq_true rfl⟩ ⟨Nat.le_of_ble_eq_true rfl, Nat.le_of_ble_eq_true rfl⟩ hl.1 (Nat.le_of_ble_eq_true rfl) dX0_stays_15 dX0_stays_20 ?_
    refine lv_astore_n (lv' := [(2, .ref (F jx)), (0, .ref (B 0)), (1, .int (nI jx))]) hx hb dX0_stays_23 rfl hl (by decide) rfl (fun ls hl => ?_)
    refine lv_aload_n hx hb dX0_stays_24 rfl (lv_at hl 0 rfl) ?_
    refine xr_stay hx hb hown hts hK hu.1 hE hjx dX0_stays_25 ?_
    refine lv_istore_n (lv' := [(3, .int (nI ((aN σ) 1 jx))), (2, .ref (F jx)), (0, .ref (B 0)), (1, .int (nI jx))]) hx hb dX0_stays_28 rfl hl (by decide) rfl (fun ls hl => ?_)
    refine lv_iconst (v := nI 0) hx hb dX0_stays_29 (by decide) ?_
    refine lv_istore (lv' := [(4, .int (nI 0)), (3, .int (nI ((aN σ) 1 jx))), (2, .ref (F jx)), (0, .ref (B 0)), (1, .int (nI jx))]) hx hb dX0_stays_30 hl (by decide) rfl (fun ls hl => ?_)
    refine lv_aload_n hx hb dX0_stays_32 rfl (lv_at hl 2 rfl) ?_
    refine lv_iconst (v := nI 0) hx hb dX0_stays_33 (by decide) ?_
    refine xr_putstay hx hb hown hts hK hu hE hjx (by omega) dX0_stays_34 (fun H locs ρ1 hmv hE1 hu => ?_)
    refine lp_U (σ := Nat × va_W) (fun n37 zz => zz.1 + n37 = 6 ∧ zz.1 ≤ 6 ∧ xMv ρ zz.2 ∧ xEat zz.2 (B 0) τ (aE σ) (upN (aN σ) 1 jx zz.1) F) (fun zz => [(4, .int (nI (setN (fun v => soN (upN (aN σ) 1 jx v) (aN σ) (aB σ) (aD σ) (aF σ) (aR σ)) zz.1))), (3, .int (nI (aN σ 1 jx))), (2, .ref (F jx)), (0, .ref (B 0)), (1, .int (nI jx))]) (fun zz => xw d B τ ea hs zz.2) (fun n37 zz hI ih37 H locs ls hu hl => ?_) 6 (0, ρ1) (⟨by omega, by omega, hmv, hE1⟩) (hu) hl
    obtain ⟨i, ρ2⟩ := zz
    have hI : i + n37 = 6 ∧ i ≤ 6 ∧ xMv ρ ρ2 ∧ xEat ρ2 (B 0) τ (aE σ) (upN (aN σ) 1 jx i) F := hI
    obtain ⟨hi, hi6, hmi, hEi⟩ := hI
    have hl : lv_has ls 5 [(4, .int (nI (setN (fun v => soN (upN (aN σ) 1 jx v) (aN σ) (aB σ) (aD σ) (aF σ) (aR σ)) i))), (3, .int (nI (aN σ 1 jx))), (2, .ref (F jx)), (0, .ref (B 0)), (1, .int (nI jx))] := hl
    have hu : uW D A s.heap H locs (xw d B τ ea hs ρ2) := hu
    refine lv_aload_n hx hb dX0_stays_37 rfl (lv_at hl 2 rfl) ?_
    refine xr_stay hx hb hown hts hK hu.1 hEi hjx dX0_stays_38 ?_
    refine top_i (y := nI i) (by rw [upN_eq]) ?_
    refine lv_iconst (v := nI 5) hx hb dX0_stays_41 (by decide) ?_
    refine nc_gt (tgt := 84) hx hb dX0_stays_42 (by decide) (by omega) (by omega) (fun c2 => ?_) (fun c2 => ?_)
    · have h6s := (hok.2.2.2.2.1 jx hjx).2.1
      refine lv_aload_n hx hb dX0_stays_84 rfl (lv_at hl 2 rfl) ?_
      refine lv_iload_n hx hb dX0_stays_85 rfl (lv_at hl 1 rfl) ?_
      refine xr_putstay hx hb hown hts hK hu hEi hjx (by omega) dX0_stays_86 (fun H locs ρ3 hmv hE3 hu => ?_)
      rw [upN_upN] at hE3
      rw [upN_self] at hE3
      refine lv_iload hx hb dX0_stays_89 (lv_at hl 0 rfl) ?_
      exact rU_i hx hb hr hlk hu dX0_stays_91 (Nat.le_of_ble_eq_true rfl) (Nat.le_of_ble_eq_true rfl) (⟨by rw [f_stays, if_neg (bt_nf c1)]; simp only [ejx]; rw [show i = 6 by omega], _, _, _, _, _, rfl, xRep_eat hm (hmi.tr hmv) hE3⟩)
    · refine lv_iload hx hb dX0_stays_45 (lv_at hl 0 rfl) ?_
      refine lv_aload_n hx hb dX0_stays_47 rfl (lv_at hl 3 rfl) ?_
      refine lv_aload_n hx hb dX0_stays_48 rfl (lv_at hl 3 rfl) ?_
      refine xg3 hx hb hts hown hK hu.1 dX0_stays_49 ?_
      refine top_i (y := aI σ 2) (hm.sour) ?_
      refine callR_V (rest := [.int (nI (setN (fun v => soN (upN (aN σ) 1 jx v) (aN σ) (aB σ) (aD σ) (aF σ) (aR σ)) i))]) hx hb hml hown hts KX_st hK (cX_areSo l D d B τ ea hs ρ2 e0 F (aE σ) (aD σ) (upN (aN σ) 1 jx i) (aI σ 2) (aR σ) (aN σ) (aB σ) hEi (hL.mv hmi) hd hd6 hm.rd hR8 hok.2.2.2.2.2.1) (wX0_areSo hts ⟨Nat.le_of_ble_eq_true rfl, Nat.le_of_ble_eq_true rfl⟩) (x_recv hK hu.1) hu.1 rfl hl.1 rfl (Nat.le_of_ble_eq_true rfl) dX0_stays_52 ⟨Nat.le_of_ble_eq_true rfl, Nat.le_of_ble_eq_true rfl⟩ ?_
      refine top_i (y := bI (soN (upN (aN σ) 1 jx i) (aN σ) (aB σ) (aD σ) (aF σ) (aR σ))) (by rw [hm.fasts]; rfl) ?_
      refine jn_i (ls := ls) (P := fun v => v = (if (soN (upN (aN σ) 1 jx i) (aN σ) (aB σ) (aD σ) (aF σ) (aR σ)) = false then (0 : Int32) else ((1 : Int32) <<< (nI i &&& 31)))) 68 [.int (nI (setN (fun v => soN (upN (aN σ) 1 jx v) (aN σ) (aB σ) (aD σ) (aF σ) (aR σ)) i))] (fun v ev => ?_) (fun kj3 => ?_)
      · refine lv_ior hx hb dX0_stays_68 ?_
        refine top_i (y := nI (setN (fun v => soN (upN (aN σ) 1 jx v) (aN σ) (aB σ) (aD σ) (aF σ) (aR σ)) (i + 1))) (by rw [ev]; exact set_step (p := (fun v => soN (upN (aN σ) 1 jx v) (aN σ) (aB σ) (aD σ) (aF σ) (aR σ))) (by omega)) ?_
        refine lv_istore (lv' := [(4, .int (nI (setN (fun v => soN (upN (aN σ) 1 jx v) (aN σ) (aB σ) (aD σ) (aF σ) (aR σ)) (i + 1)))), (3, .int (nI (aN σ 1 jx))), (2, .ref (F jx)), (0, .ref (B 0)), (1, .int (nI jx))]) hx hb dX0_stays_69 hl (by decide) rfl (fun ls hl => ?_)
        refine lv_aload_n hx hb dX0_stays_71 rfl (lv_at hl 2 rfl) ?_
        refine lv_dup hx hb dX0_stays_72 rfl ?_
        refine xr_stay hx hb hown hts hK hu.1 hEi hjx dX0_stays_73 ?_
        refine top_i (y := nI i) (by rw [upN_eq]) ?_
        refine lv_iconst (v := 1) hx hb dX0_stays_76 (by decide) ?_
        refine lv_iadd hx hb dX0_stays_77 ?_
        refine top_i (y := nI (i + 1)) (nI_1 _) ?_
        refine xr_putstay hx hb hown hts hK hu hEi hjx (by omega) dX0_stays_78 (fun H locs ρ3 hmv hE3 hu => ?_)
        rw [upN_upN] at hE3
        refine lv_goto (tgt := 37) hx hb dX0_stays_81 (by decide) ?_
        exact ih37 (n37 - 1) (i + 1, ρ3) _ _ ls (by omega) (⟨by omega, by omega, hmi.tr hmv, hE3⟩) hu (hl)
      · refine bz_eq (tgt := 67) hx hb dX0_stays_55 (by decide) (fun c4 => ?_) (fun c4 => ?_)
        · refine lv_iconst (v := 0) hx hb dX0_stays_67 (by decide) ?_
          exact kj3 _ (by rw [if_pos c4])
        · refine lv_iconst (v := 1) hx hb dX0_stays_58 (by decide) ?_
          refine lv_aload_n hx hb dX0_stays_59 rfl (lv_at hl 2 rfl) ?_
          refine xr_stay hx hb hown hts hK hu.1 hEi hjx dX0_stays_60 ?_
          refine top_i (y := nI i) (by rw [upN_eq]) ?_
          refine lv_ishl hx hb dX0_stays_63 ?_
          refine lv_goto (tgt := 68) hx hb dX0_stays_64 (by decide) ?_
          exact kj3 _ (by rw [if_neg (bt_nf c4)])
  · refine lv_iconst (v := (-1)) hx hb dX0_stays_8 (by decide) ?_
    exact rU_i hx hb hr hlk hu dX0_stays_9 (Nat.le_of_ble_eq_true rfl) (Nat.le_of_ble_eq_true rfl) (⟨by rw [f_stays, if_pos c1], _, _, _, _, _, rfl, hm⟩)

theorem xRep_kind {d : Nat → ClassId} {B : Nat → Nat} {e0 : Nat} {σ : ASt} {τ : Nat → Nat → Int32} {ea : Nat} {hs : Nat → Option Nat} {ρ : va_W} {F : Nat → Nat} (h : xRep d B e0 σ τ ea hs ρ F) (v w : Int32) : xRep d B e0 σ (put2 (put2 (put2 τ 6 0 v) 7 0 w) 6 0 (-9)) ea hs ρ F := by
  refine ⟨h.1, h.2.1, h.2.2.1, h.2.2.2.1, h.2.2.2.2.1, h.2.2.2.2.2.1, rfl, ⟨h.eat.1, fun a ha => ?_⟩, h.lst, h.rd, h.sh⟩
  obtain ⟨j, kd, hj, r1, r2, r3, r4, r5, r6⟩ := h.eat.2 a ha
  have h4 := h.ok.2.1
  refine ⟨j, kd, hj, r1, r2, r3, r4, Or.inr ⟨fun q => n6 a (by omega) (show (-9 : Int32) = nI a from q).symm, ?_⟩, r6⟩
  rcases r5 with r5 | r5
  · exact absurd (h.no.symm.trans r5.1).symm (n6 a (by omega))
  · exact r5.2
set_option maxHeartbeats 4000000 in
set_option maxRecDepth 100000 in
theorem cX_kinds (l : Launch) (D : va_G) (d : Nat → ClassId) (H00 : Heap) (B : Nat → Nat) (τ : Nat → Nat → Int32) (ea : Nat) (hs : Nat → Option Nat) (ρ : va_W) (e0 : Nat) (F : Nat → Nat) (σ : ASt) (x : Int32) (hm : xRep d B e0 σ τ ea hs ρ F)  : cU l (KX D d) H00 D yX0_kinds cX0_kinds 3 (some .int) (rc 8 0 0) [.ref (B 0), .int x] (xw d B τ ea hs ρ) (xPost d B e0 (some (.int (f_kinds σ x))) σ) := by
  refine cU_start RX0 rfl (by decide) (Nat.le_of_ble_eq_true rfl) ?_
  intro p e s m below meth c A hx hb hml hown hts hr hlk hnm hK hA hAN hZ hu ls hl
  have hl : lv_has ls 3 [(0, .ref (B 0)), (1, .int x)] := hl
  have hok := hm.ok
  have hD6 : aD σ ≤ 6 := hok.1
  have hE4 : aE σ ≤ 4 := hok.2.1
  have h64 := pow6 hD6
  have hd := hm.day
  have hd6 := hD6
  have hE := hm.eat
  have hL := hm.lst
  have hno := hm.no
  have hR8 : aR σ ≤ 8 := hok.2.2.2.1
  refine lv_aload_n hx hb dX0_kinds_0 rfl (lv_at hl 0 rfl) ?_
  refine lv_iload_n hx hb dX0_kinds_1 rfl (lv_at hl 1 rfl) ?_
  refine callR_V (rest := []) hx hb hml hown hts KX_st hK (cX_isEater l D d B τ ea hs ρ e0 F (aE σ) (aD σ) (aN σ) x hE hL hd hd6) (wX0_isEater hts ⟨Nat.le_of_ble_eq_true rfl, Nat.le_of_ble_eq_true rfl⟩) (x_recv hK hu.1) hu.1 rfl hl.1 rfl (Nat.le_of_ble_eq_true rfl) dX0_kinds_2 ⟨Nat.le_of_ble_eq_true rfl, Nat.le_of_ble_eq_true rfl⟩ ?_
  refine top_i (y := bI (isE σ x)) rfl ?_
  refine bz_ne (tgt := 10) hx hb dX0_kinds_5 (by decide) (fun c1 => ?_) (fun c1 => ?_)
  · obtain ⟨jx, hjx, ej⟩ := isE_ix hok c1
    subst ej
    have ejx : ix (nI jx) = jx := nI_clamp (by omega)
    refine lv_aload_n hx hb dX0_kinds_10 rfl (lv_at hl 0 rfl) ?_
    refine lv_iload_n hx hb dX0_kinds_11 rfl (lv_at hl 1 rfl) ?_
    refine xp6 hx hb hts hown hK hu dX0_kinds_12 (fun H locs hu => ?_)
    refine lv_iconst (v := nI 0) hx hb dX0_kinds_15 (by decide) ?_
    refine lv_istore_n (lv' := [(2, .int (nI 0)), (0, .ref (B 0)), (1, .int (nI jx))]) hx hb dX0_kinds_16 rfl hl (by decide) rfl (fun ls hl => ?_)
    refine lv_aload_n hx hb dX0_kinds_17 rfl (lv_at hl 1 rfl) ?_
    refine lv_iconst (v := nI 0) hx hb dX0_kinds_18 (by decide) ?_
    refine xp7 hx hb hts hown hK hu dX0_kinds_19 (fun H locs hu => ?_)
    refine lp_U (σ := Nat) (fun n22 zz => zz + n22 = 3) (fun zz => [(2, .int (nI (setN (fun v => soN (upN (aN σ) 0 jx v) (aN σ) (aB σ) (aD σ) (aF σ) (aR σ)) zz))), (0, .ref (B 0)), (1, .int (nI jx))]) (fun zz => xw d B (put2 (put2 τ 6 0 (nI jx)) 7 0 (nI zz)) ea hs ρ) (fun n22 zz hI ih22 H locs ls hu hl => ?_) 3 0 (by omega) (hu) hl
    obtain ⟨i, rfl⟩ : ∃ y, y = zz := ⟨_, rfl⟩
    have hI : i + n22 = 3 := hI
    obtain hi := hI
    have hl : lv_has ls 3 [(2, .int (nI (setN (fun v => soN (upN (aN σ) 0 jx v) (aN σ) (aB σ) (aD σ) (aF σ) (aR σ)) i))), (0, .ref (B 0)), (1, .int (nI jx))] := hl
    have hu : uW D A s.heap H locs (xw d B (put2 (put2 τ 6 0 (nI jx)) 7 0 (nI i)) ea hs ρ) := hu
    refine lv_aload_n hx hb dX0_kinds_22 rfl (lv_at hl 1 rfl) ?_
    refine xg7 hx hb hts hown hK hu.1 dX0_kinds_23 ?_
    refine top_i (y := nI i) (rfl) ?_
    refine lv_iconst (v := nI 3) hx hb dX0_kinds_26 (by decide) ?_
    refine nc_ge (tgt := 67) hx hb dX0_kinds_27 (by decide) (by omega) (by omega) (fun c2 => ?_) (fun c2 => ?_)
    · refine lv_aload_n hx hb dX0_kinds_67 rfl (lv_at hl 1 rfl) ?_
      refine lv_bipush (v := (-9)) hx hb dX0_kinds_68 (by decide) ?_
      refine xp6 hx hb hts hown hK hu dX0_kinds_70 (fun H locs hu => ?_)
      refine lv_iload_n hx hb dX0_kinds_73 rfl (lv_at hl 0 rfl) ?_
      exact rU_i hx hb hr hlk hu dX0_kinds_74 (Nat.le_of_ble_eq_true rfl) (Nat.le_of_ble_eq_true rfl) (⟨by rw [f_kinds, if_neg (bt_nf c1)]; simp only [ejx]; rw [show i = 3 by omega], _, _, _, _, _, rfl, xRep_kind hm (nI jx) (nI i)⟩)
    · refine lv_iload_n hx hb dX0_kinds_30 rfl (lv_at hl 0 rfl) ?_
      refine lv_aload_n hx hb dX0_kinds_31 rfl (lv_at hl 1 rfl) ?_
      refine lv_aload_n hx hb dX0_kinds_32 rfl (lv_at hl 1 rfl) ?_
      refine xg3 hx hb hts hown hK hu.1 dX0_kinds_33 ?_
      refine top_i (y := aI σ 2) (hm.sour) ?_
      refine callR_V (rest := [.int (nI (setN (fun v => soN (upN (aN σ) 0 jx v) (aN σ) (aB σ) (aD σ) (aF σ) (aR σ)) i))]) hx hb hml hown hts KX_st hK (cX_areSo l D d B (put2 (put2 τ 6 0 (nI jx)) 7 0 (nI i)) ea hs ρ e0 F (aE σ) (aD σ) (upN (aN σ) 0 jx i) (aI σ 2) (aR σ) (aN σ) (aB σ) (xEat_kind hE hno hjx (by omega)) hL hd hd6 hm.rd hR8 hok.2.2.2.2.2.1) (wX0_areSo hts ⟨Nat.le_of_ble_eq_true rfl, Nat.le_of_ble_eq_true rfl⟩) (x_recv hK hu.1) hu.1 rfl hl.1 rfl (Nat.le_of_ble_eq_true rfl) dX0_kinds_36 ⟨Nat.le_of_ble_eq_true rfl, Nat.le_of_ble_eq_true rfl⟩ ?_
      refine top_i (y := bI (soN (upN (aN σ) 0 jx i) (aN σ) (aB σ) (aD σ) (aF σ) (aR σ))) (by rw [show put2 (put2 τ 6 0 (nI jx)) 7 0 (nI i) 5 = τ 5 from rfl, hm.fasts]; rfl) ?_
      refine jn_i (ls := ls) (P := fun v => v = (if (soN (upN (aN σ) 0 jx i) (aN σ) (aB σ) (aD σ) (aF σ) (aR σ)) = false then (0 : Int32) else ((1 : Int32) <<< (nI i &&& 31)))) 52 [.int (nI (setN (fun v => soN (upN (aN σ) 0 jx v) (aN σ) (aB σ) (aD σ) (aF σ) (aR σ)) i))] (fun v ev => ?_) (fun kj3 => ?_)
      · refine lv_ior hx hb dX0_kinds_52 ?_
        refine top_i (y := nI (setN (fun v => soN (upN (aN σ) 0 jx v) (aN σ) (aB σ) (aD σ) (aF σ) (aR σ)) (i + 1))) (by rw [ev]; exact set_step (p := (fun v => soN (upN (aN σ) 0 jx v) (aN σ) (aB σ) (aD σ) (aF σ) (aR σ))) (by omega)) ?_
        refine lv_istore_n (lv' := [(2, .int (nI (setN (fun v => soN (upN (aN σ) 0 jx v) (aN σ) (aB σ) (aD σ) (aF σ) (aR σ)) (i + 1)))), (0, .ref (B 0)), (1, .int (nI jx))]) hx hb dX0_kinds_53 rfl hl (by decide) rfl (fun ls hl => ?_)
        refine lv_aload_n hx hb dX0_kinds_54 rfl (lv_at hl 1 rfl) ?_
        refine lv_dup hx hb dX0_kinds_55 rfl ?_
        refine xg7 hx hb hts hown hK hu.1 dX0_kinds_56 ?_
        refine top_i (y := nI i) (rfl) ?_
        refine lv_iconst (v := 1) hx hb dX0_kinds_59 (by decide) ?_
        refine lv_iadd hx hb dX0_kinds_60 ?_
        refine top_i (y := nI (i + 1)) (nI_1 _) ?_
        refine xp7 hx hb hts hown hK hu dX0_kinds_61 (fun H locs hu => ?_)
        rw [put2_put2] at hu
        refine lv_goto (tgt := 22) hx hb dX0_kinds_64 (by decide) ?_
        exact ih22 (n22 - 1) (i + 1) _ _ ls (by omega) (by omega) hu (hl)
      · refine bz_eq (tgt := 51) hx hb dX0_kinds_39 (by decide) (fun c4 => ?_) (fun c4 => ?_)
        · refine lv_iconst (v := 0) hx hb dX0_kinds_51 (by decide) ?_
          exact kj3 _ (by rw [if_pos c4])
        · refine lv_iconst (v := 1) hx hb dX0_kinds_42 (by decide) ?_
          refine lv_aload_n hx hb dX0_kinds_43 rfl (lv_at hl 1 rfl) ?_
          refine xg7 hx hb hts hown hK hu.1 dX0_kinds_44 ?_
          refine top_i (y := nI i) (rfl) ?_
          refine lv_ishl hx hb dX0_kinds_47 ?_
          refine lv_goto (tgt := 52) hx hb dX0_kinds_48 (by decide) ?_
          exact kj3 _ (by rw [if_neg (bt_nf c4)])
  · refine lv_iconst (v := (-1)) hx hb dX0_kinds_8 (by decide) ?_
    exact rU_i hx hb hr hlk hu dX0_kinds_9 (Nat.le_of_ble_eq_true rfl) (Nat.le_of_ble_eq_true rfl) (⟨by rw [f_kinds, if_pos c1], _, _, _, _, _, rfl, hm⟩)
