/-! X: calls that only read -/
theorem n9 {x : Nat} (h : x < 2 ^ 31) : ¬ nI x = -9 := fun e => by
  have := congrArg Int32.toInt e
  rw [nI_toInt h] at this
  have h9 : (-9 : Int32).toInt = -9 := by decide
  omega
set_option maxHeartbeats 4000000 in
set_option maxRecDepth 100000 in
theorem cX_look (l : Launch) (D : va_G) (d : Nat → ClassId) (B : Nat → Nat) (τ : Nat → Nat → Int32) (ea : Nat) (hs : Nat → Option Nat) (ρ : va_W) (e0 : Nat) (F : Nat → Nat) (σ : ASt) (x : Int32) (hm : xRep d B e0 σ τ ea hs ρ F)  : cR l (KX D d) yX0_look cX0_look 2 (some .int) (rk 2) [.ref (B 0), .int x] (va_P D vwCl (xw d B τ ea hs ρ)) (.int (f_look σ x)) := by
  refine cR_start RX0 rfl (by decide) (Nat.le_of_ble_eq_true rfl) ?_
  intro p e s m below meth c hx hb hml hown hts hr hlk hK hP ls hl
  have hl : lv_has ls 2 [(0, .ref (B 0)), (1, .int x)] := hl
  have hok := hm.ok
  have hD6 : aD σ ≤ 6 := hok.1
  have hE4 : aE σ ≤ 4 := hok.2.1
  have h64 := pow6 hD6
  have hd := hm.day
  have hd6 := hD6
  have hE := hm.eat
  have hL := hm.lst
  have hno := hm.no
  have hR8 : aR σ ≤ 8 := hok.2.2.2.1
  refine lv_aload_n hx hb dX0_look_0 rfl (lv_at hl 0 rfl) ?_
  refine lv_iload_n hx hb dX0_look_1 rfl (lv_at hl 1 rfl) ?_
  refine callR_V (rest := []) hx hb hml hown hts KX_st hK (cX_isDay l D d B τ ea hs ρ x) (wX0_isDay hts ⟨Nat.le_of_ble_eq_true rfl, Nat.le_of_ble_eq_true rfl⟩) (x_recv hK hP) hP rfl hl.1 rfl (Nat.le_of_ble_eq_true rfl) dX0_look_2 ⟨Nat.zero_le _, Nat.zero_le _⟩ ?_
  refine top_i (hm.isD x) ?_
  refine bz_eq (tgt := 17) hx hb dX0_look_5 (by decide) (fun c1 => ?_) (fun c1 => ?_)
  · refine lv_iconst (v := (-1)) hx hb dX0_look_17 (by decide) ?_
    exact rR_i hx hb hr hlk dX0_look_18 (by simp [f_look, c1])
  · obtain ⟨jx, hjx, ej⟩ := isD_ix hok c1
    subst ej
    have ejx : ix (nI jx) = jx := nI_clamp (by omega)
    refine lv_aload_n hx hb dX0_look_8 rfl (lv_at hl 0 rfl) ?_
    refine xg5 hx hb hts hown hK hP dX0_look_9 ?_
    refine lv_iload_n hx hb dX0_look_12 rfl (lv_at hl 1 rfl) ?_
    refine xa5 hx hb hK hP (by omega) dX0_look_13 ?_
    refine top_i (y := aL σ jx) (hm.look jx hjx) ?_
    refine lv_goto (tgt := 18) hx hb dX0_look_14 (by decide) ?_
    exact rR_i hx hb hr hlk dX0_look_18 (by simp [f_look, c1, ejx])

set_option maxHeartbeats 4000000 in
set_option maxRecDepth 100000 in
theorem cX_fasts (l : Launch) (D : va_G) (d : Nat → ClassId) (B : Nat → Nat) (τ : Nat → Nat → Int32) (ea : Nat) (hs : Nat → Option Nat) (ρ : va_W) (e0 : Nat) (F : Nat → Nat) (σ : ASt)  (hm : xRep d B e0 σ τ ea hs ρ F)  : cR l (KX D d) yX0_fasts cX0_fasts 1 (some .int) (rk 2) [.ref (B 0)] (va_P D vwCl (xw d B τ ea hs ρ)) (.int (f_fasts σ)) := by
  refine cR_start RX0 rfl (by decide) (Nat.le_of_ble_eq_true rfl) ?_
  intro p e s m below meth c hx hb hml hown hts hr hlk hK hP ls hl
  have hl : lv_has ls 1 [(0, .ref (B 0))] := hl
  have hok := hm.ok
  have hD6 : aD σ ≤ 6 := hok.1
  have hE4 : aE σ ≤ 4 := hok.2.1
  have h64 := pow6 hD6
  have hd := hm.day
  have hd6 := hD6
  have hE := hm.eat
  have hL := hm.lst
  have hno := hm.no
  have hR8 : aR σ ≤ 8 := hok.2.2.2.1
  refine lv_aload_n hx hb dX0_fasts_0 rfl (lv_at hl 0 rfl) ?_
  refine callR_V (rest := []) hx hb hml hown hts KX_st hK (cX_isDuchy l D d B τ ea hs ρ) (wX0_isDuchy hts ⟨Nat.le_of_ble_eq_true rfl, Nat.le_of_ble_eq_true rfl⟩) (x_recv hK hP) hP rfl hl.1 rfl (Nat.le_of_ble_eq_true rfl) dX0_fasts_1 ⟨Nat.zero_le _, Nat.zero_le _⟩ ?_
  refine top_i hm.duchy ?_
  refine bd_eq (tgt := 14) hx hb dX0_fasts_4 (by decide) (fun c1 => ?_) (fun c1 => ?_)
  · refine lv_bipush (v := (-3)) hx hb dX0_fasts_14 (by decide) ?_
    exact rR_i hx hb hr hlk dX0_fasts_16 (by rw [f_fasts, if_pos c1])
  · refine lv_aload_n hx hb dX0_fasts_7 rfl (lv_at hl 0 rfl) ?_
    refine callR_V (rest := []) hx hb hml hown hts KX_st hK (cX_fastsNow l D d B τ ea hs ρ (aD σ) hd hd6) (wX0_fastsNow hts ⟨Nat.le_of_ble_eq_true rfl, Nat.le_of_ble_eq_true rfl⟩) (x_recv hK hP) hP rfl hl.1 rfl (Nat.le_of_ble_eq_true rfl) dX0_fasts_8 ⟨Nat.zero_le _, Nat.zero_le _⟩ ?_
    refine top_i (y := nI (aF σ)) (by rw [hm.fast]) ?_
    refine lv_goto (tgt := 16) hx hb dX0_fasts_11 (by decide) ?_
    exact rR_i hx hb hr hlk dX0_fasts_16 (by rw [f_fasts, if_neg c1])

set_option maxHeartbeats 4000000 in
set_option maxRecDepth 100000 in
theorem cX_yellow (l : Launch) (D : va_G) (d : Nat → ClassId) (B : Nat → Nat) (τ : Nat → Nat → Int32) (ea : Nat) (hs : Nat → Option Nat) (ρ : va_W) (e0 : Nat) (F : Nat → Nat) (σ : ASt) (x z : Int32) (hm : xRep d B e0 σ τ ea hs ρ F)  : cR l (KX D d) yX0_yellow cX0_yellow 3 (some .int) (rk 6) [.ref (B 0), .int x, .int z] (va_P D vwCl (xw d B τ ea hs ρ)) (.int (f_yellow σ x z)) := by
  refine cR_start RX0 rfl (by decide) (Nat.le_of_ble_eq_true rfl) ?_
  intro p e s m below meth c hx hb hml hown hts hr hlk hK hP ls hl
  have hl : lv_has ls 3 [(0, .ref (B 0)), (1, .int x), (2, .int z)] := hl
  have hok := hm.ok
  have hD6 : aD σ ≤ 6 := hok.1
  have hE4 : aE σ ≤ 4 := hok.2.1
  have h64 := pow6 hD6
  have hd := hm.day
  have hd6 := hD6
  have hE := hm.eat
  have hL := hm.lst
  have hno := hm.no
  have hR8 : aR σ ≤ 8 := hok.2.2.2.1
  refine lv_aload_n hx hb dX0_yellow_0 rfl (lv_at hl 0 rfl) ?_
  refine lv_iload_n hx hb dX0_yellow_1 rfl (lv_at hl 1 rfl) ?_
  refine callR_V (rest := []) hx hb hml hown hts KX_st hK (cX_isEater l D d B τ ea hs ρ e0 F (aE σ) (aD σ) (aN σ) x hE hL hd hd6) (wX0_isEater hts ⟨Nat.le_of_ble_eq_true rfl, Nat.le_of_ble_eq_true rfl⟩) (x_recv hK hP) hP rfl hl.1 rfl (Nat.le_of_ble_eq_true rfl) dX0_yellow_2 ⟨Nat.zero_le _, Nat.zero_le _⟩ ?_
  refine top_i (y := bI (isE σ x)) rfl ?_
  refine bz_ne (tgt := 10) hx hb dX0_yellow_5 (by decide) (fun c1 => ?_) (fun c1 => ?_)
  · obtain ⟨jx, hjx, ej⟩ := isE_ix hok c1
    subst ej
    have ejx : ix (nI jx) = jx := nI_clamp (by omega)
    refine lv_aload_n hx hb dX0_yellow_10 rfl (lv_at hl 0 rfl) ?_
    refine lv_iload_n hx hb dX0_yellow_11 rfl (lv_at hl 2 rfl) ?_
    refine callR_V (rest := []) hx hb hml hown hts KX_st hK (cX_isSet l D d B τ ea hs ρ z) (wX0_isSet hts ⟨Nat.le_of_ble_eq_true rfl, Nat.le_of_ble_eq_true rfl⟩) (x_recv hK hP) hP rfl hl.1 rfl (Nat.le_of_ble_eq_true rfl) dX0_yellow_12 ⟨Nat.zero_le _, Nat.zero_le _⟩ ?_
    refine top_i (hm.isT z) ?_
    refine bz_eq (tgt := 38) hx hb dX0_yellow_15 (by decide) (fun c2 => ?_) (fun c2 => ?_)
    · refine lv_bipush (v := (-2)) hx hb dX0_yellow_38 (by decide) ?_
      exact rR_i hx hb hr hlk dX0_yellow_40 (by rw [f_yellow, if_neg (bt_nf c1), if_pos c2] <;> simp only [ejx])
    · obtain ⟨jz, hjz, ej⟩ := isT_ix hok c2
      subst ej
      have ejz : ix (nI jz) = jz := nI_clamp (by omega)
      refine lv_aload_n hx hb dX0_yellow_18 rfl (lv_at hl 0 rfl) ?_
      refine xg2 hx hb hts hown hK hP dX0_yellow_19 ?_
      refine lv_iload_n hx hb dX0_yellow_22 rfl (lv_at hl 1 rfl) ?_
      refine xr_get (rest := []) hx hb hml hown hts hK hP hE hL hjx ⟨Nat.le_of_ble_eq_true rfl, Nat.le_of_ble_eq_true rfl⟩ ⟨Nat.zero_le _, Nat.zero_le _⟩ hl.1 (Nat.le_of_ble_eq_true rfl) dX0_yellow_23 dX0_yellow_28 ?_
      refine lv_iload_n hx hb dX0_yellow_31 rfl (lv_at hl 2 rfl) ?_
      refine xr_yellow (rest := []) hx hb hml hown hts hK hP hE hjx hd hd6 hjz ⟨Nat.le_of_ble_eq_true rfl, Nat.le_of_ble_eq_true rfl⟩ ⟨Nat.zero_le _, Nat.zero_le _⟩ hl.1 (Nat.le_of_ble_eq_true rfl) dX0_yellow_32 ?_
      refine lv_goto (tgt := 40) hx hb dX0_yellow_35 (by decide) ?_
      exact rR_i hx hb hr hlk dX0_yellow_40 (by rw [f_yellow, if_neg (bt_nf c1), if_neg (bt_nf c2)] <;> simp only [ejx, ejz])
  · refine lv_iconst (v := (-1)) hx hb dX0_yellow_8 (by decide) ?_
    exact rR_i hx hb hr hlk dX0_yellow_9 (by rw [f_yellow, if_pos c1])

set_option maxHeartbeats 4000000 in
set_option maxRecDepth 100000 in
theorem cX_found (l : Launch) (D : va_G) (d : Nat → ClassId) (B : Nat → Nat) (τ : Nat → Nat → Int32) (ea : Nat) (hs : Nat → Option Nat) (ρ : va_W) (e0 : Nat) (F : Nat → Nat) (σ : ASt) (x z w : Int32) (hm : xRep d B e0 σ τ ea hs ρ F)  : cR l (KX D d) yX0_found cX0_found 5 (some .int) (rk 8) [.ref (B 0), .int x, .int z, .int w] (va_P D vwCl (xw d B τ ea hs ρ)) (.int (f_found σ x z w)) := by
  refine cR_start RX0 rfl (by decide) (Nat.le_of_ble_eq_true rfl) ?_
  intro p e s m below meth c hx hb hml hown hts hr hlk hK hP ls hl
  have hl : lv_has ls 5 [(0, .ref (B 0)), (1, .int x), (2, .int z), (3, .int w)] := hl
  have hok := hm.ok
  have hD6 : aD σ ≤ 6 := hok.1
  have hE4 : aE σ ≤ 4 := hok.2.1
  have h64 := pow6 hD6
  have hd := hm.day
  have hd6 := hD6
  have hE := hm.eat
  have hL := hm.lst
  have hno := hm.no
  have hR8 : aR σ ≤ 8 := hok.2.2.2.1
  refine lv_aload_n hx hb dX0_found_0 rfl (lv_at hl 0 rfl) ?_
  refine lv_iload_n hx hb dX0_found_1 rfl (lv_at hl 1 rfl) ?_
  refine callR_V (rest := []) hx hb hml hown hts KX_st hK (cX_isEater l D d B τ ea hs ρ e0 F (aE σ) (aD σ) (aN σ) x hE hL hd hd6) (wX0_isEater hts ⟨Nat.le_of_ble_eq_true rfl, Nat.le_of_ble_eq_true rfl⟩) (x_recv hK hP) hP rfl hl.1 rfl (Nat.le_of_ble_eq_true rfl) dX0_found_2 ⟨Nat.zero_le _, Nat.zero_le _⟩ ?_
  refine top_i (y := bI (isE σ x)) rfl ?_
  refine bz_ne (tgt := 10) hx hb dX0_found_5 (by decide) (fun c1 => ?_) (fun c1 => ?_)
  · obtain ⟨jx, hjx, ej⟩ := isE_ix hok c1
    subst ej
    have ejx : ix (nI jx) = jx := nI_clamp (by omega)
    refine lv_aload_n hx hb dX0_found_10 rfl (lv_at hl 0 rfl) ?_
    refine lv_iload_n hx hb dX0_found_11 rfl (lv_at hl 2 rfl) ?_
    refine callR_V (rest := []) hx hb hml hown hts KX_st hK (cX_isSet l D d B τ ea hs ρ z) (wX0_isSet hts ⟨Nat.le_of_ble_eq_true rfl, Nat.le_of_ble_eq_true rfl⟩) (x_recv hK hP) hP rfl hl.1 rfl (Nat.le_of_ble_eq_true rfl) dX0_found_12 ⟨Nat.zero_le _, Nat.zero_le _⟩ ?_
    refine top_i (hm.isT z) ?_
    refine bz_eq (tgt := 28) hx hb dX0_found_15 (by decide) (fun c2 => ?_) (fun c2 => ?_)
    · refine lv_bipush (v := (-2)) hx hb dX0_found_28 (by decide) ?_
      exact rR_i hx hb hr hlk dX0_found_30 (by rw [f_found, if_neg (bt_nf c1), if_pos c2] <;> simp only [ejx])
    · obtain ⟨jz, hjz, ej⟩ := isT_ix hok c2
      subst ej
      have ejz : ix (nI jz) = jz := nI_clamp (by omega)
      refine lv_iload_n hx hb dX0_found_18 rfl (lv_at hl 3 rfl) ?_
      refine lv_i2l (v := w.toInt64) hx hb dX0_found_19 rfl ?_
      refine lv_lconst (v := 0) hx hb dX0_found_20 (by decide) ?_
      refine lv_lconst (v := 1) hx hb dX0_found_21 (by decide) ?_
      refine callR_S (rest := []) hx hb hml hown hts KX_st hK (cX_isIn l D d w.toInt64 0 1) (wX0_isIn hts ⟨Nat.le_of_ble_eq_true rfl, Nat.le_of_ble_eq_true rfl⟩) trivial rfl hl.1 rfl (Nat.le_of_ble_eq_true rfl) dX0_found_22 ⟨Nat.zero_le _, Nat.zero_le _⟩ ?_
      refine bz_ne (tgt := 31) hx hb dX0_found_25 (by decide) (fun c3 => ?_) (fun c3 => ?_)
      · refine lv_aload_n hx hb dX0_found_31 rfl (lv_at hl 0 rfl) ?_
        refine xg2 hx hb hts hown hK hP dX0_found_32 ?_
        refine lv_iload_n hx hb dX0_found_35 rfl (lv_at hl 1 rfl) ?_
        refine xr_get (rest := []) hx hb hml hown hts hK hP hE hL hjx ⟨Nat.le_of_ble_eq_true rfl, Nat.le_of_ble_eq_true rfl⟩ ⟨Nat.zero_le _, Nat.zero_le _⟩ hl.1 (Nat.le_of_ble_eq_true rfl) dX0_found_36 dX0_found_41 ?_
        refine lv_astore (lv' := [(4, .ref (F jx)), (0, .ref (B 0)), (1, .int (nI jx)), (2, .int (nI jz)), (3, .int w)]) hx hb dX0_found_44 hl (by decide) rfl (fun ls hl => ?_)
        refine lv_iload_n hx hb dX0_found_46 rfl (lv_at hl 4 rfl) ?_
        refine lv_if_ne (tgt := 63) hx hb dX0_found_47 (by decide) (fun c4 => ?_) (fun c4 => ?_)
        · refine lv_aload hx hb dX0_found_63 (lv_at hl 0 rfl) ?_
          refine lv_iload_n hx hb dX0_found_65 rfl (lv_at hl 3 rfl) ?_
          refine lv_aload_n hx hb dX0_found_66 rfl (lv_at hl 1 rfl) ?_
          refine callR_V (rest := [.int (nI jz), .ref (F jx)]) hx hb hml hown hts KX_st hK (cX_fastsNow l D d B τ ea hs ρ (aD σ) hd hd6) (wX0_fastsNow hts ⟨Nat.le_of_ble_eq_true rfl, Nat.le_of_ble_eq_true rfl⟩) (x_recv hK hP) hP rfl hl.1 rfl (Nat.le_of_ble_eq_true rfl) dX0_found_67 ⟨Nat.zero_le _, Nat.zero_le _⟩ ?_
          refine top_i (y := nI (aF σ)) (by rw [hm.fast]) ?_
          refine xr_fine (rest := []) hx hb hml hown hts hK hP hE hjx hd hd6 hjz ⟨Nat.le_of_ble_eq_true rfl, Nat.le_of_ble_eq_true rfl⟩ ⟨Nat.zero_le _, Nat.zero_le _⟩ hl.1 (Nat.le_of_ble_eq_true rfl) dX0_found_70 ?_
          exact rR_i hx hb hr hlk dX0_found_73 (by rw [f_found, if_neg (bt_nf c1), if_neg (bt_nf c2), if_neg (bt_nf c3), if_neg c4] <;> simp only [ejx, ejz])
        · refine lv_aload hx hb dX0_found_50 (lv_at hl 0 rfl) ?_
          refine lv_iload_n hx hb dX0_found_52 rfl (lv_at hl 3 rfl) ?_
          refine lv_aload_n hx hb dX0_found_53 rfl (lv_at hl 1 rfl) ?_
          refine callR_V (rest := [.int (nI jz), .ref (F jx)]) hx hb hml hown hts KX_st hK (cX_fastsNow l D d B τ ea hs ρ (aD σ) hd hd6) (wX0_fastsNow hts ⟨Nat.le_of_ble_eq_true rfl, Nat.le_of_ble_eq_true rfl⟩) (x_recv hK hP) hP rfl hl.1 rfl (Nat.le_of_ble_eq_true rfl) dX0_found_54 ⟨Nat.zero_le _, Nat.zero_le _⟩ ?_
          refine top_i (y := nI (aF σ)) (by rw [hm.fast]) ?_
          refine xr_found (rest := []) hx hb hml hown hts hK hP hE hjx hd hd6 hjz ⟨Nat.le_of_ble_eq_true rfl, Nat.le_of_ble_eq_true rfl⟩ ⟨Nat.zero_le _, Nat.zero_le _⟩ hl.1 (Nat.le_of_ble_eq_true rfl) dX0_found_57 ?_
          refine lv_goto (tgt := 73) hx hb dX0_found_60 (by decide) ?_
          exact rR_i hx hb hr hlk dX0_found_73 (by rw [f_found, if_neg (bt_nf c1), if_neg (bt_nf c2), if_neg (bt_nf c3), if_pos c4] <;> simp only [ejx, ejz])
      · refine lv_bipush (v := (-2)) hx hb dX0_found_28 (by decide) ?_
        exact rR_i hx hb hr hlk dX0_found_30 (by rw [f_found, if_neg (bt_nf c1), if_neg (bt_nf c2), if_pos c3] <;> simp only [ejx, ejz])
  · refine lv_iconst (v := (-1)) hx hb dX0_found_8 (by decide) ?_
    exact rR_i hx hb hr hlk dX0_found_9 (by rw [f_found, if_pos c1])

set_option maxHeartbeats 4000000 in
set_option maxRecDepth 100000 in
theorem cX_ofEater (l : Launch) (D : va_G) (d : Nat → ClassId) (B : Nat → Nat) (τ : Nat → Nat → Int32) (ea : Nat) (hs : Nat → Option Nat) (ρ : va_W) (e0 : Nat) (F : Nat → Nat) (σ : ASt) (x w : Int32) (hm : xRep d B e0 σ τ ea hs ρ F)  : cR l (KX D d) yX0_ofEater cX0_ofEater 4 (some .int) (rk 4) [.ref (B 0), .int x, .int w] (va_P D vwCl (xw d B τ ea hs ρ)) (.int (f_ofEater σ x w)) := by
  refine cR_start RX0 rfl (by decide) (Nat.le_of_ble_eq_true rfl) ?_
  intro p e s m below meth c hx hb hml hown hts hr hlk hK hP ls hl
  have hl : lv_has ls 4 [(0, .ref (B 0)), (1, .int x), (2, .int w)] := hl
  have hok := hm.ok
  have hD6 : aD σ ≤ 6 := hok.1
  have hE4 : aE σ ≤ 4 := hok.2.1
  have h64 := pow6 hD6
  have hd := hm.day
  have hd6 := hD6
  have hE := hm.eat
  have hL := hm.lst
  have hno := hm.no
  have hR8 : aR σ ≤ 8 := hok.2.2.2.1
  refine lv_aload_n hx hb dX0_ofEater_0 rfl (lv_at hl 0 rfl) ?_
  refine lv_iload_n hx hb dX0_ofEater_1 rfl (lv_at hl 1 rfl) ?_
  refine callR_V (rest := []) hx hb hml hown hts KX_st hK (cX_isEater l D d B τ ea hs ρ e0 F (aE σ) (aD σ) (aN σ) x hE hL hd hd6) (wX0_isEater hts ⟨Nat.le_of_ble_eq_true rfl, Nat.le_of_ble_eq_true rfl⟩) (x_recv hK hP) hP rfl hl.1 rfl (Nat.le_of_ble_eq_true rfl) dX0_ofEater_2 ⟨Nat.zero_le _, Nat.zero_le _⟩ ?_
  refine top_i (y := bI (isE σ x)) rfl ?_
  refine bz_ne (tgt := 10) hx hb dX0_ofEater_5 (by decide) (fun c1 => ?_) (fun c1 => ?_)
  · obtain ⟨jx, hjx, ej⟩ := isE_ix hok c1
    subst ej
    have ejx : ix (nI jx) = jx := nI_clamp (by omega)
    refine lv_aload_n hx hb dX0_ofEater_10 rfl (lv_at hl 0 rfl) ?_
    refine xg2 hx hb hts hown hK hP dX0_ofEater_11 ?_
    refine lv_iload_n hx hb dX0_ofEater_14 rfl (lv_at hl 1 rfl) ?_
    refine xr_get (rest := []) hx hb hml hown hts hK hP hE hL hjx ⟨Nat.le_of_ble_eq_true rfl, Nat.le_of_ble_eq_true rfl⟩ ⟨Nat.zero_le _, Nat.zero_le _⟩ hl.1 (Nat.le_of_ble_eq_true rfl) dX0_ofEater_15 dX0_ofEater_20 ?_
    refine lv_astore_n (lv' := [(3, .ref (F jx)), (0, .ref (B 0)), (1, .int (nI jx)), (2, .int w)]) hx hb dX0_ofEater_23 rfl hl (by decide) rfl (fun ls hl => ?_)
    refine lv_iload_n hx hb dX0_ofEater_24 rfl (lv_at hl 3 rfl) ?_
    rcases Decidable.em (w = 0) with k2 | k2
    · refine lv_tableIn (tgt := 60) hx hb dX0_ofEater_25 (by rw [k2]; decide) (by rw [k2]; decide) (by rw [k2]; rfl) (by decide) ?_
      refine lv_aload_n hx hb dX0_ofEater_60 rfl (lv_at hl 0 rfl) ?_
      refine xr_kind (rest := []) hx hb hml hown hts hK hP hE hjx hno ⟨Nat.le_of_ble_eq_true rfl, Nat.le_of_ble_eq_true rfl⟩ ⟨Nat.zero_le _, Nat.zero_le _⟩ hl.1 (Nat.le_of_ble_eq_true rfl) dX0_ofEater_61 ?_
      exact rR_i hx hb hr hlk dX0_ofEater_64 (by rw [f_ofEater, if_neg (bt_nf c1), if_pos k2] <;> simp only [ejx])
    · skip
      rcases Decidable.em (w = 1) with k3 | k3
      · refine lv_tableIn (tgt := 65) hx hb dX0_ofEater_25 (by rw [k3]; decide) (by rw [k3]; decide) (by rw [k3]; rfl) (by decide) ?_
        refine lv_aload_n hx hb dX0_ofEater_65 rfl (lv_at hl 0 rfl) ?_
        refine xr_stay hx hb hown hts hK hP hE hjx dX0_ofEater_66 ?_
        exact rR_i hx hb hr hlk dX0_ofEater_69 (by rw [f_ofEater, if_neg (bt_nf c1), if_neg k2, if_pos k3] <;> simp only [ejx])
      · skip
        rcases Decidable.em (w = 2) with k4 | k4
        · refine lv_tableIn (tgt := 70) hx hb dX0_ofEater_25 (by rw [k4]; decide) (by rw [k4]; decide) (by rw [k4]; rfl) (by decide) ?_
          refine lv_aload_n hx hb dX0_ofEater_70 rfl (lv_at hl 0 rfl) ?_
          refine xr_spoons hx hb hown hts hK hP hE hjx dX0_ofEater_71 ?_
          exact rR_i hx hb hr hlk dX0_ofEater_74 (by rw [f_ofEater, if_neg (bt_nf c1), if_neg k2, if_neg k3, if_pos k4] <;> simp only [ejx])
        · skip
          rcases Decidable.em (w = 3) with k5 | k5
          · refine lv_tableIn (tgt := 75) hx hb dX0_ofEater_25 (by rw [k5]; decide) (by rw [k5]; decide) (by rw [k5]; rfl) (by decide) ?_
            refine lv_aload_n hx hb dX0_ofEater_75 rfl (lv_at hl 0 rfl) ?_
            refine xr_need hx hb hown hts hK hP hE hjx dX0_ofEater_76 ?_
            exact rR_i hx hb hr hlk dX0_ofEater_79 (by rw [f_ofEater, if_neg (bt_nf c1), if_neg k2, if_neg k3, if_neg k4, if_pos k5] <;> simp only [ejx])
          · skip
            rcases Decidable.em (w = 4) with k6 | k6
            · refine lv_tableIn (tgt := 80) hx hb dX0_ofEater_25 (by rw [k6]; decide) (by rw [k6]; decide) (by rw [k6]; rfl) (by decide) ?_
              refine lv_aload_n hx hb dX0_ofEater_80 rfl (lv_at hl 0 rfl) ?_
              refine xr_lasts (rest := []) hx hb hml hown hts hK hP hE hjx hno ⟨Nat.le_of_ble_eq_true rfl, Nat.le_of_ble_eq_true rfl⟩ ⟨Nat.zero_le _, Nat.zero_le _⟩ hl.1 (Nat.le_of_ble_eq_true rfl) dX0_ofEater_81 ?_
              exact rR_i hx hb hr hlk dX0_ofEater_84 (by rw [f_ofEater, if_neg (bt_nf c1), if_neg k2, if_neg k3, if_neg k4, if_neg k5, if_pos k6] <;> simp only [ejx])
            · skip
              refine lv_tableOut (tgt := 85) hx hb dX0_ofEater_25 (tsw_out (lo := 0) (hi := 4) (by intro k hk1 hk2; have hk : k = 0 ∨ k = 1 ∨ k = 2 ∨ k = 3 ∨ k = 4 := (by omega); rcases hk with rfl | rfl | rfl | rfl | rfl <;> assumption)) (by decide) ?_
              refine lv_bipush (v := (-2)) hx hb dX0_ofEater_85 (by decide) ?_
              exact rR_i hx hb hr hlk dX0_ofEater_87 (by rw [f_ofEater, if_neg (bt_nf c1), if_neg k2, if_neg k3, if_neg k4, if_neg k5, if_neg k6] <;> simp only [ejx])
  · refine lv_iconst (v := (-1)) hx hb dX0_ofEater_8 (by decide) ?_
    exact rR_i hx hb hr hlk dX0_ofEater_9 (by rw [f_ofEater, if_pos c1])

set_option maxHeartbeats 4000000 in
set_option maxRecDepth 100000 in
theorem cX_best (l : Launch) (D : va_G) (d : Nat → ClassId) (B : Nat → Nat) (τ : Nat → Nat → Int32) (ea : Nat) (hs : Nat → Option Nat) (ρ : va_W) (e0 : Nat) (F : Nat → Nat) (σ : ASt) (x w : Int32) (hm : xRep d B e0 σ τ ea hs ρ F)  : cR l (KX D d) yX0_best cX0_best 4 (some .int) (rk 9) [.ref (B 0), .int x, .int w] (va_P D vwCl (xw d B τ ea hs ρ)) (.int (f_best σ x w)) := by
  refine cR_start RX0 rfl (by decide) (Nat.le_of_ble_eq_true rfl) ?_
  intro p e s m below meth c hx hb hml hown hts hr hlk hK hP ls hl
  have hl : lv_has ls 4 [(0, .ref (B 0)), (1, .int x), (2, .int w)] := hl
  have hok := hm.ok
  have hD6 : aD σ ≤ 6 := hok.1
  have hE4 : aE σ ≤ 4 := hok.2.1
  have h64 := pow6 hD6
  have hd := hm.day
  have hd6 := hD6
  have hE := hm.eat
  have hL := hm.lst
  have hno := hm.no
  have hR8 : aR σ ≤ 8 := hok.2.2.2.1
  refine lv_aload_n hx hb dX0_best_0 rfl (lv_at hl 0 rfl) ?_
  refine lv_iload_n hx hb dX0_best_1 rfl (lv_at hl 1 rfl) ?_
  refine callR_V (rest := []) hx hb hml hown hts KX_st hK (cX_isEater l D d B τ ea hs ρ e0 F (aE σ) (aD σ) (aN σ) x hE hL hd hd6) (wX0_isEater hts ⟨Nat.le_of_ble_eq_true rfl, Nat.le_of_ble_eq_true rfl⟩) (x_recv hK hP) hP rfl hl.1 rfl (Nat.le_of_ble_eq_true rfl) dX0_best_2 ⟨Nat.zero_le _, Nat.zero_le _⟩ ?_
  refine top_i (y := bI (isE σ x)) rfl ?_
  refine bz_ne (tgt := 10) hx hb dX0_best_5 (by decide) (fun c1 => ?_) (fun c1 => ?_)
  · obtain ⟨jx, hjx, ej⟩ := isE_ix hok c1
    subst ej
    have ejx : ix (nI jx) = jx := nI_clamp (by omega)
    refine lv_iload_n hx hb dX0_best_10 rfl (lv_at hl 2 rfl) ?_
    refine lv_i2l (v := w.toInt64) hx hb dX0_best_11 rfl ?_
    refine lv_lconst (v := 0) hx hb dX0_best_12 (by decide) ?_
    refine lv_lconst (v := 1) hx hb dX0_best_13 (by decide) ?_
    refine callR_S (rest := []) hx hb hml hown hts KX_st hK (cX_isIn l D d w.toInt64 0 1) (wX0_isIn hts ⟨Nat.le_of_ble_eq_true rfl, Nat.le_of_ble_eq_true rfl⟩) trivial rfl hl.1 rfl (Nat.le_of_ble_eq_true rfl) dX0_best_14 ⟨Nat.zero_le _, Nat.zero_le _⟩ ?_
    refine bz_ne (tgt := 23) hx hb dX0_best_17 (by decide) (fun c2 => ?_) (fun c2 => ?_)
    · refine lv_aload_n hx hb dX0_best_23 rfl (lv_at hl 0 rfl) ?_
      refine xg2 hx hb hts hown hK hP dX0_best_24 ?_
      refine lv_iload_n hx hb dX0_best_27 rfl (lv_at hl 1 rfl) ?_
      refine xr_get (rest := []) hx hb hml hown hts hK hP hE hL hjx ⟨Nat.le_of_ble_eq_true rfl, Nat.le_of_ble_eq_true rfl⟩ ⟨Nat.zero_le _, Nat.zero_le _⟩ hl.1 (Nat.le_of_ble_eq_true rfl) dX0_best_28 dX0_best_33 ?_
      refine lv_aload_n hx hb dX0_best_36 rfl (lv_at hl 0 rfl) ?_
      refine callR_V (rest := [.ref (F jx)]) hx hb hml hown hts KX_st hK (cX_fastsNow l D d B τ ea hs ρ (aD σ) hd hd6) (wX0_fastsNow hts ⟨Nat.le_of_ble_eq_true rfl, Nat.le_of_ble_eq_true rfl⟩) (x_recv hK hP) hP rfl hl.1 rfl (Nat.le_of_ble_eq_true rfl) dX0_best_37 ⟨Nat.zero_le _, Nat.zero_le _⟩ ?_
      refine top_i (y := nI (aF σ)) (by rw [hm.fast]) ?_
      refine xr_best (rest := []) hx hb hml hown hts hK hP hE hjx hd hd6 ⟨Nat.le_of_ble_eq_true rfl, Nat.le_of_ble_eq_true rfl⟩ ⟨Nat.zero_le _, Nat.zero_le _⟩ hl.1 (Nat.le_of_ble_eq_true rfl) dX0_best_40 ?_
      refine lv_istore_n (lv' := [(3, .int (oI (bst (aN σ) (aD σ) (aF σ) jx (2 ^ (aD σ))))), (0, .ref (B 0)), (1, .int (nI jx)), (2, .int w)]) hx hb dX0_best_43 rfl hl (by decide) rfl (fun ls hl => ?_)
      rcases hb0 : bst (aN σ) (aD σ) (aF σ) jx (2 ^ (aD σ)) with _ | b
      · rw [hb0] at hl
        have hl : lv_has ls 4 [(3, .int (-9)), (0, .ref (B 0)), (1, .int (nI jx)), (2, .int w)] := hl
        refine lv_iload_n hx hb dX0_best_44 rfl (lv_at hl 3 rfl) ?_
        refine lv_if_eq (tgt := 54) hx hb dX0_best_45 (by decide) (fun c3 => ?_) (fun c3 => ?_)
        · refine lv_iload_n hx hb dX0_best_54 rfl (lv_at hl 0 rfl) ?_
          refine lv_goto (tgt := 79) hx hb dX0_best_55 (by decide) ?_
          exact rR_i hx hb hr hlk dX0_best_79 (by rw [f_best, if_neg (bt_nf c1), if_neg (bt_nf c2)]; simp only [ejx, hb0])
        · refine lv_iload_n hx hb dX0_best_48 rfl (lv_at hl 0 rfl) ?_
          refine lv_bipush (v := (-9)) hx hb dX0_best_49 (by decide) ?_
          refine lv_icmp_ne (tgt := 58) hx hb dX0_best_51 (by decide) (fun c0 => absurd (by decide) c0) (fun c0 => ?_)
          refine lv_iload_n hx hb dX0_best_54 rfl (lv_at hl 0 rfl) ?_
          refine lv_goto (tgt := 79) hx hb dX0_best_55 (by decide) ?_
          exact rR_i hx hb hr hlk dX0_best_79 (by rw [f_best, if_neg (bt_nf c1), if_neg (bt_nf c2)]; simp only [ejx, hb0])
      · rw [hb0] at hl
        have hl : lv_has ls 4 [(3, .int (nI b)), (0, .ref (B 0)), (1, .int (nI jx)), (2, .int w)] := hl
        have hb1 : b < 2 ^ aD σ := bst_lt _ b hb0
        refine lv_iload_n hx hb dX0_best_44 rfl (lv_at hl 3 rfl) ?_
        refine lv_if_eq (tgt := 54) hx hb dX0_best_45 (by decide) (fun c4 => ?_) (fun c4 => ?_)
        · refine lv_iload_n hx hb dX0_best_54 rfl (lv_at hl 0 rfl) ?_
          refine lv_goto (tgt := 79) hx hb dX0_best_55 (by decide) ?_
          exact rR_i hx hb hr hlk dX0_best_79 (by rw [f_best, if_neg (bt_nf c1), if_neg (bt_nf c2)]; simp only [ejx, hb0]; rw [if_pos c4])
        · refine lv_iload_n hx hb dX0_best_48 rfl (lv_at hl 0 rfl) ?_
          refine lv_bipush (v := (-9)) hx hb dX0_best_49 (by decide) ?_
          refine lv_icmp_ne (tgt := 58) hx hb dX0_best_51 (by decide) (fun c0 => ?_) (fun c0 => absurd c0 (n64 b (by omega)))
          refine lv_aload_n hx hb dX0_best_58 rfl (lv_at hl 1 rfl) ?_
          refine xg2 hx hb hts hown hK hP dX0_best_59 ?_
          refine lv_iload_n hx hb dX0_best_62 rfl (lv_at hl 2 rfl) ?_
          refine xr_get (rest := []) hx hb hml hown hts hK hP hE hL hjx ⟨Nat.le_of_ble_eq_true rfl, Nat.le_of_ble_eq_true rfl⟩ ⟨Nat.zero_le _, Nat.zero_le _⟩ hl.1 (Nat.le_of_ble_eq_true rfl) dX0_best_63 dX0_best_68 ?_
          refine lv_iload_n hx hb dX0_best_71 rfl (lv_at hl 0 rfl) ?_
          refine lv_aload_n hx hb dX0_best_72 rfl (lv_at hl 1 rfl) ?_
          refine callR_V (rest := [.int (nI b), .ref (F jx)]) hx hb hml hown hts KX_st hK (cX_fastsNow l D d B τ ea hs ρ (aD σ) hd hd6) (wX0_fastsNow hts ⟨Nat.le_of_ble_eq_true rfl, Nat.le_of_ble_eq_true rfl⟩) (x_recv hK hP) hP rfl hl.1 rfl (Nat.le_of_ble_eq_true rfl) dX0_best_73 ⟨Nat.zero_le _, Nat.zero_le _⟩ ?_
          refine top_i (y := nI (aF σ)) (by rw [hm.fast]) ?_
          refine xr_fine (rest := []) hx hb hml hown hts hK hP hE hjx hd hd6 hb1 ⟨Nat.le_of_ble_eq_true rfl, Nat.le_of_ble_eq_true rfl⟩ ⟨Nat.zero_le _, Nat.zero_le _⟩ hl.1 (Nat.le_of_ble_eq_true rfl) dX0_best_76 ?_
          exact rR_i hx hb hr hlk dX0_best_79 (by rw [f_best, if_neg (bt_nf c1), if_neg (bt_nf c2)]; simp only [ejx, hb0]; rw [if_neg c4])
    · refine lv_bipush (v := (-2)) hx hb dX0_best_20 (by decide) ?_
      exact rR_i hx hb hr hlk dX0_best_22 (by rw [f_best, if_neg (bt_nf c1), if_pos c2])
  · refine lv_iconst (v := (-1)) hx hb dX0_best_8 (by decide) ?_
    exact rR_i hx hb hr hlk dX0_best_9 (by rw [f_best, if_pos c1])

set_option maxHeartbeats 4000000 in
set_option maxRecDepth 100000 in
theorem cX_village (l : Launch) (D : va_G) (d : Nat → ClassId) (B : Nat → Nat) (τ : Nat → Nat → Int32) (ea : Nat) (hs : Nat → Option Nat) (ρ : va_W) (e0 : Nat) (F : Nat → Nat) (σ : ASt)  (hm : xRep d B e0 σ τ ea hs ρ F)  : cR l (KX D d) yX0_village cX0_village 1 (some .int) (rk 10) [.ref (B 0)] (va_P D vwCl (xw d B τ ea hs ρ)) (.int (f_village σ)) := by
  refine cR_start RX0 rfl (by decide) (Nat.le_of_ble_eq_true rfl) ?_
  intro p e s m below meth c hx hb hml hown hts hr hlk hK hP ls hl
  have hl : lv_has ls 1 [(0, .ref (B 0))] := hl
  have hok := hm.ok
  have hD6 : aD σ ≤ 6 := hok.1
  have hE4 : aE σ ≤ 4 := hok.2.1
  have h64 := pow6 hD6
  have hd := hm.day
  have hd6 := hD6
  have hE := hm.eat
  have hL := hm.lst
  have hno := hm.no
  have hR8 : aR σ ≤ 8 := hok.2.2.2.1
  refine lv_aload_n hx hb dX0_village_0 rfl (lv_at hl 0 rfl) ?_
  refine callR_V (rest := []) hx hb hml hown hts KX_st hK (cX_isDuchy l D d B τ ea hs ρ) (wX0_isDuchy hts ⟨Nat.le_of_ble_eq_true rfl, Nat.le_of_ble_eq_true rfl⟩) (x_recv hK hP) hP rfl hl.1 rfl (Nat.le_of_ble_eq_true rfl) dX0_village_1 ⟨Nat.zero_le _, Nat.zero_le _⟩ ?_
  refine top_i hm.duchy ?_
  refine bd_eq (tgt := 18) hx hb dX0_village_4 (by decide) (fun c1 => ?_) (fun c1 => ?_)
  · refine lv_bipush (v := (-3)) hx hb dX0_village_18 (by decide) ?_
    exact rR_i hx hb hr hlk dX0_village_20 (by rw [f_village, if_pos c1])
  · refine lv_aload_n hx hb dX0_village_7 rfl (lv_at hl 0 rfl) ?_
    refine lv_aload_n hx hb dX0_village_8 rfl (lv_at hl 0 rfl) ?_
    refine callR_V (rest := [.ref (B 0)]) hx hb hml hown hts KX_st hK (cX_fastsNow l D d B τ ea hs ρ (aD σ) hd hd6) (wX0_fastsNow hts ⟨Nat.le_of_ble_eq_true rfl, Nat.le_of_ble_eq_true rfl⟩) (x_recv hK hP) hP rfl hl.1 rfl (Nat.le_of_ble_eq_true rfl) dX0_village_9 ⟨Nat.zero_le _, Nat.zero_le _⟩ ?_
    refine top_i (y := nI (aF σ)) (by rw [hm.fast]) ?_
    refine callR_V (rest := []) hx hb hml hown hts KX_st hK (cX_villageBy l D d B τ ea hs ρ e0 F (aE σ) (aD σ) (aN σ) (aF σ) hE hL hd hd6) (wX0_villageBy hts ⟨Nat.le_of_ble_eq_true rfl, Nat.le_of_ble_eq_true rfl⟩) (x_recv hK hP) hP rfl hl.1 rfl (Nat.le_of_ble_eq_true rfl) dX0_village_12 ⟨Nat.zero_le _, Nat.zero_le _⟩ ?_
    refine lv_goto (tgt := 20) hx hb dX0_village_15 (by decide) ?_
    exact rR_i hx hb hr hlk dX0_village_20 (by rw [f_village, if_neg c1])

set_option maxHeartbeats 4000000 in
set_option maxRecDepth 100000 in
theorem cX_many (l : Launch) (D : va_G) (d : Nat → ClassId) (B : Nat → Nat) (τ : Nat → Nat → Int32) (ea : Nat) (hs : Nat → Option Nat) (ρ : va_W) (e0 : Nat) (F : Nat → Nat) (σ : ASt) (w : Int32) (hm : xRep d B e0 σ τ ea hs ρ F)  : cR l (KX D d) yX0_many cX0_many 2 (some .int) (rk 1) [.ref (B 0), .int w] (va_P D vwCl (xw d B τ ea hs ρ)) (.int (f_many σ w)) := by
  refine cR_start RX0 rfl (by decide) (Nat.le_of_ble_eq_true rfl) ?_
  intro p e s m below meth c hx hb hml hown hts hr hlk hK hP ls hl
  have hl : lv_has ls 2 [(0, .ref (B 0)), (1, .int w)] := hl
  have hok := hm.ok
  have hD6 : aD σ ≤ 6 := hok.1
  have hE4 : aE σ ≤ 4 := hok.2.1
  have h64 := pow6 hD6
  have hd := hm.day
  have hd6 := hD6
  have hE := hm.eat
  have hL := hm.lst
  have hno := hm.no
  have hR8 : aR σ ≤ 8 := hok.2.2.2.1
  refine lv_iload_n hx hb dX0_many_0 rfl (lv_at hl 1 rfl) ?_
  refine lv_if_ne (tgt := 16) hx hb dX0_many_1 (by decide) (fun c1 => ?_) (fun c1 => ?_)
  · refine lv_iload_n hx hb dX0_many_16 rfl (lv_at hl 1 rfl) ?_
    refine lv_iconst (v := 1) hx hb dX0_many_17 (by decide) ?_
    refine lv_icmp_ne (tgt := 28) hx hb dX0_many_18 (by decide) (fun c2 => ?_) (fun c2 => ?_)
    · refine lv_iload_n hx hb dX0_many_28 rfl (lv_at hl 1 rfl) ?_
      refine lv_iconst (v := 2) hx hb dX0_many_29 (by decide) ?_
      refine lv_icmp_ne (tgt := 40) hx hb dX0_many_30 (by decide) (fun c3 => ?_) (fun c3 => ?_)
      · refine lv_iload_n hx hb dX0_many_40 rfl (lv_at hl 1 rfl) ?_
        refine lv_iconst (v := 3) hx hb dX0_many_41 (by decide) ?_
        refine lv_icmp_ne (tgt := 52) hx hb dX0_many_42 (by decide) (fun c4 => ?_) (fun c4 => ?_)
        · refine lv_bipush (v := (-2)) hx hb dX0_many_52 (by decide) ?_
          exact rR_i hx hb hr hlk dX0_many_54 (by rw [f_many, if_neg c1, if_neg c2, if_neg c3, if_neg c4])
        · refine lv_aload_n hx hb dX0_many_45 rfl (lv_at hl 0 rfl) ?_
          refine xg14 hx hb hts hown hK hP dX0_many_46 ?_
          refine top_i (y := nI (aR σ)) (hm.rd.1) ?_
          refine lv_goto (tgt := 54) hx hb dX0_many_49 (by decide) ?_
          exact rR_i hx hb hr hlk dX0_many_54 (by rw [f_many, if_neg c1, if_neg c2, if_neg c3, if_pos c4])
      · refine lv_aload_n hx hb dX0_many_33 rfl (lv_at hl 0 rfl) ?_
        refine xg3 hx hb hts hown hK hP dX0_many_34 ?_
        refine top_i (y := aI σ 2) (hm.sour) ?_
        refine lv_goto (tgt := 54) hx hb dX0_many_37 (by decide) ?_
        exact rR_i hx hb hr hlk dX0_many_54 (by rw [f_many, if_neg c1, if_neg c2, if_pos c3])
    · refine lv_aload_n hx hb dX0_many_21 rfl (lv_at hl 0 rfl) ?_
      refine xg4 hx hb hts hown hK hP dX0_many_22 ?_
      refine top_i (y := nI (aD σ)) (hm.day) ?_
      refine lv_goto (tgt := 54) hx hb dX0_many_25 (by decide) ?_
      exact rR_i hx hb hr hlk dX0_many_54 (by rw [f_many, if_neg c1, if_pos c2])
  · refine lv_aload_n hx hb dX0_many_4 rfl (lv_at hl 0 rfl) ?_
    refine xg2 hx hb hts hown hK hP dX0_many_5 ?_
    refine xr_size (rest := []) hx hb hml hown hts hK hP hL ⟨Nat.le_of_ble_eq_true rfl, Nat.le_of_ble_eq_true rfl⟩ ⟨Nat.zero_le _, Nat.zero_le _⟩ hl.1 (Nat.le_of_ble_eq_true rfl) dX0_many_8 ?_
    refine lv_goto (tgt := 54) hx hb dX0_many_13 (by decide) ?_
    exact rR_i hx hb hr hlk dX0_many_54 (by rw [f_many, if_pos c1])

set_option maxHeartbeats 4000000 in
set_option maxRecDepth 100000 in
theorem cX_sours (l : Launch) (D : va_G) (d : Nat → ClassId) (B : Nat → Nat) (τ : Nat → Nat → Int32) (ea : Nat) (hs : Nat → Option Nat) (ρ : va_W) (e0 : Nat) (F : Nat → Nat) (σ : ASt)  (hm : xRep d B e0 σ τ ea hs ρ F)  : cR l (KX D d) yX0_sours cX0_sours 3 (some .int) (rk 8) [.ref (B 0)] (va_P D vwCl (xw d B τ ea hs ρ)) (.int (f_sours σ)) := by
  refine cR_start RX0 rfl (by decide) (Nat.le_of_ble_eq_true rfl) ?_
  intro p e s m below meth c hx hb hml hown hts hr hlk hK hP ls hl
  have hl : lv_has ls 3 [(0, .ref (B 0))] := hl
  have hok := hm.ok
  have hD6 : aD σ ≤ 6 := hok.1
  have hE4 : aE σ ≤ 4 := hok.2.1
  have h64 := pow6 hD6
  have hd := hm.day
  have hd6 := hD6
  have hE := hm.eat
  have hL := hm.lst
  have hno := hm.no
  have hR8 : aR σ ≤ 8 := hok.2.2.2.1
  refine lv_aload_n hx hb dX0_sours_0 rfl (lv_at hl 0 rfl) ?_
  refine callR_V (rest := []) hx hb hml hown hts KX_st hK (cX_isDuchy l D d B τ ea hs ρ) (wX0_isDuchy hts ⟨Nat.le_of_ble_eq_true rfl, Nat.le_of_ble_eq_true rfl⟩) (x_recv hK hP) hP rfl hl.1 rfl (Nat.le_of_ble_eq_true rfl) dX0_sours_1 ⟨Nat.zero_le _, Nat.zero_le _⟩ ?_
  refine top_i hm.duchy ?_
  refine bd_ne (tgt := 10) hx hb dX0_sours_4 (by decide) (fun c1 => ?_) (fun c1 => ?_)
  · refine lv_iconst (v := nI 0) hx hb dX0_sours_10 (by decide) ?_
    refine lv_istore_n (lv' := [(1, .int (nI 0)), (0, .ref (B 0))]) hx hb dX0_sours_11 rfl hl (by decide) rfl (fun ls hl => ?_)
    refine lv_iconst (v := nI 0) hx hb dX0_sours_12 (by decide) ?_
    refine lv_istore_n (lv' := [(2, .int (nI 0)), (1, .int (nI 0)), (0, .ref (B 0))]) hx hb dX0_sours_13 rfl hl (by decide) rfl (fun ls hl => ?_)
    refine lp_R (σ := Nat) (fun n14 zz => zz + n14 = 10) (fun zz => [(2, .int (nI zz)), (1, .int (nI (setN (fun v => soN (aN σ) (aN σ) (aB σ) (aD σ) (fN (aL σ) (nI v) (-9) (aD σ)) (aR σ)) zz))), (0, .ref (B 0))]) (fun n14 zz hI ih14 ls hl => ?_) 10 0 (by omega) hl
    obtain ⟨i, rfl⟩ : ∃ y, y = zz := ⟨_, rfl⟩
    have hI : i + n14 = 10 := hI
    obtain hi := hI
    have hl : lv_has ls 3 [(2, .int (nI i)), (1, .int (nI (setN (fun v => soN (aN σ) (aN σ) (aB σ) (aD σ) (fN (aL σ) (nI v) (-9) (aD σ)) (aR σ)) i))), (0, .ref (B 0))] := hl
    refine lv_iload_n hx hb dX0_sours_14 rfl (lv_at hl 0 rfl) ?_
    refine lv_bipush (v := nI 9) hx hb dX0_sours_15 (by decide) ?_
    refine nc_gt (tgt := 44) hx hb dX0_sours_17 (by decide) (by omega) (by omega) (fun c2 => ?_) (fun c2 => ?_)
    · refine lv_iload_n hx hb dX0_sours_44 rfl (lv_at hl 1 rfl) ?_
      exact rR_i hx hb hr hlk dX0_sours_45 (by rw [f_sours, if_neg c1, show i = 10 by omega])
    · refine lv_iload_n hx hb dX0_sours_20 rfl (lv_at hl 1 rfl) ?_
      refine lv_aload_n hx hb dX0_sours_21 rfl (lv_at hl 2 rfl) ?_
      refine lv_iload_n hx hb dX0_sours_22 rfl (lv_at hl 0 rfl) ?_
      refine callR_V (rest := [.int (nI (setN (fun v => soN (aN σ) (aN σ) (aB σ) (aD σ) (fN (aL σ) (nI v) (-9) (aD σ)) (aR σ)) i))]) hx hb hml hown hts KX_st hK (cX_areSo l D d B τ ea hs ρ e0 F (aE σ) (aD σ) (aN σ) (nI i) (aR σ) (aN σ) (aB σ) hE hL hd hd6 hm.rd hR8 hok.2.2.2.2.2.1) (wX0_areSo hts ⟨Nat.le_of_ble_eq_true rfl, Nat.le_of_ble_eq_true rfl⟩) (x_recv hK hP) hP rfl hl.1 rfl (Nat.le_of_ble_eq_true rfl) dX0_sours_23 ⟨Nat.zero_le _, Nat.zero_le _⟩ ?_
      refine top_i (y := bI (soN (aN σ) (aN σ) (aB σ) (aD σ) (fN (aL σ) (nI i) (-9) (aD σ)) (aR σ))) (by rw [hm.fasts]) ?_
      refine jn_i (ls := ls) (P := fun v => v = (if (soN (aN σ) (aN σ) (aB σ) (aD σ) (fN (aL σ) (nI i) (-9) (aD σ)) (aR σ)) = false then (0 : Int32) else ((1 : Int32) <<< (nI i &&& 31)))) 36 [.int (nI (setN (fun v => soN (aN σ) (aN σ) (aB σ) (aD σ) (fN (aL σ) (nI v) (-9) (aD σ)) (aR σ)) i))] (fun v ev => ?_) (fun kj3 => ?_)
      · refine lv_ior hx hb dX0_sours_36 ?_
        refine top_i (y := nI (setN (fun v => soN (aN σ) (aN σ) (aB σ) (aD σ) (fN (aL σ) (nI v) (-9) (aD σ)) (aR σ)) (i + 1))) (by rw [ev]; exact set_step (p := (fun v => soN (aN σ) (aN σ) (aB σ) (aD σ) (fN (aL σ) (nI v) (-9) (aD σ)) (aR σ))) (by omega)) ?_
        refine lv_istore_n (lv' := [(1, .int (nI (setN (fun v => soN (aN σ) (aN σ) (aB σ) (aD σ) (fN (aL σ) (nI v) (-9) (aD σ)) (aR σ)) (i + 1)))), (2, .int (nI i)), (0, .ref (B 0))]) hx hb dX0_sours_37 rfl hl (by decide) rfl (fun ls hl => ?_)
        refine lv_iinc (v := nI (i + 1)) (lv' := [(2, .int (nI (i + 1))), (1, .int (nI (setN (fun v => soN (aN σ) (aN σ) (aB σ) (aD σ) (fN (aL σ) (nI v) (-9) (aD σ)) (aR σ)) (i + 1)))), (0, .ref (B 0))]) hx hb dX0_sours_38 hl (k := 1) rfl (inc_nI _) (by decide) rfl (fun ls hl => ?_)
        refine lv_goto (tgt := 14) hx hb dX0_sours_41 (by decide) ?_
        exact ih14 (n14 - 1) (i + 1) ls (by omega) (by omega) (hl)
      · refine bz_eq (tgt := 35) hx hb dX0_sours_26 (by decide) (fun c4 => ?_) (fun c4 => ?_)
        · refine lv_iconst (v := 0) hx hb dX0_sours_35 (by decide) ?_
          exact kj3 _ (by rw [if_pos c4])
        · refine lv_iconst (v := 1) hx hb dX0_sours_29 (by decide) ?_
          refine lv_iload_n hx hb dX0_sours_30 rfl (lv_at hl 0 rfl) ?_
          refine lv_ishl hx hb dX0_sours_31 ?_
          refine lv_goto (tgt := 36) hx hb dX0_sours_32 (by decide) ?_
          exact kj3 _ (by rw [if_neg (bt_nf c4)])
  · refine lv_bipush (v := (-3)) hx hb dX0_sours_7 (by decide) ?_
    exact rR_i hx hb hr hlk dX0_sours_9 (by rw [f_sours, if_pos c1])

set_option maxHeartbeats 4000000 in
set_option maxRecDepth 100000 in
theorem cX_inLeastTerms (l : Launch) (D : va_G) (d : Nat → ClassId) (u k : Nat) (wh : Int32) (hu0 : u < 1000) (hk0 : 0 < k) (hk1 : k < 1000) : cR l (KX D d) yX0_inLeastTerms cX0_inLeastTerms 11 (some .long) (rk 0) [.long (lN u), .long (lN k), .int wh] (fun _ => True) (.long (pShare u k wh)) := by
  refine cR_start RX0 rfl (by decide) (Nat.le_of_ble_eq_true rfl) ?_
  intro p e s m below meth c hx hb hml hown hts hr hlk hK hP ls hl
  have hl : lv_has ls 11 [(0, .long (lN u)), (2, .long (lN k)), (4, .int wh)] := hl
  refine lv_lload_n hx hb dX0_inLeastTerms_0 rfl (lv_at hl 0 rfl) ?_
  refine lv_lstore (lv' := [(5, .long (lN u)), (0, .long (lN u)), (2, .long (lN k)), (4, .int wh)]) hx hb dX0_inLeastTerms_1 hl (by decide) rfl (fun ls hl => ?_)
  refine lv_lload_n hx hb dX0_inLeastTerms_3 rfl (lv_at hl 2 rfl) ?_
  refine lv_lstore (lv' := [(7, .long (lN k)), (5, .long (lN u)), (0, .long (lN u)), (2, .long (lN k)), (4, .int wh)]) hx hb dX0_inLeastTerms_4 hl (by decide) rfl (fun ls hl => ?_)
  refine lp_R (σ := Nat × Nat) (fun n6 zz => zz.2 ≤ n6 ∧ zz.1 < 1000 ∧ zz.2 < 1000 ∧ Nat.gcd zz.1 zz.2 = Nat.gcd u k) (fun zz => [(7, .long (lN zz.2)), (5, .long (lN zz.1)), (0, .long (lN u)), (2, .long (lN k)), (4, .int wh)]) (fun n6 zz hI ih6 ls hl => ?_) k (u, k) (⟨Nat.le_refl _, by omega, by omega, rfl⟩) hl
  obtain ⟨x, y⟩ := zz
  have hI : y ≤ n6 ∧ x < 1000 ∧ y < 1000 ∧ Nat.gcd x y = Nat.gcd u k := hI
  obtain ⟨hy, hx1, hy1, hg⟩ := hI
  have hl : lv_has ls 11 [(7, .long (lN y)), (5, .long (lN x)), (0, .long (lN u)), (2, .long (lN k)), (4, .int wh)] := hl
  refine lv_lload hx hb dX0_inLeastTerms_6 (lv_at hl 0 rfl) ?_
  refine lv_lconst (v := 0) hx hb dX0_inLeastTerms_8 (by decide) ?_
  refine lc_eq (tgt := 31) hx hb dX0_inLeastTerms_9 dX0_inLeastTerms_10 (by decide) (fun c1 => ?_) (fun c1 => ?_)
  · refine lv_iload hx hb dX0_inLeastTerms_31 (lv_at hl 4 rfl) ?_
    refine lv_if_ne (tgt := 43) hx hb dX0_inLeastTerms_33 (by decide) (fun c2 => ?_) (fun c2 => ?_)
    · refine lv_lload_n hx hb dX0_inLeastTerms_43 rfl (lv_at hl 3 rfl) ?_
      refine lv_lload hx hb dX0_inLeastTerms_44 (lv_at hl 1 rfl) ?_
      refine lv_ldiv hx hb dX0_inLeastTerms_46 (gcd_ne0 hg hk0 hx1 c1 hy1) ?_
      exact rR_l hx hb hr hlk dX0_inLeastTerms_47 (by rw [pShare, if_neg c2, share_end hg (lN_0 c1) hy1])
    · refine lv_lload_n hx hb dX0_inLeastTerms_36 rfl (lv_at hl 2 rfl) ?_
      refine lv_lload hx hb dX0_inLeastTerms_37 (lv_at hl 1 rfl) ?_
      refine lv_ldiv hx hb dX0_inLeastTerms_39 (gcd_ne0 hg hk0 hx1 c1 hy1) ?_
      refine lv_goto (tgt := 47) hx hb dX0_inLeastTerms_40 (by decide) ?_
      exact rR_l hx hb hr hlk dX0_inLeastTerms_47 (by rw [pShare, if_pos c2, share_end hg (lN_0 c1) hy1])
  · have hym := Nat.mod_lt x (lN_pos c1)
    refine lv_lload hx hb dX0_inLeastTerms_13 (lv_at hl 1 rfl) ?_
    refine lv_lload hx hb dX0_inLeastTerms_15 (lv_at hl 0 rfl) ?_
    refine lv_lrem hx hb dX0_inLeastTerms_17 (lN_ne0 c1 (by omega)) ?_
    refine top_l (y := lN (x % y)) (lrem_nI c1 (by omega) (by omega)) ?_
    refine lv_lstore (lv' := [(9, .long (lN (x % y))), (7, .long (lN y)), (5, .long (lN x)), (0, .long (lN u)), (2, .long (lN k)), (4, .int wh)]) hx hb dX0_inLeastTerms_18 hl (by decide) rfl (fun ls hl => ?_)
    refine lv_lload hx hb dX0_inLeastTerms_20 (lv_at hl 1 rfl) ?_
    refine lv_lstore (lv' := [(5, .long (lN y)), (9, .long (lN (x % y))), (7, .long (lN y)), (0, .long (lN u)), (2, .long (lN k)), (4, .int wh)]) hx hb dX0_inLeastTerms_22 hl (by decide) rfl (fun ls hl => ?_)
    refine lv_lload hx hb dX0_inLeastTerms_24 (lv_at hl 1 rfl) ?_
    refine lv_lstore (lv' := [(7, .long (lN (x % y))), (5, .long (lN y)), (9, .long (lN (x % y))), (0, .long (lN u)), (2, .long (lN k)), (4, .int wh)]) hx hb dX0_inLeastTerms_26 hl (by decide) rfl (fun ls hl => ?_)
    refine lv_goto (tgt := 6) hx hb dX0_inLeastTerms_28 (by decide) ?_
    exact ih6 (n6 - 1) (y, x % y) ls (by omega) (⟨by omega, by omega, by omega, by rw [← hg]; exact (gcd_step x y).symm⟩) ((lv_sub hl [0, 1, 3, 4, 5] rfl))

theorem cnt_stepI {y k : Nat} : nI (cntN y k) + (if ¬ (y &&& k) = 0 then (0 : Int32) else (1 : Int32)) = nI (cntN y (k + 1)) := by
  simp only [cntN]
  by_cases h : (y &&& k) = 0
  · rw [if_neg (fun q => q h), if_pos h]; exact nI_1 _
  · rw [if_pos h, if_neg h]; exact Int32.add_zero _
set_option maxHeartbeats 4000000 in
set_option maxRecDepth 100000 in
theorem cX_odds (l : Launch) (D : va_G) (d : Nat → ClassId) (B : Nat → Nat) (τ : Nat → Nat → Int32) (ea : Nat) (hs : Nat → Option Nat) (ρ : va_W) (e0 : Nat) (F : Nat → Nat) (σ : ASt) (x z w : Int32) (hm : xRep d B e0 σ τ ea hs ρ F)  : cR l (KX D d) yX0_odds cX0_odds 6 (some .long) (rk 7) [.ref (B 0), .int x, .int z, .int w] (va_P D vwCl (xw d B τ ea hs ρ)) (.long (f_odds σ x z w)) := by
  refine cR_start RX0 rfl (by decide) (Nat.le_of_ble_eq_true rfl) ?_
  intro p e s m below meth c hx hb hml hown hts hr hlk hK hP ls hl
  have hl : lv_has ls 6 [(0, .ref (B 0)), (1, .int x), (2, .int z), (3, .int w)] := hl
  have hok := hm.ok
  have hD6 : aD σ ≤ 6 := hok.1
  have hE4 : aE σ ≤ 4 := hok.2.1
  have h64 := pow6 hD6
  have hd := hm.day
  have hd6 := hD6
  have hE := hm.eat
  have hL := hm.lst
  have hno := hm.no
  have hR8 : aR σ ≤ 8 := hok.2.2.2.1
  refine lv_aload_n hx hb dX0_odds_0 rfl (lv_at hl 0 rfl) ?_
  refine lv_iload_n hx hb dX0_odds_1 rfl (lv_at hl 1 rfl) ?_
  refine callR_V (rest := []) hx hb hml hown hts KX_st hK (cX_isEater l D d B τ ea hs ρ e0 F (aE σ) (aD σ) (aN σ) x hE hL hd hd6) (wX0_isEater hts ⟨Nat.le_of_ble_eq_true rfl, Nat.le_of_ble_eq_true rfl⟩) (x_recv hK hP) hP rfl hl.1 rfl (Nat.le_of_ble_eq_true rfl) dX0_odds_2 ⟨Nat.zero_le _, Nat.zero_le _⟩ ?_
  refine top_i (y := bI (isE σ x)) rfl ?_
  refine bz_eq (tgt := 26) hx hb dX0_odds_5 (by decide) (fun c1 => ?_) (fun c1 => ?_)
  · refine lv_ldc2 (v := (-9223372036854775808)) hx hb hown (hts _ q767) dX0_odds_26 ?_
    exact rR_l hx hb hr hlk dX0_odds_29 (by rw [f_odds, if_pos c1]; rfl)
  · obtain ⟨jx, hjx, ej⟩ := isE_ix hok c1
    subst ej
    have ejx : ix (nI jx) = jx := nI_clamp (by omega)
    refine lv_aload_n hx hb dX0_odds_8 rfl (lv_at hl 0 rfl) ?_
    refine lv_iload_n hx hb dX0_odds_9 rfl (lv_at hl 2 rfl) ?_
    refine callR_V (rest := []) hx hb hml hown hts KX_st hK (cX_isSet l D d B τ ea hs ρ z) (wX0_isSet hts ⟨Nat.le_of_ble_eq_true rfl, Nat.le_of_ble_eq_true rfl⟩) (x_recv hK hP) hP rfl hl.1 rfl (Nat.le_of_ble_eq_true rfl) dX0_odds_10 ⟨Nat.zero_le _, Nat.zero_le _⟩ ?_
    refine top_i (hm.isT z) ?_
    refine bz_eq (tgt := 26) hx hb dX0_odds_13 (by decide) (fun c2 => ?_) (fun c2 => ?_)
    · refine lv_ldc2 (v := (-9223372036854775808)) hx hb hown (hts _ q767) dX0_odds_26 ?_
      exact rR_l hx hb hr hlk dX0_odds_29 (by rw [f_odds, if_neg (bt_nf c1), if_pos c2]; rfl)
    · obtain ⟨jz, hjz, ej⟩ := isT_ix hok c2
      subst ej
      have ejz : ix (nI jz) = jz := nI_clamp (by omega)
      refine lv_iload_n hx hb dX0_odds_16 rfl (lv_at hl 3 rfl) ?_
      refine lv_i2l (v := w.toInt64) hx hb dX0_odds_17 rfl ?_
      refine lv_lconst (v := 0) hx hb dX0_odds_18 (by decide) ?_
      refine lv_lconst (v := 1) hx hb dX0_odds_19 (by decide) ?_
      refine callR_S (rest := []) hx hb hml hown hts KX_st hK (cX_isIn l D d w.toInt64 0 1) (wX0_isIn hts ⟨Nat.le_of_ble_eq_true rfl, Nat.le_of_ble_eq_true rfl⟩) trivial rfl hl.1 rfl (Nat.le_of_ble_eq_true rfl) dX0_odds_20 ⟨Nat.zero_le _, Nat.zero_le _⟩ ?_
      refine bz_ne (tgt := 30) hx hb dX0_odds_23 (by decide) (fun c3 => ?_) (fun c3 => ?_)
      · refine lv_iconst (v := nI 0) hx hb dX0_odds_30 (by decide) ?_
        refine lv_istore (lv' := [(4, .int (nI 0)), (0, .ref (B 0)), (1, .int (nI jx)), (2, .int (nI jz)), (3, .int w)]) hx hb dX0_odds_31 hl (by decide) rfl (fun ls hl => ?_)
        refine lv_iconst (v := nI 0) hx hb dX0_odds_33 (by decide) ?_
        refine lv_istore (lv' := [(5, .int (nI 0)), (4, .int (nI 0)), (0, .ref (B 0)), (1, .int (nI jx)), (2, .int (nI jz)), (3, .int w)]) hx hb dX0_odds_34 hl (by decide) rfl (fun ls hl => ?_)
        refine lp_R (σ := Nat) (fun n36 zz => zz + n36 = 2 ^ aD σ) (fun zz => [(5, .int (nI zz)), (4, .int (nI (cntN (yel (aD σ) (laN (aN σ 0 jx) (aN σ 1 jx)) jz) zz))), (0, .ref (B 0)), (1, .int (nI jx)), (2, .int (nI jz)), (3, .int w)]) (fun n36 zz hI ih36 ls hl => ?_) (2 ^ aD σ) 0 (by omega) hl
        obtain ⟨i, rfl⟩ : ∃ y, y = zz := ⟨_, rfl⟩
        have hI : i + n36 = 2 ^ aD σ := hI
        obtain hi := hI
        have hl : lv_has ls 6 [(5, .int (nI i)), (4, .int (nI (cntN (yel (aD σ) (laN (aN σ 0 jx) (aN σ 1 jx)) jz) i))), (0, .ref (B 0)), (1, .int (nI jx)), (2, .int (nI jz)), (3, .int w)] := hl
        refine lv_iload hx hb dX0_odds_36 (lv_at hl 0 rfl) ?_
        refine lv_aload_n hx hb dX0_odds_38 rfl (lv_at hl 2 rfl) ?_
        refine callR_V (rest := [.int (nI i)]) hx hb hml hown hts KX_st hK (cX_all l D d B τ ea hs ρ) (wX0_all hts ⟨Nat.le_of_ble_eq_true rfl, Nat.le_of_ble_eq_true rfl⟩) (x_recv hK hP) hP rfl hl.1 rfl (Nat.le_of_ble_eq_true rfl) dX0_odds_39 ⟨Nat.zero_le _, Nat.zero_le _⟩ ?_
        have hpw : 0 < 2 ^ aD σ := Nat.two_pow_pos _
        refine top_i (y := nI (2 ^ aD σ - 1)) (by rw [hd]; exact all_nI _ (by omega)) ?_
        refine nc_gt (tgt := 83) hx hb dX0_odds_42 (by decide) (by omega) (by omega) (fun c4 => ?_) (fun c4 => ?_)
        · have hi2 : i = 2 ^ aD σ := by omega
          subst hi2
          refine lv_iload hx hb dX0_odds_83 (lv_at hl 1 rfl) ?_
          refine lv_i2l (v := (nI (cntN (yel (aD σ) (laN (aN σ 0 jx) (aN σ 1 jx)) jz) (2 ^ aD σ))).toInt64) hx hb dX0_odds_85 rfl ?_
          have hcl := cntN_le (yel (aD σ) (laN (aN σ 0 jx) (aN σ 1 jx)) jz) (2 ^ aD σ)
          refine top_l (y := lN (cntN (yel (aD σ) (laN (aN σ 0 jx) (aN σ 1 jx)) jz) (2 ^ aD σ))) (nI_l (by omega)) ?_
          refine lv_lconst (v := 1) hx hb dX0_odds_86 (by decide) ?_
          refine lv_aload_n hx hb dX0_odds_87 rfl (lv_at hl 2 rfl) ?_
          refine xg4 hx hb hts hown hK hP dX0_odds_88 ?_
          refine top_i (y := nI (aD σ)) (hm.day) ?_
          refine lv_lshl (v := (1 <<< ((nI (aD σ)).toInt64 &&& 63))) hx hb dX0_odds_91 rfl ?_
          refine top_l (y := lN (2 ^ aD σ)) (lshl1 _ (by omega)) ?_
          refine lv_iload_n hx hb dX0_odds_92 rfl (lv_at hl 5 rfl) ?_
          refine callR_S (rest := []) hx hb hml hown hts KX_st hK (cX_inLeastTerms l D d (cntN (yel (aD σ) (laN (aN σ 0 jx) (aN σ 1 jx)) jz) (2 ^ aD σ)) (2 ^ aD σ) w (by have := cntN_le (yel (aD σ) (laN (aN σ 0 jx) (aN σ 1 jx)) jz) (2 ^ aD σ); omega) (Nat.two_pow_pos _) (by omega)) (wX0_inLeastTerms hts ⟨Nat.le_of_ble_eq_true rfl, Nat.le_of_ble_eq_true rfl⟩) trivial rfl hl.1 rfl (Nat.le_of_ble_eq_true rfl) dX0_odds_93 ⟨Nat.zero_le _, Nat.zero_le _⟩ ?_
          exact rR_l hx hb hr hlk dX0_odds_96 (by rw [f_odds, if_neg (bt_nf c1), if_neg (bt_nf c2), if_neg (bt_nf c3)] <;> simp only [ejx, ejz])
        · refine lv_iload hx hb dX0_odds_45 (lv_at hl 1 rfl) ?_
          refine lv_aload_n hx hb dX0_odds_47 rfl (lv_at hl 2 rfl) ?_
          refine xg2 hx hb hts hown hK hP dX0_odds_48 ?_
          refine lv_iload_n hx hb dX0_odds_51 rfl (lv_at hl 3 rfl) ?_
          refine xr_get (rest := [.int (nI (cntN (yel (aD σ) (laN (aN σ 0 jx) (aN σ 1 jx)) jz) i))]) hx hb hml hown hts hK hP hE hL hjx ⟨Nat.le_of_ble_eq_true rfl, Nat.le_of_ble_eq_true rfl⟩ ⟨Nat.zero_le _, Nat.zero_le _⟩ hl.1 (Nat.le_of_ble_eq_true rfl) dX0_odds_52 dX0_odds_57 ?_
          refine lv_iload_n hx hb dX0_odds_60 rfl (lv_at hl 4 rfl) ?_
          refine lv_iload hx hb dX0_odds_61 (lv_at hl 0 rfl) ?_
          refine xr_found (rest := [.int (nI (cntN (yel (aD σ) (laN (aN σ 0 jx) (aN σ 1 jx)) jz) i))]) hx hb hml hown hts hK hP hE hjx hd hd6 hjz ⟨Nat.le_of_ble_eq_true rfl, Nat.le_of_ble_eq_true rfl⟩ ⟨Nat.zero_le _, Nat.zero_le _⟩ hl.1 (Nat.le_of_ble_eq_true rfl) dX0_odds_63 ?_
          refine top_i (y := nI ((yel (aD σ) (laN (aN σ 0 jx) (aN σ 1 jx)) jz) &&& i)) (rfl) ?_
          refine jn_i (ls := ls) (P := fun v => v = (if ¬ ((yel (aD σ) (laN (aN σ 0 jx) (aN σ 1 jx)) jz) &&& i) = 0 then (0 : Int32) else (1 : Int32))) 74 [.int (nI (cntN (yel (aD σ) (laN (aN σ 0 jx) (aN σ 1 jx)) jz) i))] (fun v ev => ?_) (fun kj5 => ?_)
          · refine lv_iadd hx hb dX0_odds_74 ?_
            refine top_i (y := nI (cntN (yel (aD σ) (laN (aN σ 0 jx) (aN σ 1 jx)) jz) (i + 1))) (by rw [ev]; exact cnt_stepI) ?_
            refine lv_istore (lv' := [(4, .int (nI (cntN (yel (aD σ) (laN (aN σ 0 jx) (aN σ 1 jx)) jz) (i + 1)))), (5, .int (nI i)), (0, .ref (B 0)), (1, .int (nI jx)), (2, .int (nI jz)), (3, .int w)]) hx hb dX0_odds_75 hl (by decide) rfl (fun ls hl => ?_)
            refine lv_iinc (v := nI (i + 1)) (lv' := [(5, .int (nI (i + 1))), (4, .int (nI (cntN (yel (aD σ) (laN (aN σ 0 jx) (aN σ 1 jx)) jz) (i + 1)))), (0, .ref (B 0)), (1, .int (nI jx)), (2, .int (nI jz)), (3, .int w)]) hx hb dX0_odds_77 hl (k := 1) rfl (inc_nI _) (by decide) rfl (fun ls hl => ?_)
            refine lv_goto (tgt := 36) hx hb dX0_odds_80 (by decide) ?_
            exact ih36 (n36 - 1) (i + 1) ls (by omega) (by omega) (hl)
          · refine nz_ne (tgt := 73) hx hb dX0_odds_66 (by decide) (Nat.lt_of_le_of_lt Nat.and_le_right (by omega)) (fun c6 => ?_) (fun c6 => ?_)
            · refine lv_iconst (v := 0) hx hb dX0_odds_73 (by decide) ?_
              exact kj5 _ (by rw [if_pos c6])
            · refine lv_iconst (v := 1) hx hb dX0_odds_69 (by decide) ?_
              refine lv_goto (tgt := 74) hx hb dX0_odds_70 (by decide) ?_
              exact kj5 _ (by rw [if_neg (fun hh => hh c6)])
      · refine lv_ldc2 (v := (-9223372036854775808)) hx hb hown (hts _ q767) dX0_odds_26 ?_
        exact rR_l hx hb hr hlk dX0_odds_29 (by rw [f_odds, if_neg (bt_nf c1), if_neg (bt_nf c2), if_pos c3]; rfl)

theorem clr_nI : ∀ F, F < 64 → ∀ i, i < 6 → nI F &&& ((1 : Int32) <<< (nI i &&& 31) ^^^ (-1)) = nI (clr F i) := by decide +kernel
set_option maxHeartbeats 4000000 in
set_option maxRecDepth 100000 in
theorem cX_smile (l : Launch) (D : va_G) (d : Nat → ClassId) (B : Nat → Nat) (τ : Nat → Nat → Int32) (ea : Nat) (hs : Nat → Option Nat) (ρ : va_W) (e0 : Nat) (F : Nat → Nat) (σ : ASt) (w : Int32) (hm : xRep d B e0 σ τ ea hs ρ F)  : cR l (KX D d) yX0_smile cX0_smile 7 (some .int) (rk 10) [.ref (B 0), .int w] (va_P D vwCl (xw d B τ ea hs ρ)) (.int (f_smile σ w)) := by
  refine cR_start RX0 rfl (by decide) (Nat.le_of_ble_eq_true rfl) ?_
  intro p e s m below meth c hx hb hml hown hts hr hlk hK hP ls hl
  have hl : lv_has ls 7 [(0, .ref (B 0)), (1, .int w)] := hl
  have hok := hm.ok
  have hD6 : aD σ ≤ 6 := hok.1
  have hE4 : aE σ ≤ 4 := hok.2.1
  have h64 := pow6 hD6
  have hd := hm.day
  have hd6 := hD6
  have hE := hm.eat
  have hL := hm.lst
  have hno := hm.no
  have hR8 : aR σ ≤ 8 := hok.2.2.2.1
  have hsp : ∀ a, a < aE σ → aN σ 2 a < 10 := fun a h => (hok.2.2.2.2.1 a h).2.2.1
  refine lv_iload_n hx hb dX0_smile_0 rfl (lv_at hl 1 rfl) ?_
  refine lv_i2l (v := w.toInt64) hx hb dX0_smile_1 rfl ?_
  refine lv_lconst (v := 0) hx hb dX0_smile_2 (by decide) ?_
  refine lv_lconst (v := 1) hx hb dX0_smile_3 (by decide) ?_
  refine callR_S (rest := []) hx hb hml hown hts KX_st hK (cX_isIn l D d w.toInt64 0 1) (wX0_isIn hts ⟨Nat.le_of_ble_eq_true rfl, Nat.le_of_ble_eq_true rfl⟩) trivial rfl hl.1 rfl (Nat.le_of_ble_eq_true rfl) dX0_smile_4 ⟨Nat.zero_le _, Nat.zero_le _⟩ ?_
  refine bz_ne (tgt := 13) hx hb dX0_smile_7 (by decide) (fun c1 => ?_) (fun c1 => ?_)
  · refine lv_aload_n hx hb dX0_smile_13 rfl (lv_at hl 0 rfl) ?_
    refine callR_V (rest := []) hx hb hml hown hts KX_st hK (cX_isDuchy l D d B τ ea hs ρ) (wX0_isDuchy hts ⟨Nat.le_of_ble_eq_true rfl, Nat.le_of_ble_eq_true rfl⟩) (x_recv hK hP) hP rfl hl.1 rfl (Nat.le_of_ble_eq_true rfl) dX0_smile_14 ⟨Nat.zero_le _, Nat.zero_le _⟩ ?_
    refine top_i hm.duchy ?_
    refine bd_ne (tgt := 23) hx hb dX0_smile_17 (by decide) (fun c2 => ?_) (fun c2 => ?_)
    · refine lv_aload_n hx hb dX0_smile_23 rfl (lv_at hl 0 rfl) ?_
      refine callR_V (rest := []) hx hb hml hown hts KX_st hK (cX_fastsNow l D d B τ ea hs ρ (aD σ) hd hd6) (wX0_fastsNow hts ⟨Nat.le_of_ble_eq_true rfl, Nat.le_of_ble_eq_true rfl⟩) (x_recv hK hP) hP rfl hl.1 rfl (Nat.le_of_ble_eq_true rfl) dX0_smile_24 ⟨Nat.zero_le _, Nat.zero_le _⟩ ?_
      refine top_i (y := nI (aF σ)) (by rw [hm.fast]) ?_
      refine lv_istore_n (lv' := [(2, .int (nI (aF σ))), (0, .ref (B 0)), (1, .int w)]) hx hb dX0_smile_27 rfl hl (by decide) rfl (fun ls hl => ?_)
      refine lv_bipush (v := (-9)) hx hb dX0_smile_28 (by decide) ?_
      refine lv_istore_n (lv' := [(3, .int (-9)), (2, .int (nI (aF σ))), (0, .ref (B 0)), (1, .int w)]) hx hb dX0_smile_30 rfl hl (by decide) rfl (fun ls hl => ?_)
      refine lv_bipush (v := (-9)) hx hb dX0_smile_31 (by decide) ?_
      refine lv_istore (lv' := [(4, .int (-9)), (3, .int (-9)), (2, .int (nI (aF σ))), (0, .ref (B 0)), (1, .int w)]) hx hb dX0_smile_33 hl (by decide) rfl (fun ls hl => ?_)
      refine lv_iconst (v := nI 0) hx hb dX0_smile_35 (by decide) ?_
      refine lv_istore (lv' := [(5, .int (nI 0)), (4, .int (-9)), (3, .int (-9)), (2, .int (nI (aF σ))), (0, .ref (B 0)), (1, .int w)]) hx hb dX0_smile_36 hl (by decide) rfl (fun ls hl => ?_)
      refine lp_R (σ := Nat) (fun n38 zz => zz + n38 = aD σ) (fun zz => [(5, .int (nI zz)), (4, .int (oA (smi (aN σ) (aD σ) (aE σ) (aF σ) zz))), (3, .int (oB (smi (aN σ) (aD σ) (aE σ) (aF σ) zz))), (2, .int (nI (aF σ))), (0, .ref (B 0)), (1, .int w)]) (fun n38 zz hI ih38 ls hl => ?_) (aD σ) 0 (by omega) hl
      obtain ⟨i, rfl⟩ : ∃ y, y = zz := ⟨_, rfl⟩
      have hI : i + n38 = aD σ := hI
      obtain hi := hI
      have hl : lv_has ls 7 [(5, .int (nI i)), (4, .int (oA (smi (aN σ) (aD σ) (aE σ) (aF σ) i))), (3, .int (oB (smi (aN σ) (aD σ) (aE σ) (aF σ) i))), (2, .int (nI (aF σ))), (0, .ref (B 0)), (1, .int w)] := hl
      refine lv_iload hx hb dX0_smile_38 (lv_at hl 0 rfl) ?_
      refine lv_aload_n hx hb dX0_smile_40 rfl (lv_at hl 4 rfl) ?_
      refine xg4 hx hb hts hown hK hP dX0_smile_41 ?_
      refine top_i (y := nI (aD σ)) (hm.day) ?_
      refine nc_ge (tgt := 109) hx hb dX0_smile_44 (by decide) (by omega) (by omega) (fun c3 => ?_) (fun c3 => ?_)
      · refine lv_iload_n hx hb dX0_smile_109 rfl (lv_at hl 5 rfl) ?_
        refine lv_if_ne (tgt := 118) hx hb dX0_smile_110 (by decide) (fun c4 => ?_) (fun c4 => ?_)
        · refine lv_iload_n hx hb dX0_smile_118 rfl (lv_at hl 2 rfl) ?_
          exact rR_i hx hb hr hlk dX0_smile_119 (by rw [f_smile, if_neg (bt_nf c1), if_neg c2, if_neg c4, show i = aD σ by omega])
        · refine lv_iload hx hb dX0_smile_113 (lv_at hl 1 rfl) ?_
          refine lv_goto (tgt := 119) hx hb dX0_smile_115 (by decide) ?_
          exact rR_i hx hb hr hlk dX0_smile_119 (by rw [f_smile, if_neg (bt_nf c1), if_neg c2, if_pos c4, show i = aD σ by omega])
      · refine lv_iload_n hx hb dX0_smile_47 rfl (lv_at hl 3 rfl) ?_
        refine lv_iload hx hb dX0_smile_48 (lv_at hl 0 rfl) ?_
        refine callR_S (rest := []) hx hb hml hown hts KX_st hK (cX_isOf l D d (nI (aF σ)) (nI i)) (wX0_isOf hts ⟨Nat.le_of_ble_eq_true rfl, Nat.le_of_ble_eq_true rfl⟩) trivial rfl hl.1 rfl (Nat.le_of_ble_eq_true rfl) dX0_smile_50 ⟨Nat.zero_le _, Nat.zero_le _⟩ ?_
        have hF : aF σ < 64 := Nat.lt_of_lt_of_le (fN_lt _ _ _ _) h64
        refine top_i (y := bI ((aF σ).testBit i)) (by rw [pBit_nI _ hF _ (by omega)]) ?_
        refine bz_ne (tgt := 59) hx hb dX0_smile_53 (by decide) (fun c5 => ?_) (fun c5 => ?_)
        · refine lv_aload_n hx hb dX0_smile_59 rfl (lv_at hl 4 rfl) ?_
          refine lv_iload_n hx hb dX0_smile_60 rfl (lv_at hl 3 rfl) ?_
          refine lv_iconst (v := 1) hx hb dX0_smile_61 (by decide) ?_
          refine lv_iload hx hb dX0_smile_62 (lv_at hl 0 rfl) ?_
          refine lv_ishl hx hb dX0_smile_64 ?_
          refine lv_iconst (v := (-1)) hx hb dX0_smile_65 (by decide) ?_
          refine lv_ixor hx hb dX0_smile_66 ?_
          refine lv_iand hx hb dX0_smile_67 ?_
          refine top_i (y := nI (clr (aF σ) i)) (clr_nI _ hF _ (by omega)) ?_
          refine callR_V (rest := []) hx hb hml hown hts KX_st hK (cX_villageBy l D d B τ ea hs ρ e0 F (aE σ) (aD σ) (aN σ) (clr (aF σ) i) hE hL hd hd6) (wX0_villageBy hts ⟨Nat.le_of_ble_eq_true rfl, Nat.le_of_ble_eq_true rfl⟩) (x_recv hK hP) hP rfl hl.1 rfl (Nat.le_of_ble_eq_true rfl) dX0_smile_68 ⟨Nat.zero_le _, Nat.zero_le _⟩ ?_
          refine lv_istore (lv' := [(6, .int (oI (vil (aN σ) (aD σ) (clr (aF σ) i) (aE σ)))), (5, .int (nI i)), (4, .int (oA (smi (aN σ) (aD σ) (aE σ) (aF σ) i))), (3, .int (oB (smi (aN σ) (aD σ) (aE σ) (aF σ) i))), (2, .int (nI (aF σ))), (0, .ref (B 0)), (1, .int w)]) hx hb dX0_smile_71 hl (by decide) rfl (fun ls hl => ?_)
          rcases hv : vil (aN σ) (aD σ) (clr (aF σ) i) (aE σ) with _ | x
          · rw [hv] at hl
            have hl : lv_has ls 7 [(6, .int (-9)), (5, .int (nI i)), (4, .int (oA (smi (aN σ) (aD σ) (aE σ) (aF σ) i))), (3, .int (oB (smi (aN σ) (aD σ) (aE σ) (aF σ) i))), (2, .int (nI (aF σ))), (0, .ref (B 0)), (1, .int w)] := hl
            refine lv_iload hx hb dX0_smile_73 (lv_at hl 0 rfl) ?_
            refine lv_bipush (v := (-9)) hx hb dX0_smile_75 (by decide) ?_
            refine lv_icmp_eq (tgt := 103) hx hb dX0_smile_77 (by decide) (fun c0 => ?_) (fun c0 => absurd (by decide) c0)
            refine lv_iinc (v := nI (i + 1)) (lv' := [(5, .int (nI (i + 1))), (6, .int (-9)), (4, .int (oA (smi (aN σ) (aD σ) (aE σ) (aF σ) i))), (3, .int (oB (smi (aN σ) (aD σ) (aE σ) (aF σ) i))), (2, .int (nI (aF σ))), (0, .ref (B 0)), (1, .int w)]) hx hb dX0_smile_103 hl (k := 1) rfl (inc_nI _) (by decide) rfl (fun ls hl => ?_)
            refine lv_goto (tgt := 38) hx hb dX0_smile_106 (by decide) ?_
            have es : (smi (aN σ) (aD σ) (aE σ) (aF σ) (i + 1)) = (smi (aN σ) (aD σ) (aE σ) (aF σ) i) := smi_1 c5 hv
            exact ih38 (n38 - 1) (i + 1) ls (by omega) (by omega) ((by rw [es]; exact (lv_sub hl [0, 2, 3, 4, 5, 6] rfl)))
          · have hx1 := vil_le hsp x hv
            rcases hs0 : smi (aN σ) (aD σ) (aE σ) (aF σ) i with _ | b
            · rw [hv, hs0] at hl
              have hl : lv_has ls 7 [(6, .int (nI x)), (5, .int (nI i)), (4, .int (-9)), (3, .int (-9)), (2, .int (nI (aF σ))), (0, .ref (B 0)), (1, .int w)] := hl
              refine lv_iload hx hb dX0_smile_73 (lv_at hl 0 rfl) ?_
              refine lv_bipush (v := (-9)) hx hb dX0_smile_75 (by decide) ?_
              refine lv_icmp_eq (tgt := 103) hx hb dX0_smile_77 (by decide) (fun c0 => absurd c0 (n9 (by omega))) (fun c0 => ?_)
              refine lv_iload hx hb dX0_smile_80 (lv_at hl 2 rfl) ?_
              refine lv_bipush (v := (-9)) hx hb dX0_smile_82 (by decide) ?_
              refine lv_icmp_eq (tgt := 96) hx hb dX0_smile_84 (by decide) (fun c0 => ?_) (fun c0 => absurd (by decide) c0)
              refine lv_iload hx hb dX0_smile_96 (lv_at hl 1 rfl) ?_
              refine lv_istore (lv' := [(4, .int (nI i)), (6, .int (nI x)), (5, .int (nI i)), (3, .int (-9)), (2, .int (nI (aF σ))), (0, .ref (B 0)), (1, .int w)]) hx hb dX0_smile_98 hl (by decide) rfl (fun ls hl => ?_)
              refine lv_iload hx hb dX0_smile_100 (lv_at hl 1 rfl) ?_
              refine lv_istore_n (lv' := [(3, .int (nI x)), (4, .int (nI i)), (6, .int (nI x)), (5, .int (nI i)), (2, .int (nI (aF σ))), (0, .ref (B 0)), (1, .int w)]) hx hb dX0_smile_102 rfl hl (by decide) rfl (fun ls hl => ?_)
              refine lv_iinc (v := nI (i + 1)) (lv' := [(5, .int (nI (i + 1))), (3, .int (nI x)), (4, .int (nI i)), (6, .int (nI x)), (2, .int (nI (aF σ))), (0, .ref (B 0)), (1, .int w)]) hx hb dX0_smile_103 hl (k := 3) rfl (inc_nI _) (by decide) rfl (fun ls hl => ?_)
              refine lv_goto (tgt := 38) hx hb dX0_smile_106 (by decide) ?_
              have es : (smi (aN σ) (aD σ) (aE σ) (aF σ) (i + 1)) = some (i, x) := smi_2 c5 hv hs0
              exact ih38 (n38 - 1) (i + 1) ls (by omega) (by omega) ((by rw [es]; exact (lv_sub hl [0, 2, 1, 4, 5, 6] rfl)))
            · rw [hv, hs0] at hl
              have hl : lv_has ls 7 [(6, .int (nI x)), (5, .int (nI i)), (4, .int (nI b.1)), (3, .int (nI b.2)), (2, .int (nI (aF σ))), (0, .ref (B 0)), (1, .int w)] := hl
              have hb1 := smi_lt hsp i b hs0
              refine lv_iload hx hb dX0_smile_73 (lv_at hl 0 rfl) ?_
              refine lv_bipush (v := (-9)) hx hb dX0_smile_75 (by decide) ?_
              refine lv_icmp_eq (tgt := 103) hx hb dX0_smile_77 (by decide) (fun c0 => absurd c0 (n9 (by omega))) (fun c0 => ?_)
              refine lv_iload hx hb dX0_smile_80 (lv_at hl 2 rfl) ?_
              refine lv_bipush (v := (-9)) hx hb dX0_smile_82 (by decide) ?_
              refine lv_icmp_eq (tgt := 96) hx hb dX0_smile_84 (by decide) (fun c0 => absurd c0 (n9 (by omega))) (fun c0 => ?_)
              refine lv_iload hx hb dX0_smile_87 (lv_at hl 0 rfl) ?_
              refine lv_iload_n hx hb dX0_smile_89 rfl (lv_at hl 3 rfl) ?_
              refine nc_lt (tgt := 96) hx hb dX0_smile_90 (by decide) (by omega) (by omega) (fun c6 => ?_) (fun c6 => ?_)
              · refine lv_iload hx hb dX0_smile_96 (lv_at hl 1 rfl) ?_
                refine lv_istore (lv' := [(4, .int (nI i)), (6, .int (nI x)), (5, .int (nI i)), (3, .int (nI b.2)), (2, .int (nI (aF σ))), (0, .ref (B 0)), (1, .int w)]) hx hb dX0_smile_98 hl (by decide) rfl (fun ls hl => ?_)
                refine lv_iload hx hb dX0_smile_100 (lv_at hl 1 rfl) ?_
                refine lv_istore_n (lv' := [(3, .int (nI x)), (4, .int (nI i)), (6, .int (nI x)), (5, .int (nI i)), (2, .int (nI (aF σ))), (0, .ref (B 0)), (1, .int w)]) hx hb dX0_smile_102 rfl hl (by decide) rfl (fun ls hl => ?_)
                refine lv_iinc (v := nI (i + 1)) (lv' := [(5, .int (nI (i + 1))), (3, .int (nI x)), (4, .int (nI i)), (6, .int (nI x)), (2, .int (nI (aF σ))), (0, .ref (B 0)), (1, .int w)]) hx hb dX0_smile_103 hl (k := 3) rfl (inc_nI _) (by decide) rfl (fun ls hl => ?_)
                refine lv_goto (tgt := 38) hx hb dX0_smile_106 (by decide) ?_
                have es : (smi (aN σ) (aD σ) (aE σ) (aF σ) (i + 1)) = some (i, x) := smi_3 c5 hv hs0 c6
                exact ih38 (n38 - 1) (i + 1) ls (by omega) (by omega) ((by rw [es]; exact (lv_sub hl [0, 2, 1, 4, 5, 6] rfl)))
              · refine lv_goto (tgt := 103) hx hb dX0_smile_93 (by decide) ?_
                refine lv_iinc (v := nI (i + 1)) (lv' := [(5, .int (nI (i + 1))), (6, .int (nI x)), (4, .int (nI b.1)), (3, .int (nI b.2)), (2, .int (nI (aF σ))), (0, .ref (B 0)), (1, .int w)]) hx hb dX0_smile_103 hl (k := 1) rfl (inc_nI _) (by decide) rfl (fun ls hl => ?_)
                refine lv_goto (tgt := 38) hx hb dX0_smile_106 (by decide) ?_
                have es : (smi (aN σ) (aD σ) (aE σ) (aF σ) (i + 1)) = some b := smi_4 c5 hv hs0 c6
                exact ih38 (n38 - 1) (i + 1) ls (by omega) (by omega) ((by rw [es]; exact (lv_sub hl [0, 2, 3, 4, 5, 6] rfl)))
        · refine lv_goto (tgt := 103) hx hb dX0_smile_56 (by decide) ?_
          refine lv_iinc (v := nI (i + 1)) (lv' := [(5, .int (nI (i + 1))), (4, .int (oA (smi (aN σ) (aD σ) (aE σ) (aF σ) i))), (3, .int (oB (smi (aN σ) (aD σ) (aE σ) (aF σ) i))), (2, .int (nI (aF σ))), (0, .ref (B 0)), (1, .int w)]) hx hb dX0_smile_103 hl (k := 0) rfl (inc_nI _) (by decide) rfl (fun ls hl => ?_)
          refine lv_goto (tgt := 38) hx hb dX0_smile_106 (by decide) ?_
          have es : (smi (aN σ) (aD σ) (aE σ) (aF σ) (i + 1)) = (smi (aN σ) (aD σ) (aE σ) (aF σ) i) := smi_0 c5
          exact ih38 (n38 - 1) (i + 1) ls (by omega) (by omega) ((by rw [es]; exact hl))
    · refine lv_bipush (v := (-3)) hx hb dX0_smile_20 (by decide) ?_
      exact rR_i hx hb hr hlk dX0_smile_22 (by rw [f_smile, if_neg (bt_nf c1), if_pos c2])
  · refine lv_bipush (v := (-2)) hx hb dX0_smile_10 (by decide) ?_
    exact rR_i hx hb hr hlk dX0_smile_12 (by rw [f_smile, if_pos c1])
