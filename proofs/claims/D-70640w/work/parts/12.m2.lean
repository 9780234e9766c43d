/-! the Model: calls that only read -/
set_option maxHeartbeats 4000000 in
set_option maxRecDepth 100000 in
theorem cM_look (l : Launch) (D : va_G) (d : Nat → ClassId) (q : Nat) (Aq : Nat → Nat) (τ : Nat → Nat → Int32) (σ : ASt) (x : Int32) (hm : mRep σ τ)  : cR l (KM D d) yX2_look cX2_look 2 (some .int) (rk 2) [.ref q, .int x] (va_P D vwCl (mw d q Aq τ)) (.int (f_look σ x)) := by
  refine cR_start RX2 rfl (by decide) (Nat.le_of_ble_eq_true rfl) ?_
  intro p e s m below meth c hx hb hml hown hts hr hlk hK hP ls hl
  have hl : lv_has ls 2 [(0, .ref q), (1, .int x)] := hl
  have hok := hm.ok
  have hD6 : aD σ ≤ 6 := hok.1
  have hE4 : aE σ ≤ 4 := hok.2.1
  have h64 := pow6 hD6
  have hd := hm.day
  have he := hm.eat
  refine lv_aload_n hx hb dX2_look_0 rfl (lv_at hl 0 rfl) ?_
  refine lv_iload_n hx hb dX2_look_1 rfl (lv_at hl 1 rfl) ?_
  refine callR_V (rest := []) hx hb hml hown hts KM_st hK (cM_noDay l D d q Aq τ x) (wX2_noDay hts ⟨Nat.le_of_ble_eq_true rfl, Nat.le_of_ble_eq_true rfl⟩) (m_recv hK hP) hP rfl hl.1 rfl (Nat.le_of_ble_eq_true rfl) dX2_look_2 ⟨Nat.zero_le _, Nat.zero_le _⟩ ?_
  refine top_i (hm.isD x) ?_
  refine bzn_eq (tgt := 12) hx hb dX2_look_5 (by decide) (fun c1 => ?_) (fun c1 => ?_)
  · obtain ⟨jx, hjx, ej⟩ := isD_ix hok c1
    subst ej
    have ejx : ix (nI jx) = jx := nI_clamp (by omega)
    refine lv_aload_n hx hb dX2_look_12 rfl (lv_at hl 0 rfl) ?_
    refine mg3 hx hb hts hown hK hP dX2_look_13 ?_
    refine lv_iload_n hx hb dX2_look_16 rfl (lv_at hl 1 rfl) ?_
    refine ma3 hx hb hK hP (by omega) dX2_look_17 ?_
    refine top_i (y := aL σ jx) (hm.look jx hjx) ?_
    exact rR_i hx hb hr hlk dX2_look_18 (by simp [f_look, c1, ejx])
  · refine lv_iconst (v := (-1)) hx hb dX2_look_8 (by decide) ?_
    refine lv_goto (tgt := 18) hx hb dX2_look_9 (by decide) ?_
    exact rR_i hx hb hr hlk dX2_look_18 (by simp [f_look, c1])

set_option maxHeartbeats 4000000 in
set_option maxRecDepth 100000 in
theorem cM_fasts (l : Launch) (D : va_G) (d : Nat → ClassId) (q : Nat) (Aq : Nat → Nat) (τ : Nat → Nat → Int32) (σ : ASt)  (hm : mRep σ τ)  : cR l (KM D d) yX2_fasts cX2_fasts 1 (some .int) (rk 1) [.ref q] (va_P D vwCl (mw d q Aq τ)) (.int (f_fasts σ)) := by
  refine cR_start RX2 rfl (by decide) (Nat.le_of_ble_eq_true rfl) ?_
  intro p e s m below meth c hx hb hml hown hts hr hlk hK hP ls hl
  have hl : lv_has ls 1 [(0, .ref q)] := hl
  have hok := hm.ok
  have hD6 : aD σ ≤ 6 := hok.1
  have hE4 : aE σ ≤ 4 := hok.2.1
  have h64 := pow6 hD6
  have hd := hm.day
  have he := hm.eat
  refine lv_aload_n hx hb dX2_fasts_0 rfl (lv_at hl 0 rfl) ?_
  refine mg4 hx hb hts hown hK hP dX2_fasts_1 ?_
  refine top_i (y := nI (aE σ)) (hm.eat.2.1) ?_
  refine nz_ne (tgt := 12) hx hb dX2_fasts_4 (by decide) (by omega) (fun c1 => ?_) (fun c1 => ?_)
  · refine lv_aload_n hx hb dX2_fasts_12 rfl (lv_at hl 0 rfl) ?_
    refine callR_V (rest := []) hx hb hml hown hts KM_st hK (cM_fastsNow l D d q Aq τ (aD σ) hd) (wX2_fastsNow hts ⟨Nat.le_of_ble_eq_true rfl, Nat.le_of_ble_eq_true rfl⟩) (m_recv hK hP) hP rfl hl.1 rfl (Nat.le_of_ble_eq_true rfl) dX2_fasts_13 ⟨Nat.zero_le _, Nat.zero_le _⟩ ?_
    refine top_i (y := nI (aF σ)) (by rw [hm.fast]) ?_
    exact rR_i hx hb hr hlk dX2_fasts_16 (by rw [f_fasts, if_neg c1])
  · refine lv_bipush (v := (-3)) hx hb dX2_fasts_7 (by decide) ?_
    refine lv_goto (tgt := 16) hx hb dX2_fasts_9 (by decide) ?_
    exact rR_i hx hb hr hlk dX2_fasts_16 (by rw [f_fasts, if_pos c1])

set_option maxHeartbeats 4000000 in
set_option maxRecDepth 100000 in
theorem cM_yellow (l : Launch) (D : va_G) (d : Nat → ClassId) (q : Nat) (Aq : Nat → Nat) (τ : Nat → Nat → Int32) (σ : ASt) (x z : Int32) (hm : mRep σ τ)  : cR l (KM D d) yX2_yellow cX2_yellow 3 (some .int) (rk 2) [.ref q, .int x, .int z] (va_P D vwCl (mw d q Aq τ)) (.int (f_yellow σ x z)) := by
  refine cR_start RX2 rfl (by decide) (Nat.le_of_ble_eq_true rfl) ?_
  intro p e s m below meth c hx hb hml hown hts hr hlk hK hP ls hl
  have hl : lv_has ls 3 [(0, .ref q), (1, .int x), (2, .int z)] := hl
  have hok := hm.ok
  have hD6 : aD σ ≤ 6 := hok.1
  have hE4 : aE σ ≤ 4 := hok.2.1
  have h64 := pow6 hD6
  have hd := hm.day
  have he := hm.eat
  refine lv_aload_n hx hb dX2_yellow_0 rfl (lv_at hl 0 rfl) ?_
  refine lv_iload_n hx hb dX2_yellow_1 rfl (lv_at hl 1 rfl) ?_
  refine callR_V (rest := []) hx hb hml hown hts KM_st hK (cM_noEater l D d q Aq τ x) (wX2_noEater hts ⟨Nat.le_of_ble_eq_true rfl, Nat.le_of_ble_eq_true rfl⟩) (m_recv hK hP) hP rfl hl.1 rfl (Nat.le_of_ble_eq_true rfl) dX2_yellow_2 ⟨Nat.zero_le _, Nat.zero_le _⟩ ?_
  refine top_i (hm.isE x) ?_
  refine bzn_eq (tgt := 10) hx hb dX2_yellow_5 (by decide) (fun c1 => ?_) (fun c1 => ?_)
  · obtain ⟨jx, hjx, ej⟩ := isE_ix hok c1
    subst ej
    have ejx : ix (nI jx) = jx := nI_clamp (by omega)
    refine lv_aload_n hx hb dX2_yellow_10 rfl (lv_at hl 0 rfl) ?_
    refine lv_iload_n hx hb dX2_yellow_11 rfl (lv_at hl 2 rfl) ?_
    refine callR_V (rest := []) hx hb hml hown hts KM_st hK (cM_noSet l D d q Aq τ z) (wX2_noSet hts ⟨Nat.le_of_ble_eq_true rfl, Nat.le_of_ble_eq_true rfl⟩) (m_recv hK hP) hP rfl hl.1 rfl (Nat.le_of_ble_eq_true rfl) dX2_yellow_12 ⟨Nat.zero_le _, Nat.zero_le _⟩ ?_
    refine top_i (hm.isT z) ?_
    refine bzn_eq (tgt := 23) hx hb dX2_yellow_15 (by decide) (fun c2 => ?_) (fun c2 => ?_)
    · obtain ⟨jz, hjz, ej⟩ := isT_ix hok c2
      subst ej
      have ejz : ix (nI jz) = jz := nI_clamp (by omega)
      refine lv_aload_n hx hb dX2_yellow_23 rfl (lv_at hl 0 rfl) ?_
      refine lv_iload_n hx hb dX2_yellow_24 rfl (lv_at hl 1 rfl) ?_
      refine lv_iload_n hx hb dX2_yellow_25 rfl (lv_at hl 2 rfl) ?_
      refine callR_V (rest := []) hx hb hml hown hts KM_st hK (cM_yellowBy l D d q Aq τ (aD σ) (aE σ) (aN σ) jx jz hd he hjx hjz) (wX2_yellowBy hts ⟨Nat.le_of_ble_eq_true rfl, Nat.le_of_ble_eq_true rfl⟩) (m_recv hK hP) hP rfl hl.1 rfl (Nat.le_of_ble_eq_true rfl) dX2_yellow_26 ⟨Nat.zero_le _, Nat.zero_le _⟩ ?_
      exact rR_i hx hb hr hlk dX2_yellow_29 (by rw [f_yellow, if_neg (bt_nf c1), if_neg (bt_nf c2)] <;> simp only [ejx, ejz])
    · refine lv_bipush (v := (-2)) hx hb dX2_yellow_18 (by decide) ?_
      refine lv_goto (tgt := 29) hx hb dX2_yellow_20 (by decide) ?_
      exact rR_i hx hb hr hlk dX2_yellow_29 (by rw [f_yellow, if_neg (bt_nf c1), if_pos c2] <;> simp only [ejx])
  · refine lv_iconst (v := (-1)) hx hb dX2_yellow_8 (by decide) ?_
    exact rR_i hx hb hr hlk dX2_yellow_9 (by rw [f_yellow, if_pos c1])

set_option maxHeartbeats 4000000 in
set_option maxRecDepth 100000 in
theorem cM_found (l : Launch) (D : va_G) (d : Nat → ClassId) (q : Nat) (Aq : Nat → Nat) (τ : Nat → Nat → Int32) (σ : ASt) (x z w : Int32) (hm : mRep σ τ)  : cR l (KM D d) yX2_found cX2_found 4 (some .int) (rk 4) [.ref q, .int x, .int z, .int w] (va_P D vwCl (mw d q Aq τ)) (.int (f_found σ x z w)) := by
  refine cR_start RX2 rfl (by decide) (Nat.le_of_ble_eq_true rfl) ?_
  intro p e s m below meth c hx hb hml hown hts hr hlk hK hP ls hl
  have hl : lv_has ls 4 [(0, .ref q), (1, .int x), (2, .int z), (3, .int w)] := hl
  have hok := hm.ok
  have hD6 : aD σ ≤ 6 := hok.1
  have hE4 : aE σ ≤ 4 := hok.2.1
  have h64 := pow6 hD6
  have hd := hm.day
  have he := hm.eat
  refine lv_aload_n hx hb dX2_found_0 rfl (lv_at hl 0 rfl) ?_
  refine lv_iload_n hx hb dX2_found_1 rfl (lv_at hl 1 rfl) ?_
  refine callR_V (rest := []) hx hb hml hown hts KM_st hK (cM_noEater l D d q Aq τ x) (wX2_noEater hts ⟨Nat.le_of_ble_eq_true rfl, Nat.le_of_ble_eq_true rfl⟩) (m_recv hK hP) hP rfl hl.1 rfl (Nat.le_of_ble_eq_true rfl) dX2_found_2 ⟨Nat.zero_le _, Nat.zero_le _⟩ ?_
  refine top_i (hm.isE x) ?_
  refine bzn_eq (tgt := 10) hx hb dX2_found_5 (by decide) (fun c1 => ?_) (fun c1 => ?_)
  · obtain ⟨jx, hjx, ej⟩ := isE_ix hok c1
    subst ej
    have ejx : ix (nI jx) = jx := nI_clamp (by omega)
    refine lv_aload_n hx hb dX2_found_10 rfl (lv_at hl 0 rfl) ?_
    refine lv_iload_n hx hb dX2_found_11 rfl (lv_at hl 2 rfl) ?_
    refine callR_V (rest := []) hx hb hml hown hts KM_st hK (cM_noSet l D d q Aq τ z) (wX2_noSet hts ⟨Nat.le_of_ble_eq_true rfl, Nat.le_of_ble_eq_true rfl⟩) (m_recv hK hP) hP rfl hl.1 rfl (Nat.le_of_ble_eq_true rfl) dX2_found_12 ⟨Nat.zero_le _, Nat.zero_le _⟩ ?_
    refine top_i (hm.isT z) ?_
    refine bzn_ne (tgt := 28) hx hb dX2_found_15 (by decide) (fun c2 => ?_) (fun c2 => ?_)
    · refine lv_bipush (v := (-2)) hx hb dX2_found_28 (by decide) ?_
      exact rR_i hx hb hr hlk dX2_found_30 (by rw [f_found, if_neg (bt_nf c1), if_pos c2] <;> simp only [ejx])
    · obtain ⟨jz, hjz, ej⟩ := isT_ix hok c2
      subst ej
      have ejz : ix (nI jz) = jz := nI_clamp (by omega)
      refine lv_iload_n hx hb dX2_found_18 rfl (lv_at hl 3 rfl) ?_
      refine lv_i2l (v := w.toInt64) hx hb dX2_found_19 rfl ?_
      refine lv_lconst (v := 0) hx hb dX2_found_20 (by decide) ?_
      refine lv_lconst (v := 1) hx hb dX2_found_21 (by decide) ?_
      refine callR_S (rest := []) hx hb hml hown hts KM_st hK (cM_in l D d w.toInt64 0 1) (wX2_in hts ⟨Nat.le_of_ble_eq_true rfl, Nat.le_of_ble_eq_true rfl⟩) trivial rfl hl.1 rfl (Nat.le_of_ble_eq_true rfl) dX2_found_22 ⟨Nat.zero_le _, Nat.zero_le _⟩ ?_
      refine bz_ne (tgt := 31) hx hb dX2_found_25 (by decide) (fun c3 => ?_) (fun c3 => ?_)
      · refine lv_iload_n hx hb dX2_found_31 rfl (lv_at hl 3 rfl) ?_
        refine lv_if_ne (tgt := 44) hx hb dX2_found_32 (by decide) (fun c4 => ?_) (fun c4 => ?_)
        · refine lv_aload_n hx hb dX2_found_44 rfl (lv_at hl 0 rfl) ?_
          refine lv_iload_n hx hb dX2_found_45 rfl (lv_at hl 1 rfl) ?_
          refine lv_iload_n hx hb dX2_found_46 rfl (lv_at hl 2 rfl) ?_
          refine callR_V (rest := []) hx hb hml hown hts KM_st hK (cM_fineOf l D d q Aq τ (aD σ) (aE σ) (aN σ) jx jz hd he hjx hjz) (wX2_fineOf hts ⟨Nat.le_of_ble_eq_true rfl, Nat.le_of_ble_eq_true rfl⟩) (m_recv hK hP) hP rfl hl.1 rfl (Nat.le_of_ble_eq_true rfl) dX2_found_47 ⟨Nat.zero_le _, Nat.zero_le _⟩ ?_
          refine top_i (y := nI (fin (aN σ) (aD σ) (aF σ) jx jz)) (by rw [hm.fast]) ?_
          exact rR_i hx hb hr hlk dX2_found_50 (by rw [f_found, if_neg (bt_nf c1), if_neg (bt_nf c2), if_neg (bt_nf c3), if_neg c4] <;> simp only [ejx, ejz])
        · refine lv_aload_n hx hb dX2_found_35 rfl (lv_at hl 0 rfl) ?_
          refine lv_iload_n hx hb dX2_found_36 rfl (lv_at hl 1 rfl) ?_
          refine lv_iload_n hx hb dX2_found_37 rfl (lv_at hl 2 rfl) ?_
          refine callR_V (rest := []) hx hb hml hown hts KM_st hK (cM_foundBy l D d q Aq τ (aD σ) (aE σ) (aN σ) jx jz hd he hjx hjz) (wX2_foundBy hts ⟨Nat.le_of_ble_eq_true rfl, Nat.le_of_ble_eq_true rfl⟩) (m_recv hK hP) hP rfl hl.1 rfl (Nat.le_of_ble_eq_true rfl) dX2_found_38 ⟨Nat.zero_le _, Nat.zero_le _⟩ ?_
          refine top_i (y := nI (fou (aN σ) (aD σ) (aF σ) jx jz)) (by rw [hm.fast]) ?_
          refine lv_goto (tgt := 50) hx hb dX2_found_41 (by decide) ?_
          exact rR_i hx hb hr hlk dX2_found_50 (by rw [f_found, if_neg (bt_nf c1), if_neg (bt_nf c2), if_neg (bt_nf c3), if_pos c4] <;> simp only [ejx, ejz])
      · refine lv_bipush (v := (-2)) hx hb dX2_found_28 (by decide) ?_
        exact rR_i hx hb hr hlk dX2_found_30 (by rw [f_found, if_neg (bt_nf c1), if_neg (bt_nf c2), if_pos c3] <;> simp only [ejx, ejz])
  · refine lv_iconst (v := (-1)) hx hb dX2_found_8 (by decide) ?_
    exact rR_i hx hb hr hlk dX2_found_9 (by rw [f_found, if_pos c1])

set_option maxHeartbeats 4000000 in
set_option maxRecDepth 100000 in
theorem cM_ofEater (l : Launch) (D : va_G) (d : Nat → ClassId) (q : Nat) (Aq : Nat → Nat) (τ : Nat → Nat → Int32) (σ : ASt) (x w : Int32) (hm : mRep σ τ)  : cR l (KM D d) yX2_ofEater cX2_ofEater 3 (some .int) (rk 2) [.ref q, .int x, .int w] (va_P D vwCl (mw d q Aq τ)) (.int (f_ofEater σ x w)) := by
  refine cR_start RX2 rfl (by decide) (Nat.le_of_ble_eq_true rfl) ?_
  intro p e s m below meth c hx hb hml hown hts hr hlk hK hP ls hl
  have hl : lv_has ls 3 [(0, .ref q), (1, .int x), (2, .int w)] := hl
  have hok := hm.ok
  have hD6 : aD σ ≤ 6 := hok.1
  have hE4 : aE σ ≤ 4 := hok.2.1
  have h64 := pow6 hD6
  have hd := hm.day
  have he := hm.eat
  refine lv_aload_n hx hb dX2_ofEater_0 rfl (lv_at hl 0 rfl) ?_
  refine lv_iload_n hx hb dX2_ofEater_1 rfl (lv_at hl 1 rfl) ?_
  refine callR_V (rest := []) hx hb hml hown hts KM_st hK (cM_noEater l D d q Aq τ x) (wX2_noEater hts ⟨Nat.le_of_ble_eq_true rfl, Nat.le_of_ble_eq_true rfl⟩) (m_recv hK hP) hP rfl hl.1 rfl (Nat.le_of_ble_eq_true rfl) dX2_ofEater_2 ⟨Nat.zero_le _, Nat.zero_le _⟩ ?_
  refine top_i (hm.isE x) ?_
  refine bzn_eq (tgt := 10) hx hb dX2_ofEater_5 (by decide) (fun c1 => ?_) (fun c1 => ?_)
  · obtain ⟨jx, hjx, ej⟩ := isE_ix hok c1
    subst ej
    have ejx : ix (nI jx) = jx := nI_clamp (by omega)
    refine lv_iload_n hx hb dX2_ofEater_10 rfl (lv_at hl 2 rfl) ?_
    rcases Decidable.em (w = 0) with k2 | k2
    · refine lv_tableIn (tgt := 44) hx hb dX2_ofEater_11 (by rw [k2]; decide) (by rw [k2]; decide) (by rw [k2]; rfl) (by decide) ?_
      refine lv_aload_n hx hb dX2_ofEater_44 rfl (lv_at hl 0 rfl) ?_
      refine mg5 hx hb hts hown hK hP dX2_ofEater_45 ?_
      refine lv_iload_n hx hb dX2_ofEater_48 rfl (lv_at hl 1 rfl) ?_
      refine ma5 hx hb hK hP (by omega) dX2_ofEater_49 ?_
      refine top_i (y := nI (aN σ 0 jx)) ((he.2.2 jx hjx).1.1) ?_
      exact rR_i hx hb hr hlk dX2_ofEater_50 (by rw [f_ofEater, if_neg (bt_nf c1), if_pos k2] <;> simp only [ejx])
    · skip
      rcases Decidable.em (w = 1) with k3 | k3
      · refine lv_tableIn (tgt := 51) hx hb dX2_ofEater_11 (by rw [k3]; decide) (by rw [k3]; decide) (by rw [k3]; rfl) (by decide) ?_
        refine lv_aload_n hx hb dX2_ofEater_51 rfl (lv_at hl 0 rfl) ?_
        refine mg6 hx hb hts hown hK hP dX2_ofEater_52 ?_
        refine lv_iload_n hx hb dX2_ofEater_55 rfl (lv_at hl 1 rfl) ?_
        refine ma6 hx hb hK hP (by omega) dX2_ofEater_56 ?_
        refine top_i (y := nI (aN σ 1 jx)) ((he.2.2 jx hjx).2.1.1) ?_
        exact rR_i hx hb hr hlk dX2_ofEater_57 (by rw [f_ofEater, if_neg (bt_nf c1), if_neg k2, if_pos k3] <;> simp only [ejx])
      · skip
        rcases Decidable.em (w = 2) with k4 | k4
        · refine lv_tableIn (tgt := 58) hx hb dX2_ofEater_11 (by rw [k4]; decide) (by rw [k4]; decide) (by rw [k4]; rfl) (by decide) ?_
          refine lv_aload_n hx hb dX2_ofEater_58 rfl (lv_at hl 0 rfl) ?_
          refine mg7 hx hb hts hown hK hP dX2_ofEater_59 ?_
          refine lv_iload_n hx hb dX2_ofEater_62 rfl (lv_at hl 1 rfl) ?_
          refine ma7 hx hb hK hP (by omega) dX2_ofEater_63 ?_
          refine top_i (y := nI (aN σ 2 jx)) ((he.2.2 jx hjx).2.2.1.1) ?_
          exact rR_i hx hb hr hlk dX2_ofEater_64 (by rw [f_ofEater, if_neg (bt_nf c1), if_neg k2, if_neg k3, if_pos k4] <;> simp only [ejx])
        · skip
          rcases Decidable.em (w = 3) with k5 | k5
          · refine lv_tableIn (tgt := 65) hx hb dX2_ofEater_11 (by rw [k5]; decide) (by rw [k5]; decide) (by rw [k5]; rfl) (by decide) ?_
            refine lv_aload_n hx hb dX2_ofEater_65 rfl (lv_at hl 0 rfl) ?_
            refine mg8 hx hb hts hown hK hP dX2_ofEater_66 ?_
            refine lv_iload_n hx hb dX2_ofEater_69 rfl (lv_at hl 1 rfl) ?_
            refine ma8 hx hb hK hP (by omega) dX2_ofEater_70 ?_
            refine top_i (y := nI (aN σ 3 jx)) ((he.2.2 jx hjx).2.2.2.1) ?_
            exact rR_i hx hb hr hlk dX2_ofEater_71 (by rw [f_ofEater, if_neg (bt_nf c1), if_neg k2, if_neg k3, if_neg k4, if_pos k5] <;> simp only [ejx])
          · skip
            rcases Decidable.em (w = 4) with k6 | k6
            · refine lv_tableIn (tgt := 72) hx hb dX2_ofEater_11 (by rw [k6]; decide) (by rw [k6]; decide) (by rw [k6]; rfl) (by decide) ?_
              refine lv_aload_n hx hb dX2_ofEater_72 rfl (lv_at hl 0 rfl) ?_
              refine lv_iload_n hx hb dX2_ofEater_73 rfl (lv_at hl 1 rfl) ?_
              refine callR_V (rest := []) hx hb hml hown hts KM_st hK (cM_lastsOf l D d q Aq τ (aE σ) (aN σ) jx he hjx) (wX2_lastsOf hts ⟨Nat.le_of_ble_eq_true rfl, Nat.le_of_ble_eq_true rfl⟩) (m_recv hK hP) hP rfl hl.1 rfl (Nat.le_of_ble_eq_true rfl) dX2_ofEater_74 ⟨Nat.zero_le _, Nat.zero_le _⟩ ?_
              exact rR_i hx hb hr hlk dX2_ofEater_77 (by rw [f_ofEater, if_neg (bt_nf c1), if_neg k2, if_neg k3, if_neg k4, if_neg k5, if_pos k6] <;> simp only [ejx])
            · skip
              refine lv_tableOut (tgt := 78) hx hb dX2_ofEater_11 (tsw_out (lo := 0) (hi := 4) (by intro k hk1 hk2; have hk : k = 0 ∨ k = 1 ∨ k = 2 ∨ k = 3 ∨ k = 4 := (by omega); rcases hk with rfl | rfl | rfl | rfl | rfl <;> assumption)) (by decide) ?_
              refine lv_bipush (v := (-2)) hx hb dX2_ofEater_78 (by decide) ?_
              exact rR_i hx hb hr hlk dX2_ofEater_80 (by rw [f_ofEater, if_neg (bt_nf c1), if_neg k2, if_neg k3, if_neg k4, if_neg k5, if_neg k6] <;> simp only [ejx])
  · refine lv_iconst (v := (-1)) hx hb dX2_ofEater_8 (by decide) ?_
    exact rR_i hx hb hr hlk dX2_ofEater_9 (by rw [f_ofEater, if_pos c1])

set_option maxHeartbeats 4000000 in
set_option maxRecDepth 100000 in
theorem cM_best (l : Launch) (D : va_G) (d : Nat → ClassId) (q : Nat) (Aq : Nat → Nat) (τ : Nat → Nat → Int32) (σ : ASt) (x w : Int32) (hm : mRep σ τ)  : cR l (KM D d) yX2_best cX2_best 4 (some .int) (rk 5) [.ref q, .int x, .int w] (va_P D vwCl (mw d q Aq τ)) (.int (f_best σ x w)) := by
  refine cR_start RX2 rfl (by decide) (Nat.le_of_ble_eq_true rfl) ?_
  intro p e s m below meth c hx hb hml hown hts hr hlk hK hP ls hl
  have hl : lv_has ls 4 [(0, .ref q), (1, .int x), (2, .int w)] := hl
  have hok := hm.ok
  have hD6 : aD σ ≤ 6 := hok.1
  have hE4 : aE σ ≤ 4 := hok.2.1
  have h64 := pow6 hD6
  have hd := hm.day
  have he := hm.eat
  refine lv_aload_n hx hb dX2_best_0 rfl (lv_at hl 0 rfl) ?_
  refine lv_iload_n hx hb dX2_best_1 rfl (lv_at hl 1 rfl) ?_
  refine callR_V (rest := []) hx hb hml hown hts KM_st hK (cM_noEater l D d q Aq τ x) (wX2_noEater hts ⟨Nat.le_of_ble_eq_true rfl, Nat.le_of_ble_eq_true rfl⟩) (m_recv hK hP) hP rfl hl.1 rfl (Nat.le_of_ble_eq_true rfl) dX2_best_2 ⟨Nat.zero_le _, Nat.zero_le _⟩ ?_
  refine top_i (hm.isE x) ?_
  refine bzn_eq (tgt := 10) hx hb dX2_best_5 (by decide) (fun c1 => ?_) (fun c1 => ?_)
  · obtain ⟨jx, hjx, ej⟩ := isE_ix hok c1
    subst ej
    have ejx : ix (nI jx) = jx := nI_clamp (by omega)
    refine lv_iload_n hx hb dX2_best_10 rfl (lv_at hl 2 rfl) ?_
    refine lv_i2l (v := w.toInt64) hx hb dX2_best_11 rfl ?_
    refine lv_lconst (v := 0) hx hb dX2_best_12 (by decide) ?_
    refine lv_lconst (v := 1) hx hb dX2_best_13 (by decide) ?_
    refine callR_S (rest := []) hx hb hml hown hts KM_st hK (cM_in l D d w.toInt64 0 1) (wX2_in hts ⟨Nat.le_of_ble_eq_true rfl, Nat.le_of_ble_eq_true rfl⟩) trivial rfl hl.1 rfl (Nat.le_of_ble_eq_true rfl) dX2_best_14 ⟨Nat.zero_le _, Nat.zero_le _⟩ ?_
    refine bz_ne (tgt := 23) hx hb dX2_best_17 (by decide) (fun c2 => ?_) (fun c2 => ?_)
    · refine lv_aload_n hx hb dX2_best_23 rfl (lv_at hl 0 rfl) ?_
      refine lv_iload_n hx hb dX2_best_24 rfl (lv_at hl 1 rfl) ?_
      refine callR_V (rest := []) hx hb hml hown hts KM_st hK (cM_bestOf l D d q Aq τ (aD σ) (aE σ) (aN σ) jx hd he hjx) (wX2_bestOf hts ⟨Nat.le_of_ble_eq_true rfl, Nat.le_of_ble_eq_true rfl⟩) (m_recv hK hP) hP rfl hl.1 rfl (Nat.le_of_ble_eq_true rfl) dX2_best_25 ⟨Nat.zero_le _, Nat.zero_le _⟩ ?_
      refine top_i (y := oI (bst (aN σ) (aD σ) (aF σ) jx (2 ^ (aD σ)))) (by rw [hm.fast]) ?_
      refine lv_istore_n (lv' := [(3, .int (oI (bst (aN σ) (aD σ) (aF σ) jx (2 ^ (aD σ))))), (0, .ref q), (1, .int (nI jx)), (2, .int w)]) hx hb dX2_best_28 rfl hl (by decide) rfl (fun ls hl => ?_)
      rcases hb0 : bst (aN σ) (aD σ) (aF σ) jx (2 ^ (aD σ)) with _ | b
      · rw [hb0] at hl
        have hl : lv_has ls 4 [(3, .int (-9)), (0, .ref q), (1, .int (nI jx)), (2, .int w)] := hl
        refine lv_iload_n hx hb dX2_best_29 rfl (lv_at hl 0 rfl) ?_
        refine lv_if_ge (tgt := 38) hx hb dX2_best_30 (by decide) (fun c0 => absurd c0 (by decide)) (fun c0 => ?_)
        refine lv_bipush (v := (-9)) hx hb dX2_best_33 (by decide) ?_
        refine lv_goto (tgt := 52) hx hb dX2_best_35 (by decide) ?_
        exact rR_i hx hb hr hlk dX2_best_52 (by rw [f_best, if_neg (bt_nf c1), if_neg (bt_nf c2)]; simp only [ejx, hb0])
      · rw [hb0] at hl
        have hl : lv_has ls 4 [(3, .int (nI b)), (0, .ref q), (1, .int (nI jx)), (2, .int w)] := hl
        have hb1 : b < 2 ^ aD σ := bst_lt _ b hb0
        refine lv_iload_n hx hb dX2_best_29 rfl (lv_at hl 0 rfl) ?_
        refine lv_if_ge (tgt := 38) hx hb dX2_best_30 (by decide) (fun c0 => ?_) (fun c0 => absurd (nI_pos' (by omega)) c0)
        refine lv_iload_n hx hb dX2_best_38 rfl (lv_at hl 3 rfl) ?_
        refine lv_if_ne (tgt := 46) hx hb dX2_best_39 (by decide) (fun c3 => ?_) (fun c3 => ?_)
        · refine lv_aload_n hx hb dX2_best_46 rfl (lv_at hl 1 rfl) ?_
          refine lv_iload_n hx hb dX2_best_47 rfl (lv_at hl 2 rfl) ?_
          refine lv_iload_n hx hb dX2_best_48 rfl (lv_at hl 0 rfl) ?_
          refine callR_V (rest := []) hx hb hml hown hts KM_st hK (cM_fineOf l D d q Aq τ (aD σ) (aE σ) (aN σ) jx b hd he hjx hb1) (wX2_fineOf hts ⟨Nat.le_of_ble_eq_true rfl, Nat.le_of_ble_eq_true rfl⟩) (m_recv hK hP) hP rfl hl.1 rfl (Nat.le_of_ble_eq_true rfl) dX2_best_49 ⟨Nat.zero_le _, Nat.zero_le _⟩ ?_
          refine top_i (y := nI (fin (aN σ) (aD σ) (aF σ) jx b)) (by rw [hm.fast]) ?_
          exact rR_i hx hb hr hlk dX2_best_52 (by rw [f_best, if_neg (bt_nf c1), if_neg (bt_nf c2)]; simp only [ejx, hb0]; rw [if_neg c3])
        · refine lv_iload_n hx hb dX2_best_42 rfl (lv_at hl 0 rfl) ?_
          refine lv_goto (tgt := 52) hx hb dX2_best_43 (by decide) ?_
          exact rR_i hx hb hr hlk dX2_best_52 (by rw [f_best, if_neg (bt_nf c1), if_neg (bt_nf c2)]; simp only [ejx, hb0]; rw [if_pos c3])
    · refine lv_bipush (v := (-2)) hx hb dX2_best_20 (by decide) ?_
      exact rR_i hx hb hr hlk dX2_best_22 (by rw [f_best, if_neg (bt_nf c1), if_pos c2])
  · refine lv_iconst (v := (-1)) hx hb dX2_best_8 (by decide) ?_
    exact rR_i hx hb hr hlk dX2_best_9 (by rw [f_best, if_pos c1])

set_option maxHeartbeats 4000000 in
set_option maxRecDepth 100000 in
theorem cM_many (l : Launch) (D : va_G) (d : Nat → ClassId) (q : Nat) (Aq : Nat → Nat) (τ : Nat → Nat → Int32) (σ : ASt) (w : Int32) (hm : mRep σ τ)  : cR l (KM D d) yX2_many cX2_many 2 (some .int) (rk 0) [.ref q, .int w] (va_P D vwCl (mw d q Aq τ)) (.int (f_many σ w)) := by
  refine cR_start RX2 rfl (by decide) (Nat.le_of_ble_eq_true rfl) ?_
  intro p e s m below meth c hx hb hml hown hts hr hlk hK hP ls hl
  have hl : lv_has ls 2 [(0, .ref q), (1, .int w)] := hl
  have hok := hm.ok
  have hD6 : aD σ ≤ 6 := hok.1
  have hE4 : aE σ ≤ 4 := hok.2.1
  have h64 := pow6 hD6
  have hd := hm.day
  have he := hm.eat
  refine lv_iload_n hx hb dX2_many_0 rfl (lv_at hl 1 rfl) ?_
  rcases Decidable.em (w = 0) with k1 | k1
  · refine lv_tableIn (tgt := 32) hx hb dX2_many_1 (by rw [k1]; decide) (by rw [k1]; decide) (by rw [k1]; rfl) (by decide) ?_
    refine lv_aload_n hx hb dX2_many_32 rfl (lv_at hl 0 rfl) ?_
    refine mg4 hx hb hts hown hK hP dX2_many_33 ?_
    refine top_i (y := nI (aE σ)) (hm.eat.2.1) ?_
    exact rR_i hx hb hr hlk dX2_many_36 (by rw [f_many, if_pos k1])
  · skip
    rcases Decidable.em (w = 1) with k2 | k2
    · refine lv_tableIn (tgt := 37) hx hb dX2_many_1 (by rw [k2]; decide) (by rw [k2]; decide) (by rw [k2]; rfl) (by decide) ?_
      refine lv_aload_n hx hb dX2_many_37 rfl (lv_at hl 0 rfl) ?_
      refine mg2 hx hb hts hown hK hP dX2_many_38 ?_
      refine top_i (y := nI (aD σ)) (hm.day.2) ?_
      exact rR_i hx hb hr hlk dX2_many_41 (by rw [f_many, if_neg k1, if_pos k2])
    · skip
      rcases Decidable.em (w = 2) with k3 | k3
      · refine lv_tableIn (tgt := 42) hx hb dX2_many_1 (by rw [k3]; decide) (by rw [k3]; decide) (by rw [k3]; rfl) (by decide) ?_
        refine lv_aload_n hx hb dX2_many_42 rfl (lv_at hl 0 rfl) ?_
        refine mg1 hx hb hts hown hK hP dX2_many_43 ?_
        refine top_i (y := aI σ 2) (hm.sour) ?_
        exact rR_i hx hb hr hlk dX2_many_46 (by rw [f_many, if_neg k1, if_neg k2, if_pos k3])
      · skip
        rcases Decidable.em (w = 3) with k4 | k4
        · refine lv_tableIn (tgt := 47) hx hb dX2_many_1 (by rw [k4]; decide) (by rw [k4]; decide) (by rw [k4]; rfl) (by decide) ?_
          refine lv_aload_n hx hb dX2_many_47 rfl (lv_at hl 0 rfl) ?_
          refine mg19 hx hb hts hown hK hP dX2_many_48 ?_
          refine top_i (y := nI (aR σ)) (hm.rd.1) ?_
          exact rR_i hx hb hr hlk dX2_many_51 (by rw [f_many, if_neg k1, if_neg k2, if_neg k3, if_pos k4])
        · skip
          refine lv_tableOut (tgt := 52) hx hb dX2_many_1 (tsw_out (lo := 0) (hi := 3) (by intro k hk1 hk2; have hk : k = 0 ∨ k = 1 ∨ k = 2 ∨ k = 3 := (by omega); rcases hk with rfl | rfl | rfl | rfl <;> assumption)) (by decide) ?_
          refine lv_bipush (v := (-2)) hx hb dX2_many_52 (by decide) ?_
          exact rR_i hx hb hr hlk dX2_many_54 (by rw [f_many, if_neg k1, if_neg k2, if_neg k3, if_neg k4])

set_option maxHeartbeats 4000000 in
set_option maxRecDepth 100000 in
theorem cM_village (l : Launch) (D : va_G) (d : Nat → ClassId) (q : Nat) (Aq : Nat → Nat) (τ : Nat → Nat → Int32) (σ : ASt)  (hm : mRep σ τ)  : cR l (KM D d) yX2_village cX2_village 1 (some .int) (rk 6) [.ref q] (va_P D vwCl (mw d q Aq τ)) (.int (f_village σ)) := by
  refine cR_start RX2 rfl (by decide) (Nat.le_of_ble_eq_true rfl) ?_
  intro p e s m below meth c hx hb hml hown hts hr hlk hK hP ls hl
  have hl : lv_has ls 1 [(0, .ref q)] := hl
  have hok := hm.ok
  have hD6 : aD σ ≤ 6 := hok.1
  have hE4 : aE σ ≤ 4 := hok.2.1
  have h64 := pow6 hD6
  have hd := hm.day
  have he := hm.eat
  refine lv_aload_n hx hb dX2_village_0 rfl (lv_at hl 0 rfl) ?_
  refine mg4 hx hb hts hown hK hP dX2_village_1 ?_
  refine top_i (y := nI (aE σ)) (hm.eat.2.1) ?_
  refine nz_ne (tgt := 12) hx hb dX2_village_4 (by decide) (by omega) (fun c1 => ?_) (fun c1 => ?_)
  · refine lv_aload_n hx hb dX2_village_12 rfl (lv_at hl 0 rfl) ?_
    refine callR_V (rest := []) hx hb hml hown hts KM_st hK (cM_villageNow l D d q Aq τ (aD σ) (aE σ) (aN σ) hd he) (wX2_villageNow hts ⟨Nat.le_of_ble_eq_true rfl, Nat.le_of_ble_eq_true rfl⟩) (m_recv hK hP) hP rfl hl.1 rfl (Nat.le_of_ble_eq_true rfl) dX2_village_13 ⟨Nat.zero_le _, Nat.zero_le _⟩ ?_
    refine top_i (y := oI (vil (aN σ) (aD σ) (aF σ) (aE σ))) (by rw [hm.fast]) ?_
    exact rR_i hx hb hr hlk dX2_village_16 (by rw [f_village, if_neg c1])
  · refine lv_bipush (v := (-3)) hx hb dX2_village_7 (by decide) ?_
    refine lv_goto (tgt := 16) hx hb dX2_village_9 (by decide) ?_
    exact rR_i hx hb hr hlk dX2_village_16 (by rw [f_village, if_pos c1])

set_option maxHeartbeats 4000000 in
set_option maxRecDepth 100000 in
theorem cM_trace (l : Launch) (D : va_G) (d : Nat → ClassId) (q : Nat) (Aq : Nat → Nat) (τ : Nat → Nat → Int32) (σ : ASt)  (hm : mRep σ τ)  : cR l (KM D d) yX2_trace cX2_trace 1 (some .int) (rk 0) [.ref q] (va_P D vwCl (mw d q Aq τ)) (.int (aI σ 1)) := by
  refine cR_start RX2 rfl (by decide) (Nat.le_of_ble_eq_true rfl) ?_
  intro p e s m below meth c hx hb hml hown hts hr hlk hK hP ls hl
  have hl : lv_has ls 1 [(0, .ref q)] := hl
  have hok := hm.ok
  have hD6 : aD σ ≤ 6 := hok.1
  have hE4 : aE σ ≤ 4 := hok.2.1
  have h64 := pow6 hD6
  have hd := hm.day
  have he := hm.eat
  refine lv_aload_n hx hb dX2_trace_0 rfl (lv_at hl 0 rfl) ?_
  refine mg28 hx hb hts hown hK hP dX2_trace_1 ?_
  refine top_i (y := aI σ 1) (hm.trace) ?_
  exact rR_i hx hb hr hlk dX2_trace_4 (rfl)

set_option maxHeartbeats 4000000 in
set_option maxRecDepth 100000 in
theorem cM_fault (l : Launch) (D : va_G) (d : Nat → ClassId) (q : Nat) (Aq : Nat → Nat) (τ : Nat → Nat → Int32) (σ : ASt)  (hm : mRep σ τ)  : cR l (KM D d) yX2_fault cX2_fault 1 (some .int) (rk 0) [.ref q] (va_P D vwCl (mw d q Aq τ)) (.int (aI σ 0)) := by
  refine cR_start RX2 rfl (by decide) (Nat.le_of_ble_eq_true rfl) ?_
  intro p e s m below meth c hx hb hml hown hts hr hlk hK hP ls hl
  have hl : lv_has ls 1 [(0, .ref q)] := hl
  have hok := hm.ok
  have hD6 : aD σ ≤ 6 := hok.1
  have hE4 : aE σ ≤ 4 := hok.2.1
  have h64 := pow6 hD6
  have hd := hm.day
  have he := hm.eat
  refine lv_aload_n hx hb dX2_fault_0 rfl (lv_at hl 0 rfl) ?_
  refine mg0 hx hb hts hown hK hP dX2_fault_1 ?_
  refine top_i (y := aI σ 0) (hm.fault) ?_
  exact rR_i hx hb hr hlk dX2_fault_4 (rfl)

set_option maxHeartbeats 4000000 in
set_option maxRecDepth 100000 in
theorem cM_areSo (l : Launch) (D : va_G) (d : Nat → ClassId) (q : Nat) (Aq : Nat → Nat) (τ : Nat → Nat → Int32) (dd n r : Nat) (E V : Nat → Nat → Nat) (B : Nat → Bool) (hd : mDay τ dd) (he : mEat τ n E) (hv : mRd τ r V B) (hr8 : r ≤ 8) (hv2 : ∀ x, x < r → V 4 x < n ∧ V 5 x < 2 ^ dd ∧ V 6 x < dd) : cR l (KM D d) yX2_areSo cX2_areSo 3 (some .boolean) (rk 3) [.ref q] (va_P D vwCl (mw d q Aq τ)) (.int (bI (soN E V B dd (fN (τ 3) (τ 1 0) (τ 9 0) dd) r))) := by
  refine cR_start RX2 rfl (by decide) (Nat.le_of_ble_eq_true rfl) ?_
  intro p e s m below meth c hx hb hml hown hts hr hlk hK hP ls hl
  have hl : lv_has ls 3 [(0, .ref q)] := hl
  have hd6 : dd ≤ 6 := hd.1
  refine lv_iconst (v := 1) hx hb dX2_areSo_0 (by decide) ?_
  refine lv_istore_n (lv' := [(1, .int 1), (0, .ref q)]) hx hb dX2_areSo_1 rfl hl (by decide) rfl (fun ls hl => ?_)
  refine lv_iconst (v := nI 0) hx hb dX2_areSo_2 (by decide) ?_
  refine lv_istore_n (lv' := [(2, .int (nI 0)), (1, .int 1), (0, .ref q)]) hx hb dX2_areSo_3 rfl hl (by decide) rfl (fun ls hl => ?_)
  refine lp_R (σ := Nat) (fun n4 zz => zz + n4 = r) (fun zz => [(2, .int (nI zz)), (1, .int (bI (soN E V B dd (fN (τ 3) (τ 1 0) (τ 9 0) dd) zz))), (0, .ref q)]) (fun n4 zz hI ih4 ls hl => ?_) r 0 (by omega) hl
  obtain ⟨i, rfl⟩ : ∃ y, y = zz := ⟨_, rfl⟩
  have hI : i + n4 = r := hI
  obtain hi := hI
  have hl : lv_has ls 3 [(2, .int (nI i)), (1, .int (bI (soN E V B dd (fN (τ 3) (τ 1 0) (τ 9 0) dd) i))), (0, .ref q)] := hl
  refine lv_iload_n hx hb dX2_areSo_4 rfl (lv_at hl 0 rfl) ?_
  refine lv_aload_n hx hb dX2_areSo_5 rfl (lv_at hl 2 rfl) ?_
  refine mg19 hx hb hts hown hK hP dX2_areSo_6 ?_
  refine top_i (y := nI r) (hv.1) ?_
  refine nc_ge (tgt := 62) hx hb dX2_areSo_9 (by decide) (by omega) (by omega) (fun c1 => ?_) (fun c1 => ?_)
  · refine lv_iload_n hx hb dX2_areSo_62 rfl (lv_at hl 1 rfl) ?_
    exact rR_z hx hb hr hlk dX2_areSo_63 (by rw [show i = r by omega])
  · have hir : i < r := by omega
    refine lv_iload_n hx hb dX2_areSo_12 rfl (lv_at hl 1 rfl) ?_
    refine jn_i (ls := ls) (P := fun v => v = (if (soN E V B dd (fN (τ 3) (τ 1 0) (τ 9 0) dd) i) = false then (0 : Int32) else (if ¬ bI (pBit (nI (fou E dd (fN (τ 3) (τ 1 0) (τ 9 0) dd) (V 4 i) (V 5 i))) (nI (V 6 i))) = bI (B i) then (0 : Int32) else (1 : Int32)))) 55 [] (fun v ev => ?_) (fun kj2 => ?_)
    · refine top_i (y := bI (soN E V B dd (fN (τ 3) (τ 1 0) (τ 9 0) dd) (i + 1))) (by rw [ev, so_step (fou_lt hd.1 (hv2 i hir).2.1) (by have := (hv2 i hir).2.2; omega)]) ?_
      refine lv_istore_n (lv' := [(1, .int (bI (soN E V B dd (fN (τ 3) (τ 1 0) (τ 9 0) dd) (i + 1)))), (2, .int (nI i)), (0, .ref q)]) hx hb dX2_areSo_55 rfl hl (by decide) rfl (fun ls hl => ?_)
      refine lv_iinc (v := nI (i + 1)) (lv' := [(2, .int (nI (i + 1))), (1, .int (bI (soN E V B dd (fN (τ 3) (τ 1 0) (τ 9 0) dd) (i + 1)))), (0, .ref q)]) hx hb dX2_areSo_56 hl (k := 1) rfl (inc_nI _) (by decide) rfl (fun ls hl => ?_)
      refine lv_goto (tgt := 4) hx hb dX2_areSo_59 (by decide) ?_
      exact ih4 (n4 - 1) (i + 1) ls (by omega) (by omega) (hl)
    · refine bz_eq (tgt := 54) hx hb dX2_areSo_13 (by decide) (fun c3 => ?_) (fun c3 => ?_)
      · refine lv_iconst (v := 0) hx hb dX2_areSo_54 (by decide) ?_
        exact kj2 _ (by rw [if_pos c3])
      · refine lv_aload_n hx hb dX2_areSo_16 rfl (lv_at hl 2 rfl) ?_
        refine lv_aload_n hx hb dX2_areSo_17 rfl (lv_at hl 2 rfl) ?_
        refine mg20 hx hb hts hown hK hP dX2_areSo_18 ?_
        refine lv_iload_n hx hb dX2_areSo_21 rfl (lv_at hl 0 rfl) ?_
        refine ma20 hx hb hK hP (by omega) dX2_areSo_22 ?_
        refine top_i (y := nI (V 4 i)) ((hv.2 i hir).1) ?_
        refine lv_aload_n hx hb dX2_areSo_23 rfl (lv_at hl 2 rfl) ?_
        refine mg21 hx hb hts hown hK hP dX2_areSo_24 ?_
        refine lv_iload_n hx hb dX2_areSo_27 rfl (lv_at hl 0 rfl) ?_
        refine ma21 hx hb hK hP (by omega) dX2_areSo_28 ?_
        refine top_i (y := nI (V 5 i)) ((hv.2 i hir).2.1) ?_
        refine callR_V (rest := []) hx hb hml hown hts KM_st hK (cM_foundBy l D d q Aq τ dd n E (V 4 i) (V 5 i) hd he (hv2 i hir).1 (hv2 i hir).2.1) (wX2_foundBy hts ⟨Nat.le_of_ble_eq_true rfl, Nat.le_of_ble_eq_true rfl⟩) (m_recv hK hP) hP rfl hl.1 rfl (Nat.le_of_ble_eq_true rfl) dX2_areSo_29 ⟨Nat.zero_le _, Nat.zero_le _⟩ ?_
        refine lv_aload_n hx hb dX2_areSo_32 rfl (lv_at hl 2 rfl) ?_
        refine mg22 hx hb hts hown hK hP dX2_areSo_33 ?_
        refine lv_iload_n hx hb dX2_areSo_36 rfl (lv_at hl 0 rfl) ?_
        refine ma22 hx hb hK hP (by omega) dX2_areSo_37 ?_
        refine top_i (y := nI (V 6 i)) ((hv.2 i hir).2.2.1) ?_
        refine callR_S (rest := []) hx hb hml hown hts KM_st hK (cM_isIn l D d (nI (fou E dd (fN (τ 3) (τ 1 0) (τ 9 0) dd) (V 4 i) (V 5 i))) (nI (V 6 i))) (wX2_isIn hts ⟨Nat.le_of_ble_eq_true rfl, Nat.le_of_ble_eq_true rfl⟩) trivial rfl hl.1 rfl (Nat.le_of_ble_eq_true rfl) dX2_areSo_38 ⟨Nat.zero_le _, Nat.zero_le _⟩ ?_
        refine lv_aload_n hx hb dX2_areSo_41 rfl (lv_at hl 2 rfl) ?_
        refine mg23 hx hb hts hown hK hP dX2_areSo_42 ?_
        refine lv_iload_n hx hb dX2_areSo_45 rfl (lv_at hl 0 rfl) ?_
        refine ma23 hx hb hK hP (by omega) dX2_areSo_46 ?_
        refine top_i (y := bI (B i)) ((hv.2 i hir).2.2.2) ?_
        refine lv_icmp_ne (tgt := 54) hx hb dX2_areSo_47 (by decide) (fun c4 => ?_) (fun c4 => ?_)
        · refine lv_iconst (v := 0) hx hb dX2_areSo_54 (by decide) ?_
          exact kj2 _ (by rw [if_neg (bt_nf c3), if_pos c4])
        · refine lv_iconst (v := 1) hx hb dX2_areSo_50 (by decide) ?_
          refine lv_goto (tgt := 55) hx hb dX2_areSo_51 (by decide) ?_
          exact kj2 _ (by rw [if_neg (bt_nf c3), if_neg (fun hh => hh c4)])

set_option maxHeartbeats 4000000 in
set_option maxRecDepth 100000 in
theorem cM_odds (l : Launch) (D : va_G) (d : Nat → ClassId) (q : Nat) (Aq : Nat → Nat) (τ : Nat → Nat → Int32) (σ : ASt) (x z w : Int32) (hm : mRep σ τ)  : cR l (KM D d) yX2_odds cX2_odds 8 (some .long) (rk 2) [.ref q, .int x, .int z, .int w] (va_P D vwCl (mw d q Aq τ)) (.long (f_odds σ x z w)) := by
  refine cR_start RX2 rfl (by decide) (Nat.le_of_ble_eq_true rfl) ?_
  intro p e s m below meth c hx hb hml hown hts hr hlk hK hP ls hl
  have hl : lv_has ls 8 [(0, .ref q), (1, .int x), (2, .int z), (3, .int w)] := hl
  have hok := hm.ok
  have hD6 : aD σ ≤ 6 := hok.1
  have hE4 : aE σ ≤ 4 := hok.2.1
  have h64 := pow6 hD6
  have hd := hm.day
  have he := hm.eat
  refine lv_aload_n hx hb dX2_odds_0 rfl (lv_at hl 0 rfl) ?_
  refine lv_iload_n hx hb dX2_odds_1 rfl (lv_at hl 1 rfl) ?_
  refine callR_V (rest := []) hx hb hml hown hts KM_st hK (cM_noEater l D d q Aq τ x) (wX2_noEater hts ⟨Nat.le_of_ble_eq_true rfl, Nat.le_of_ble_eq_true rfl⟩) (m_recv hK hP) hP rfl hl.1 rfl (Nat.le_of_ble_eq_true rfl) dX2_odds_2 ⟨Nat.zero_le _, Nat.zero_le _⟩ ?_
  refine top_i (hm.isE x) ?_
  refine bzn_ne (tgt := 26) hx hb dX2_odds_5 (by decide) (fun c1 => ?_) (fun c1 => ?_)
  · refine callR_S (rest := []) hx hb hml hown hts KM_st hK (cM_lost l D d) (wX2_lost hts ⟨Nat.le_of_ble_eq_true rfl, Nat.le_of_ble_eq_true rfl⟩) trivial rfl hl.1 rfl (Nat.le_of_ble_eq_true rfl) dX2_odds_26 ⟨Nat.zero_le _, Nat.zero_le _⟩ ?_
    exact rR_l hx hb hr hlk dX2_odds_29 (by rw [f_odds, if_pos c1])
  · obtain ⟨jx, hjx, ej⟩ := isE_ix hok c1
    subst ej
    have ejx : ix (nI jx) = jx := nI_clamp (by omega)
    refine lv_aload_n hx hb dX2_odds_8 rfl (lv_at hl 0 rfl) ?_
    refine lv_iload_n hx hb dX2_odds_9 rfl (lv_at hl 2 rfl) ?_
    refine callR_V (rest := []) hx hb hml hown hts KM_st hK (cM_noSet l D d q Aq τ z) (wX2_noSet hts ⟨Nat.le_of_ble_eq_true rfl, Nat.le_of_ble_eq_true rfl⟩) (m_recv hK hP) hP rfl hl.1 rfl (Nat.le_of_ble_eq_true rfl) dX2_odds_10 ⟨Nat.zero_le _, Nat.zero_le _⟩ ?_
    refine top_i (hm.isT z) ?_
    refine bzn_ne (tgt := 26) hx hb dX2_odds_13 (by decide) (fun c2 => ?_) (fun c2 => ?_)
    · refine callR_S (rest := []) hx hb hml hown hts KM_st hK (cM_lost l D d) (wX2_lost hts ⟨Nat.le_of_ble_eq_true rfl, Nat.le_of_ble_eq_true rfl⟩) trivial rfl hl.1 rfl (Nat.le_of_ble_eq_true rfl) dX2_odds_26 ⟨Nat.zero_le _, Nat.zero_le _⟩ ?_
      exact rR_l hx hb hr hlk dX2_odds_29 (by rw [f_odds, if_neg (bt_nf c1), if_pos c2])
    · obtain ⟨jz, hjz, ej⟩ := isT_ix hok c2
      subst ej
      have ejz : ix (nI jz) = jz := nI_clamp (by omega)
      refine lv_iload_n hx hb dX2_odds_16 rfl (lv_at hl 3 rfl) ?_
      refine lv_i2l (v := w.toInt64) hx hb dX2_odds_17 rfl ?_
      refine lv_lconst (v := 0) hx hb dX2_odds_18 (by decide) ?_
      refine lv_lconst (v := 1) hx hb dX2_odds_19 (by decide) ?_
      refine callR_S (rest := []) hx hb hml hown hts KM_st hK (cM_in l D d w.toInt64 0 1) (wX2_in hts ⟨Nat.le_of_ble_eq_true rfl, Nat.le_of_ble_eq_true rfl⟩) trivial rfl hl.1 rfl (Nat.le_of_ble_eq_true rfl) dX2_odds_20 ⟨Nat.zero_le _, Nat.zero_le _⟩ ?_
      refine bz_ne (tgt := 30) hx hb dX2_odds_23 (by decide) (fun c3 => ?_) (fun c3 => ?_)
      · refine lv_aload_n hx hb dX2_odds_30 rfl (lv_at hl 0 rfl) ?_
        refine lv_iload_n hx hb dX2_odds_31 rfl (lv_at hl 1 rfl) ?_
        refine lv_iload_n hx hb dX2_odds_32 rfl (lv_at hl 2 rfl) ?_
        refine callR_V (rest := []) hx hb hml hown hts KM_st hK (cM_yellowBy l D d q Aq τ (aD σ) (aE σ) (aN σ) jx jz hd he hjx hjz) (wX2_yellowBy hts ⟨Nat.le_of_ble_eq_true rfl, Nat.le_of_ble_eq_true rfl⟩) (m_recv hK hP) hP rfl hl.1 rfl (Nat.le_of_ble_eq_true rfl) dX2_odds_33 ⟨Nat.zero_le _, Nat.zero_le _⟩ ?_
        refine lv_istore (lv' := [(4, .int (nI (yel (aD σ) (laN ((aN σ) 0 jx) ((aN σ) 1 jx)) jz))), (0, .ref q), (1, .int (nI jx)), (2, .int (nI jz)), (3, .int w)]) hx hb dX2_odds_36 hl (by decide) rfl (fun ls hl => ?_)
        refine lv_lconst (v := 0) hx hb dX2_odds_38 (by decide) ?_
        refine lv_lstore (lv' := [(5, .long 0), (4, .int (nI (yel (aD σ) (laN ((aN σ) 0 jx) ((aN σ) 1 jx)) jz))), (0, .ref q), (1, .int (nI jx)), (2, .int (nI jz)), (3, .int w)]) hx hb dX2_odds_39 hl (by decide) rfl (fun ls hl => ?_)
        refine lv_iconst (v := nI 0) hx hb dX2_odds_41 (by decide) ?_
        refine lv_istore (lv' := [(7, .int (nI 0)), (5, .long 0), (4, .int (nI (yel (aD σ) (laN ((aN σ) 0 jx) ((aN σ) 1 jx)) jz))), (0, .ref q), (1, .int (nI jx)), (2, .int (nI jz)), (3, .int w)]) hx hb dX2_odds_42 hl (by decide) rfl (fun ls hl => ?_)
        refine lp_R (σ := Nat) (fun n44 zz => zz + n44 = 2 ^ aD σ) (fun zz => [(7, .int (nI zz)), (5, .long (lN (cntN (yel (aD σ) (laN (aN σ 0 jx) (aN σ 1 jx)) jz) zz))), (4, .int (nI (yel (aD σ) (laN (aN σ 0 jx) (aN σ 1 jx)) jz))), (0, .ref q), (1, .int (nI jx)), (2, .int (nI jz)), (3, .int w)]) (fun n44 zz hI ih44 ls hl => ?_) (2 ^ aD σ) 0 (by omega) hl
        obtain ⟨i, rfl⟩ : ∃ y, y = zz := ⟨_, rfl⟩
        have hI : i + n44 = 2 ^ aD σ := hI
        obtain hi := hI
        have hl : lv_has ls 8 [(7, .int (nI i)), (5, .long (lN (cntN (yel (aD σ) (laN (aN σ 0 jx) (aN σ 1 jx)) jz) i))), (4, .int (nI (yel (aD σ) (laN (aN σ 0 jx) (aN σ 1 jx)) jz))), (0, .ref q), (1, .int (nI jx)), (2, .int (nI jz)), (3, .int w)] := hl
        refine lv_iload hx hb dX2_odds_44 (lv_at hl 0 rfl) ?_
        refine lv_iconst (v := 1) hx hb dX2_odds_46 (by decide) ?_
        refine lv_aload_n hx hb dX2_odds_47 rfl (lv_at hl 3 rfl) ?_
        refine mg2 hx hb hts hown hK hP dX2_odds_48 ?_
        refine top_i (y := nI (aD σ)) (hm.day.2) ?_
        refine lv_ishl hx hb dX2_odds_51 ?_
        refine top_i (y := nI (2 ^ aD σ)) (shl1 _ (by omega)) ?_
        refine nc_ge (tgt := 79) hx hb dX2_odds_52 (by decide) (by omega) (by omega) (fun c4 => ?_) (fun c4 => ?_)
        · have hi2 : i = 2 ^ aD σ := by omega
          subst hi2
          refine lv_lload hx hb dX2_odds_79 (lv_at hl 1 rfl) ?_
          refine lv_lconst (v := 1) hx hb dX2_odds_81 (by decide) ?_
          refine lv_aload_n hx hb dX2_odds_82 rfl (lv_at hl 3 rfl) ?_
          refine mg2 hx hb hts hown hK hP dX2_odds_83 ?_
          refine top_i (y := nI (aD σ)) (hm.day.2) ?_
          refine lv_lshl (v := (1 <<< ((nI (aD σ)).toInt64 &&& 63))) hx hb dX2_odds_86 rfl ?_
          refine top_l (y := lN (2 ^ aD σ)) (lshl1 _ (by omega)) ?_
          refine lv_iload_n hx hb dX2_odds_87 rfl (lv_at hl 6 rfl) ?_
          refine callR_S (rest := []) hx hb hml hown hts KM_st hK (cM_share l D d (cntN (yel (aD σ) (laN (aN σ 0 jx) (aN σ 1 jx)) jz) (2 ^ aD σ)) (2 ^ aD σ) w (by have := cntN_le (yel (aD σ) (laN (aN σ 0 jx) (aN σ 1 jx)) jz) (2 ^ aD σ); omega) (Nat.two_pow_pos _) (by omega)) (wX2_share hts ⟨Nat.le_of_ble_eq_true rfl, Nat.le_of_ble_eq_true rfl⟩) trivial rfl hl.1 rfl (Nat.le_of_ble_eq_true rfl) dX2_odds_88 ⟨Nat.zero_le _, Nat.zero_le _⟩ ?_
          exact rR_l hx hb hr hlk dX2_odds_91 (by rw [f_odds, if_neg (bt_nf c1), if_neg (bt_nf c2), if_neg (bt_nf c3)] <;> simp only [ejx, ejz])
        · refine lv_lload hx hb dX2_odds_55 (lv_at hl 1 rfl) ?_
          refine lv_iload hx hb dX2_odds_57 (lv_at hl 2 rfl) ?_
          refine lv_iload hx hb dX2_odds_59 (lv_at hl 0 rfl) ?_
          refine lv_iand hx hb dX2_odds_61 ?_
          refine top_i (y := nI ((yel (aD σ) (laN (aN σ 0 jx) (aN σ 1 jx)) jz) &&& i)) (nx_and _ _) ?_
          refine jn_l (ls := ls) (P := fun v => v = (if ¬ ((yel (aD σ) (laN (aN σ 0 jx) (aN σ 1 jx)) jz) &&& i) = 0 then (0 : Int64) else (1 : Int64))) 70 [.long (lN (cntN (yel (aD σ) (laN (aN σ 0 jx) (aN σ 1 jx)) jz) i))] (fun v ev => ?_) (fun kj5 => ?_)
          · refine lv_ladd hx hb dX2_odds_70 ?_
            refine top_l (y := lN (cntN (yel (aD σ) (laN (aN σ 0 jx) (aN σ 1 jx)) jz) (i + 1))) (by rw [ev, cnt_step]) ?_
            refine lv_lstore (lv' := [(5, .long (lN (cntN (yel (aD σ) (laN (aN σ 0 jx) (aN σ 1 jx)) jz) (i + 1)))), (7, .int (nI i)), (4, .int (nI (yel (aD σ) (laN (aN σ 0 jx) (aN σ 1 jx)) jz))), (0, .ref q), (1, .int (nI jx)), (2, .int (nI jz)), (3, .int w)]) hx hb dX2_odds_71 hl (by decide) rfl (fun ls hl => ?_)
            refine lv_iinc (v := nI (i + 1)) (lv' := [(7, .int (nI (i + 1))), (5, .long (lN (cntN (yel (aD σ) (laN (aN σ 0 jx) (aN σ 1 jx)) jz) (i + 1)))), (4, .int (nI (yel (aD σ) (laN (aN σ 0 jx) (aN σ 1 jx)) jz))), (0, .ref q), (1, .int (nI jx)), (2, .int (nI jz)), (3, .int w)]) hx hb dX2_odds_73 hl (k := 1) rfl (inc_nI _) (by decide) rfl (fun ls hl => ?_)
            refine lv_goto (tgt := 44) hx hb dX2_odds_76 (by decide) ?_
            exact ih44 (n44 - 1) (i + 1) ls (by omega) (by omega) (hl)
          · refine nz_ne (tgt := 69) hx hb dX2_odds_62 (by decide) (Nat.lt_of_le_of_lt Nat.and_le_right (by omega)) (fun c6 => ?_) (fun c6 => ?_)
            · refine lv_lconst (v := 0) hx hb dX2_odds_69 (by decide) ?_
              exact kj5 _ (by rw [if_pos c6])
            · refine lv_lconst (v := 1) hx hb dX2_odds_65 (by decide) ?_
              refine lv_goto (tgt := 70) hx hb dX2_odds_66 (by decide) ?_
              exact kj5 _ (by rw [if_neg (fun hh => hh c6)])
      · refine callR_S (rest := []) hx hb hml hown hts KM_st hK (cM_lost l D d) (wX2_lost hts ⟨Nat.le_of_ble_eq_true rfl, Nat.le_of_ble_eq_true rfl⟩) trivial rfl hl.1 rfl (Nat.le_of_ble_eq_true rfl) dX2_odds_26 ⟨Nat.zero_le _, Nat.zero_le _⟩ ?_
        exact rR_l hx hb hr hlk dX2_odds_29 (by rw [f_odds, if_neg (bt_nf c1), if_neg (bt_nf c2), if_pos c3])
