/-! the Model: sheets -/
set_option maxHeartbeats 4000000 in
set_option maxRecDepth 100000 in
theorem cM_noCell (l : Launch) (D : va_G) (d : Nat → ClassId) (q : Nat) (Aq : Nat → Nat) (τ : Nat → Nat → Int32) (σ : ASt) (jk : Nat) (i : Int32) (hm : mRep σ τ) (hk : jk < 4) : cR l (KM D d) yX2_noCell cX2_noCell 3 (some .int) (rk 1) [.ref q, .int (nI jk), .int i] (va_P D vwCl (mw d q Aq τ)) (.int (nocV σ jk i)) := by
  refine cR_start RX2 rfl (by decide) (Nat.le_of_ble_eq_true rfl) ?_
  intro p e s m below meth c hx hb hml hown hts hr hlk hK hP ls hl
  have hl : lv_has ls 3 [(0, .ref q), (1, .int (nI jk)), (2, .int i)] := hl
  have hok := hm.ok
  have hD6 : aD σ ≤ 6 := hok.1
  have hE4 : aE σ ≤ 4 := hok.2.1
  have h64 := pow6 hD6
  have hd := hm.day
  have he := hm.eat
  rcases mSh_at hm.sh (k := jk) (by omega) with ⟨hs, h24⟩ | ⟨ct, hs, h24, h25, h26⟩
  · skip
    refine lv_aload_n hx hb dX2_noCell_0 rfl (lv_at hl 0 rfl) ?_
    refine mg24 hx hb hts hown hK hP dX2_noCell_1 ?_
    refine lv_iload_n hx hb dX2_noCell_4 rfl (lv_at hl 1 rfl) ?_
    refine ma24 hx hb hK hP (hk) dX2_noCell_5 ?_
    refine top_i (y := (-1)) (h24) ?_
    refine lv_if_ge (tgt := 13) hx hb dX2_noCell_6 (by decide) (fun c0 => absurd c0 (by decide)) (fun c0 => ?_)
    refine lv_iconst (v := 1) hx hb dX2_noCell_9 (by decide) ?_
    refine lv_goto (tgt := 36) hx hb dX2_noCell_10 (by decide) ?_
    exact rR_i hx hb hr hlk dX2_noCell_36 (by rw [nocV, hs])
  · have hc := hok.2.2.2.2.2.2 jk ct hs
    refine lv_aload_n hx hb dX2_noCell_0 rfl (lv_at hl 0 rfl) ?_
    refine mg24 hx hb hts hown hK hP dX2_noCell_1 ?_
    refine lv_iload_n hx hb dX2_noCell_4 rfl (lv_at hl 1 rfl) ?_
    refine ma24 hx hb hK hP (hk) dX2_noCell_5 ?_
    refine top_i (y := nI ct.2.1) (h24) ?_
    refine lv_if_ge (tgt := 13) hx hb dX2_noCell_6 (by decide) (fun c0 => ?_) (fun c0 => absurd (nI_pos' (by omega)) c0)
    refine lv_iload_n hx hb dX2_noCell_13 rfl (lv_at hl 2 rfl) ?_
    refine lv_i2l (v := i.toInt64) hx hb dX2_noCell_14 rfl ?_
    refine lv_lconst (v := 0) hx hb dX2_noCell_15 (by decide) ?_
    refine lv_aload_n hx hb dX2_noCell_16 rfl (lv_at hl 0 rfl) ?_
    refine mg24 hx hb hts hown hK hP dX2_noCell_17 ?_
    refine lv_iload_n hx hb dX2_noCell_20 rfl (lv_at hl 1 rfl) ?_
    refine ma24 hx hb hK hP (hk) dX2_noCell_21 ?_
    refine top_i (y := nI ct.2.1) (h24) ?_
    refine lv_i2l (v := (nI ct.2.1).toInt64) hx hb dX2_noCell_22 rfl ?_
    refine lv_lconst (v := 1) hx hb dX2_noCell_23 (by decide) ?_
    refine lv_lsub hx hb dX2_noCell_24 ?_
    refine callR_S (rest := []) hx hb hml hown hts KM_st hK (cM_in l D d i.toInt64 0 ((nI ct.2.1).toInt64 - 1)) (wX2_in hts ⟨Nat.le_of_ble_eq_true rfl, Nat.le_of_ble_eq_true rfl⟩) trivial rfl hl.1 rfl (Nat.le_of_ble_eq_true rfl) dX2_noCell_25 ⟨Nat.zero_le _, Nat.zero_le _⟩ ?_
    refine bz_eq (tgt := 35) hx hb dX2_noCell_28 (by decide) (fun c1 => ?_) (fun c1 => ?_)
    · refine lv_iconst (v := 3) hx hb dX2_noCell_35 (by decide) ?_
      exact rR_i hx hb hr hlk dX2_noCell_36 (by rw [nocV, hs]; simp only []; rw [if_pos c1])
    · refine lv_iconst (v := 0) hx hb dX2_noCell_31 (by decide) ?_
      refine lv_goto (tgt := 36) hx hb dX2_noCell_32 (by decide) ?_
      exact rR_i hx hb hr hlk dX2_noCell_36 (by rw [nocV, hs]; simp only []; rw [if_neg (bt_nf c1)])

set_option maxHeartbeats 4000000 in
set_option maxRecDepth 100000 in
theorem cM_lose (l : Launch) (D : va_G) (d : Nat → ClassId) (H00 : Heap) (q : Nat) (Aq : Nat → Nat) (τ : Nat → Nat → Int32) (σ : ASt) (k : Int32) (hm : mRep σ τ)  : cU l (KM D d) H00 D yX2_lose cX2_lose 3 (some .int) (rc 2 0 0) [.ref q, .int k] (mw d q Aq τ) (mPost d q Aq (some (.int (f_lose σ k).1)) (f_lose σ k).2) := by
  refine cU_start RX2 rfl (by decide) (Nat.le_of_ble_eq_true rfl) ?_
  intro p e s m below meth c A hx hb hml hown hts hr hlk hnm hK hA hAN hZ hu ls hl
  have hl : lv_has ls 3 [(0, .ref q), (1, .int k)] := hl
  have hok := hm.ok
  have hD6 : aD σ ≤ 6 := hok.1
  have hE4 : aE σ ≤ 4 := hok.2.1
  have h64 := pow6 hD6
  have hd := hm.day
  have he := hm.eat
  refine lv_iload_n hx hb dX2_lose_0 rfl (lv_at hl 1 rfl) ?_
  refine callR_S (rest := []) hx hb hml hown hts KM_st hK (cM_noSheet l D d k) (wX2_noSheet hts ⟨Nat.le_of_ble_eq_true rfl, Nat.le_of_ble_eq_true rfl⟩) trivial rfl hl.1 rfl (Nat.le_of_ble_eq_true rfl) dX2_lose_1 ⟨Nat.le_of_ble_eq_true rfl, Nat.le_of_ble_eq_true rfl⟩ ?_
  refine bzn_eq (tgt := 9) hx hb dX2_lose_4 (by decide) (fun c1 => ?_) (fun c1 => ?_)
  · obtain ⟨jk, hjk, ej⟩ := pIn_k (k := 3) (by decide) (by decide) c1
    subst ej
    have ejk : ix (nI jk) = jk := nI_clamp (by omega)
    rcases mSh_at hm.sh (k := jk) (by omega) with ⟨hs, h24⟩ | ⟨ct, hs, h24, h25, h26⟩
    · skip
      refine lv_aload_n hx hb dX2_lose_9 rfl (lv_at hl 0 rfl) ?_
      refine mg24 hx hb hts hown hK hu.1 dX2_lose_10 ?_
      refine lv_iload_n hx hb dX2_lose_13 rfl (lv_at hl 1 rfl) ?_
      refine ma24 hx hb hK hu.1 (by omega) dX2_lose_14 ?_
      refine top_i (y := (-1)) (h24) ?_
      refine lv_if_ge (tgt := 22) hx hb dX2_lose_15 (by decide) (fun c0 => absurd c0 (by decide)) (fun c0 => ?_)
      refine lv_iconst (v := 0) hx hb dX2_lose_18 (by decide) ?_
      refine lv_goto (tgt := 23) hx hb dX2_lose_19 (by decide) ?_
      refine lv_istore_n (lv' := [(2, .int 0), (0, .ref q), (1, .int (nI jk))]) hx hb dX2_lose_23 rfl hl (by decide) rfl (fun ls hl => ?_)
      refine lv_aload_n hx hb dX2_lose_24 rfl (lv_at hl 1 rfl) ?_
      refine mg24 hx hb hts hown hK hu.1 dX2_lose_25 ?_
      refine lv_iload_n hx hb dX2_lose_28 rfl (lv_at hl 2 rfl) ?_
      refine lv_iconst (v := (-1)) hx hb dX2_lose_29 (by decide) ?_
      refine ms24 hx hb hK hu (by omega) dX2_lose_30 (fun H locs hu => ?_)
      refine lv_iload_n hx hb dX2_lose_31 rfl (lv_at hl 0 rfl) ?_
      exact rU_i hx hb hr hlk hu dX2_lose_32 (Nat.le_of_ble_eq_true rfl) (Nat.le_of_ble_eq_true rfl) (by rw [show f_lose σ (nI jk) = (0, uS σ jk none) from by rw [f_lose, if_neg (bt_nf c1)]; simp only [ejk]; rw [hs]]; exact ⟨rfl, _, rfl, mRep_lose hm (by omega)⟩)
    · have hc := hok.2.2.2.2.2.2 jk ct hs
      refine lv_aload_n hx hb dX2_lose_9 rfl (lv_at hl 0 rfl) ?_
      refine mg24 hx hb hts hown hK hu.1 dX2_lose_10 ?_
      refine lv_iload_n hx hb dX2_lose_13 rfl (lv_at hl 1 rfl) ?_
      refine ma24 hx hb hK hu.1 (by omega) dX2_lose_14 ?_
      refine top_i (y := nI ct.2.1) (h24) ?_
      refine lv_if_ge (tgt := 22) hx hb dX2_lose_15 (by decide) (fun c0 => ?_) (fun c0 => absurd (nI_pos' (by omega)) c0)
      refine lv_iconst (v := 1) hx hb dX2_lose_22 (by decide) ?_
      refine lv_istore_n (lv' := [(2, .int 1), (0, .ref q), (1, .int (nI jk))]) hx hb dX2_lose_23 rfl hl (by decide) rfl (fun ls hl => ?_)
      refine lv_aload_n hx hb dX2_lose_24 rfl (lv_at hl 1 rfl) ?_
      refine mg24 hx hb hts hown hK hu.1 dX2_lose_25 ?_
      refine lv_iload_n hx hb dX2_lose_28 rfl (lv_at hl 2 rfl) ?_
      refine lv_iconst (v := (-1)) hx hb dX2_lose_29 (by decide) ?_
      refine ms24 hx hb hK hu (by omega) dX2_lose_30 (fun H locs hu => ?_)
      refine lv_iload_n hx hb dX2_lose_31 rfl (lv_at hl 0 rfl) ?_
      exact rU_i hx hb hr hlk hu dX2_lose_32 (Nat.le_of_ble_eq_true rfl) (Nat.le_of_ble_eq_true rfl) (by rw [show f_lose σ (nI jk) = (1, uS σ jk none) from by rw [f_lose, if_neg (bt_nf c1)]; simp only [ejk]; rw [hs]]; exact ⟨rfl, _, rfl, mRep_lose hm (by omega)⟩)
  · refine lv_iconst (v := (-1)) hx hb dX2_lose_7 (by decide) ?_
    exact rU_i hx hb hr hlk hu dX2_lose_8 (Nat.le_of_ble_eq_true rfl) (Nat.le_of_ble_eq_true rfl) (by rw [show f_lose σ k = ((-1), σ) from by rw [f_lose, if_pos c1]]; exact ⟨rfl, _, rfl, hm⟩)

set_option maxHeartbeats 4000000 in
set_option maxRecDepth 100000 in
theorem cM_put (l : Launch) (D : va_G) (d : Nat → ClassId) (H00 : Heap) (q : Nat) (Aq : Nat → Nat) (τ : Nat → Nat → Int32) (σ : ASt) (k i v : Int32) (hm : mRep σ τ)  : cU l (KM D d) H00 D yX2_put cX2_put 4 (some .int) (rc 2 0 0) [.ref q, .int k, .int i, .int v] (mw d q Aq τ) (mPost d q Aq (some (.int (f_put σ k i v).1)) (f_put σ k i v).2) := by
  refine cU_start RX2 rfl (by decide) (Nat.le_of_ble_eq_true rfl) ?_
  intro p e s m below meth c A hx hb hml hown hts hr hlk hnm hK hA hAN hZ hu ls hl
  have hl : lv_has ls 4 [(0, .ref q), (1, .int k), (2, .int i), (3, .int v)] := hl
  have hok := hm.ok
  have hD6 : aD σ ≤ 6 := hok.1
  have hE4 : aE σ ≤ 4 := hok.2.1
  have h64 := pow6 hD6
  have hd := hm.day
  have he := hm.eat
  refine lv_iload_n hx hb dX2_put_0 rfl (lv_at hl 1 rfl) ?_
  refine callR_S (rest := []) hx hb hml hown hts KM_st hK (cM_noSheet l D d k) (wX2_noSheet hts ⟨Nat.le_of_ble_eq_true rfl, Nat.le_of_ble_eq_true rfl⟩) trivial rfl hl.1 rfl (Nat.le_of_ble_eq_true rfl) dX2_put_1 ⟨Nat.le_of_ble_eq_true rfl, Nat.le_of_ble_eq_true rfl⟩ ?_
  refine bzn_eq (tgt := 13) hx hb dX2_put_4 (by decide) (fun c1 => ?_) (fun c1 => ?_)
  · obtain ⟨jk, hjk, ej⟩ := pIn_k (k := 3) (by decide) (by decide) c1
    subst ej
    have ejk : ix (nI jk) = jk := nI_clamp (by omega)
    rcases mSh_at hm.sh (k := jk) (by omega) with ⟨hs, h24⟩ | ⟨ct, hs, h24, h25, h26⟩
    · skip
      refine lv_aload_n hx hb dX2_put_13 rfl (lv_at hl 0 rfl) ?_
      refine lv_iload_n hx hb dX2_put_14 rfl (lv_at hl 1 rfl) ?_
      refine lv_iload_n hx hb dX2_put_15 rfl (lv_at hl 2 rfl) ?_
      refine callR_V (rest := []) hx hb hml hown hts KM_st hK (cM_noCell l D d q Aq τ σ jk i hm (by omega)) (wX2_noCell hts ⟨Nat.le_of_ble_eq_true rfl, Nat.le_of_ble_eq_true rfl⟩) (m_recv hK hu.1) hu.1 rfl hl.1 rfl (Nat.le_of_ble_eq_true rfl) dX2_put_16 ⟨Nat.le_of_ble_eq_true rfl, Nat.le_of_ble_eq_true rfl⟩ ?_
      refine top_i (y := 1) (show nocV σ jk i = 1 from by rw [nocV, hs]) ?_
      refine lv_if_le (tgt := 33) hx hb dX2_put_19 (by decide) (fun c0 => absurd c0 (by decide)) (fun c0 => ?_)
      refine lv_aload_n hx hb dX2_put_22 rfl (lv_at hl 0 rfl) ?_
      refine lv_aload_n hx hb dX2_put_23 rfl (lv_at hl 0 rfl) ?_
      refine lv_iload_n hx hb dX2_put_24 rfl (lv_at hl 1 rfl) ?_
      refine lv_iload_n hx hb dX2_put_25 rfl (lv_at hl 2 rfl) ?_
      refine callR_V (rest := [.ref q]) hx hb hml hown hts KM_st hK (cM_noCell l D d q Aq τ σ jk i hm (by omega)) (wX2_noCell hts ⟨Nat.le_of_ble_eq_true rfl, Nat.le_of_ble_eq_true rfl⟩) (m_recv hK hu.1) hu.1 rfl hl.1 rfl (Nat.le_of_ble_eq_true rfl) dX2_put_26 ⟨Nat.le_of_ble_eq_true rfl, Nat.le_of_ble_eq_true rfl⟩ ?_
      refine top_i (y := 1) (show nocV σ jk i = 1 from by rw [nocV, hs]) ?_
      refine callU_V (rest := []) hx hb hml hown hts KM_st hK hA hAN hZ (cM_failed l D d H00 q Aq τ 1) (wX2_failed hts ⟨Nat.le_of_ble_eq_true rfl, Nat.le_of_ble_eq_true rfl⟩) (m_recv hK hu.1) hu rfl hl.1 rfl (Nat.le_of_ble_eq_true rfl) dX2_put_29 ⟨Nat.le_of_ble_eq_true rfl, Nat.le_of_ble_eq_true rfl⟩ (fun r ws H locs hpo hu => ?_)
      obtain ⟨rfl, rfl⟩ := hpo
      show W _ _ _ _ _ _ _ _ _ _ _ _ _ _ _ (F0 _ 32 _ [.int ((-10) - 1)])
      exact rU_i hx hb hr hlk hu dX2_put_32 (Nat.le_of_ble_eq_true rfl) (Nat.le_of_ble_eq_true rfl) (by rw [show f_put σ (nI jk) i v = ((-11), uI σ 0 1) from by rw [f_put, if_neg (bt_nf c1)]; simp only [ejk]; rw [hs]]; exact ⟨rfl, _, rfl, mRep_fault hm 1⟩)
    · have hc := hok.2.2.2.2.2.2 jk ct hs
      rcases hci : isC ct i with _ | _
      · skip
        refine lv_aload_n hx hb dX2_put_13 rfl (lv_at hl 0 rfl) ?_
        refine lv_iload_n hx hb dX2_put_14 rfl (lv_at hl 1 rfl) ?_
        refine lv_iload_n hx hb dX2_put_15 rfl (lv_at hl 2 rfl) ?_
        refine callR_V (rest := []) hx hb hml hown hts KM_st hK (cM_noCell l D d q Aq τ σ jk i hm (by omega)) (wX2_noCell hts ⟨Nat.le_of_ble_eq_true rfl, Nat.le_of_ble_eq_true rfl⟩) (m_recv hK hu.1) hu.1 rfl hl.1 rfl (Nat.le_of_ble_eq_true rfl) dX2_put_16 ⟨Nat.le_of_ble_eq_true rfl, Nat.le_of_ble_eq_true rfl⟩ ?_
        refine top_i (y := 3) (show nocV σ jk i = 3 from by rw [nocV, hs]; simp only []; rw [if_pos hci]) ?_
        refine lv_if_le (tgt := 33) hx hb dX2_put_19 (by decide) (fun c0 => absurd c0 (by decide)) (fun c0 => ?_)
        refine lv_aload_n hx hb dX2_put_22 rfl (lv_at hl 0 rfl) ?_
        refine lv_aload_n hx hb dX2_put_23 rfl (lv_at hl 0 rfl) ?_
        refine lv_iload_n hx hb dX2_put_24 rfl (lv_at hl 1 rfl) ?_
        refine lv_iload_n hx hb dX2_put_25 rfl (lv_at hl 2 rfl) ?_
        refine callR_V (rest := [.ref q]) hx hb hml hown hts KM_st hK (cM_noCell l D d q Aq τ σ jk i hm (by omega)) (wX2_noCell hts ⟨Nat.le_of_ble_eq_true rfl, Nat.le_of_ble_eq_true rfl⟩) (m_recv hK hu.1) hu.1 rfl hl.1 rfl (Nat.le_of_ble_eq_true rfl) dX2_put_26 ⟨Nat.le_of_ble_eq_true rfl, Nat.le_of_ble_eq_true rfl⟩ ?_
        refine top_i (y := 3) (show nocV σ jk i = 3 from by rw [nocV, hs]; simp only []; rw [if_pos hci]) ?_
        refine callU_V (rest := []) hx hb hml hown hts KM_st hK hA hAN hZ (cM_failed l D d H00 q Aq τ 3) (wX2_failed hts ⟨Nat.le_of_ble_eq_true rfl, Nat.le_of_ble_eq_true rfl⟩) (m_recv hK hu.1) hu rfl hl.1 rfl (Nat.le_of_ble_eq_true rfl) dX2_put_29 ⟨Nat.le_of_ble_eq_true rfl, Nat.le_of_ble_eq_true rfl⟩ (fun r ws H locs hpo hu => ?_)
        obtain ⟨rfl, rfl⟩ := hpo
        show W _ _ _ _ _ _ _ _ _ _ _ _ _ _ _ (F0 _ 32 _ [.int ((-10) - 3)])
        exact rU_i hx hb hr hlk hu dX2_put_32 (Nat.le_of_ble_eq_true rfl) (Nat.le_of_ble_eq_true rfl) (by rw [show f_put σ (nI jk) i v = ((-13), uI σ 0 3) from by rw [f_put, if_neg (bt_nf c1)]; simp only [ejk]; rw [hs]; simp only []; rw [if_pos hci]]; exact ⟨rfl, _, rfl, mRep_fault hm 3⟩)
      · obtain ⟨ji, hji, ej⟩ := pIn_ix (by omega) hci
        subst ej
        have eji : ix (nI ji) = ji := nI_clamp (by omega)
        refine lv_aload_n hx hb dX2_put_13 rfl (lv_at hl 0 rfl) ?_
        refine lv_iload_n hx hb dX2_put_14 rfl (lv_at hl 1 rfl) ?_
        refine lv_iload_n hx hb dX2_put_15 rfl (lv_at hl 2 rfl) ?_
        refine callR_V (rest := []) hx hb hml hown hts KM_st hK (cM_noCell l D d q Aq τ σ jk (nI ji) hm (by omega)) (wX2_noCell hts ⟨Nat.le_of_ble_eq_true rfl, Nat.le_of_ble_eq_true rfl⟩) (m_recv hK hu.1) hu.1 rfl hl.1 rfl (Nat.le_of_ble_eq_true rfl) dX2_put_16 ⟨Nat.le_of_ble_eq_true rfl, Nat.le_of_ble_eq_true rfl⟩ ?_
        refine top_i (y := 0) (show nocV σ jk (nI ji) = 0 from by rw [nocV, hs]; simp only []; rw [if_neg (bt_nf hci)]) ?_
        refine lv_if_le (tgt := 33) hx hb dX2_put_19 (by decide) (fun c0 => ?_) (fun c0 => absurd (by decide) c0)
        refine lv_aload_n hx hb dX2_put_33 rfl (lv_at hl 0 rfl) ?_
        refine mg26 hx hb hts hown hK hu.1 dX2_put_34 ?_
        refine lv_bipush (v := nI 60) hx hb dX2_put_37 (by decide) ?_
        refine lv_iload_n hx hb dX2_put_39 rfl (lv_at hl 1 rfl) ?_
        refine lv_imul hx hb dX2_put_40 ?_
        refine lv_iload_n hx hb dX2_put_41 rfl (lv_at hl 2 rfl) ?_
        refine lv_iadd hx hb dX2_put_42 ?_
        refine top_i (y := nI (60 * jk + ji)) (by rw [pk_mul, nI_add]) ?_
        refine lv_aload_n hx hb dX2_put_43 rfl (lv_at hl 0 rfl) ?_
        refine mg25 hx hb hts hown hK hu.1 dX2_put_44 ?_
        refine lv_iload_n hx hb dX2_put_47 rfl (lv_at hl 1 rfl) ?_
        refine ma25 hx hb hK hu.1 (by omega) dX2_put_48 ?_
        refine top_i (y := nI ct.1) (h25) ?_
        refine jn_i (ls := ls) (P := fun vv => vv = (if ¬ ct.1 = 0 then (if ¬ nI ct.1 = 1 then v else v.toInt16.toInt32) else v.toInt8.toInt32)) 73 [.int (nI (60 * jk + ji)), .ref (Aq 26)] (fun vv evv => ?_) (fun kj2 => ?_)
        · refine top_i (y := nrw ct.1 v) (by rw [evv, nrw_step hc.1]) ?_
          refine ms26 hx hb hK hu (by omega) dX2_put_73 (fun H locs hu => ?_)
          refine lv_aload_n hx hb dX2_put_74 rfl (lv_at hl 0 rfl) ?_
          refine lv_iconst (v := 1) hx hb dX2_put_75 (by decide) ?_
          refine callU_V (rest := []) hx hb hml hown hts KM_st hK hA hAN hZ (cM_refused l D d H00 q Aq (put2 τ 26 (60 * jk + ji) (nrw ct.1 v)) 1) (wX2_refused hts ⟨Nat.le_of_ble_eq_true rfl, Nat.le_of_ble_eq_true rfl⟩) (m_recv hK hu.1) hu rfl hl.1 rfl (Nat.le_of_ble_eq_true rfl) dX2_put_76 ⟨Nat.le_of_ble_eq_true rfl, Nat.le_of_ble_eq_true rfl⟩ (fun r ws H locs hpo hu => ?_)
          obtain ⟨rfl, rfl⟩ := hpo
          show W _ _ _ _ _ _ _ _ _ _ _ _ _ _ _ (F0 _ 79 _ [.int 1])
          exact rU_i hx hb hr hlk hu dX2_put_79 (Nat.le_of_ble_eq_true rfl) (Nat.le_of_ble_eq_true rfl) (by rw [show f_put σ (nI jk) (nI ji) v = (1, uI (uS σ jk (some (ct.1, ct.2.1, upd ct.2.2 ji (nrw ct.1 v)))) 0 0) from by rw [f_put, if_neg (bt_nf c1)]; simp only [ejk]; rw [hs]; simp only []; rw [if_neg (bt_nf hci)]; simp only [eji]]; exact ⟨rfl, _, rfl, mRep_fault (mRep_put hm (by omega) hs hji _) 0⟩)
        · refine nz_ne (tgt := 57) hx hb dX2_put_49 (by decide) (by omega) (fun c3 => ?_) (fun c3 => ?_)
          · refine lv_aload_n hx hb dX2_put_57 rfl (lv_at hl 0 rfl) ?_
            refine mg25 hx hb hts hown hK hu.1 dX2_put_58 ?_
            refine lv_iload_n hx hb dX2_put_61 rfl (lv_at hl 1 rfl) ?_
            refine ma25 hx hb hK hu.1 (by omega) dX2_put_62 ?_
            refine top_i (y := nI ct.1) (h25) ?_
            refine lv_iconst (v := 1) hx hb dX2_put_63 (by decide) ?_
            refine lv_icmp_ne (tgt := 72) hx hb dX2_put_64 (by decide) (fun c4 => ?_) (fun c4 => ?_)
            · refine lv_iload_n hx hb dX2_put_72 rfl (lv_at hl 3 rfl) ?_
              exact kj2 _ (by rw [if_pos c3, if_pos c4])
            · refine lv_iload_n hx hb dX2_put_67 rfl (lv_at hl 3 rfl) ?_
              refine lv_i2s (v := v.toInt16.toInt32) hx hb dX2_put_68 rfl ?_
              refine lv_goto (tgt := 73) hx hb dX2_put_69 (by decide) ?_
              exact kj2 _ (by rw [if_pos c3, if_neg (fun hh => hh c4)])
          · refine lv_iload_n hx hb dX2_put_52 rfl (lv_at hl 3 rfl) ?_
            refine lv_i2b (v := v.toInt8.toInt32) hx hb dX2_put_53 rfl ?_
            refine lv_goto (tgt := 73) hx hb dX2_put_54 (by decide) ?_
            exact kj2 _ (by rw [if_neg (fun hh => hh c3)])
  · refine lv_aload_n hx hb dX2_put_7 rfl (lv_at hl 0 rfl) ?_
    refine lv_iconst (v := (-1)) hx hb dX2_put_8 (by decide) ?_
    refine callU_V (rest := []) hx hb hml hown hts KM_st hK hA hAN hZ (cM_refused l D d H00 q Aq τ (-1)) (wX2_refused hts ⟨Nat.le_of_ble_eq_true rfl, Nat.le_of_ble_eq_true rfl⟩) (m_recv hK hu.1) hu rfl hl.1 rfl (Nat.le_of_ble_eq_true rfl) dX2_put_9 ⟨Nat.le_of_ble_eq_true rfl, Nat.le_of_ble_eq_true rfl⟩ (fun r ws H locs hpo hu => ?_)
    obtain ⟨rfl, rfl⟩ := hpo
    show W _ _ _ _ _ _ _ _ _ _ _ _ _ _ _ (F0 _ 12 _ [.int (-1)])
    exact rU_i hx hb hr hlk hu dX2_put_12 (Nat.le_of_ble_eq_true rfl) (Nat.le_of_ble_eq_true rfl) (by rw [show f_put σ k i v = ((-1), uI σ 0 0) from by rw [f_put, if_pos c1]]; exact ⟨rfl, _, rfl, mRep_fault hm 0⟩)

set_option maxHeartbeats 4000000 in
set_option maxRecDepth 100000 in
theorem cM_cell (l : Launch) (D : va_G) (d : Nat → ClassId) (H00 : Heap) (q : Nat) (Aq : Nat → Nat) (τ : Nat → Nat → Int32) (σ : ASt) (k i x : Int32) (hm : mRep σ τ)  : cU l (KM D d) H00 D yX2_cell cX2_cell 4 (some .long) (rc 2 0 0) [.ref q, .int k, .int i, .int x] (mw d q Aq τ) (mPost d q Aq (some (.long (f_cell σ k i x).1)) (f_cell σ k i x).2) := by
  refine cU_start RX2 rfl (by decide) (Nat.le_of_ble_eq_true rfl) ?_
  intro p e s m below meth c A hx hb hml hown hts hr hlk hnm hK hA hAN hZ hu ls hl
  have hl : lv_has ls 4 [(0, .ref q), (1, .int k), (2, .int i), (3, .int x)] := hl
  have hok := hm.ok
  have hD6 : aD σ ≤ 6 := hok.1
  have hE4 : aE σ ≤ 4 := hok.2.1
  have h64 := pow6 hD6
  have hd := hm.day
  have he := hm.eat
  refine lv_aload_n hx hb dX2_cell_0 rfl (lv_at hl 0 rfl) ?_
  refine lv_iconst (v := 0) hx hb dX2_cell_1 (by decide) ?_
  refine mp0 hx hb hts hown hK hu dX2_cell_2 (fun H locs hu => ?_)
  refine lv_iload_n hx hb dX2_cell_5 rfl (lv_at hl 1 rfl) ?_
  refine callR_S (rest := []) hx hb hml hown hts KM_st hK (cM_noSheet l D d k) (wX2_noSheet hts ⟨Nat.le_of_ble_eq_true rfl, Nat.le_of_ble_eq_true rfl⟩) trivial rfl hl.1 rfl (Nat.le_of_ble_eq_true rfl) dX2_cell_6 ⟨Nat.le_of_ble_eq_true rfl, Nat.le_of_ble_eq_true rfl⟩ ?_
  refine bzn_ne (tgt := 24) hx hb dX2_cell_9 (by decide) (fun c1 => ?_) (fun c1 => ?_)
  · refine callR_S (rest := []) hx hb hml hown hts KM_st hK (cM_lost l D d) (wX2_lost hts ⟨Nat.le_of_ble_eq_true rfl, Nat.le_of_ble_eq_true rfl⟩) trivial rfl hl.1 rfl (Nat.le_of_ble_eq_true rfl) dX2_cell_24 ⟨Nat.le_of_ble_eq_true rfl, Nat.le_of_ble_eq_true rfl⟩ ?_
    exact rU_l hx hb hr hlk hu dX2_cell_27 (Nat.le_of_ble_eq_true rfl) (Nat.le_of_ble_eq_true rfl) (by rw [show f_cell σ k i x = (LOSTv, uI σ 0 0) from by rw [f_cell, if_pos c1]]; exact ⟨rfl, _, rfl, mRep_fault hm 0⟩)
  · obtain ⟨jk, hjk, ej⟩ := pIn_k (k := 3) (by decide) (by decide) c1
    subst ej
    have ejk : ix (nI jk) = jk := nI_clamp (by omega)
    refine lv_iload_n hx hb dX2_cell_12 rfl (lv_at hl 3 rfl) ?_
    refine lv_i2l (v := x.toInt64) hx hb dX2_cell_13 rfl ?_
    refine lv_lconst (v := 0) hx hb dX2_cell_14 (by decide) ?_
    refine lv_ldc2 (v := 2) hx hb hown (hts _ q1007) dX2_cell_15 ?_
    refine callR_S (rest := []) hx hb hml hown hts KM_st hK (cM_in l D d x.toInt64 0 2) (wX2_in hts ⟨Nat.le_of_ble_eq_true rfl, Nat.le_of_ble_eq_true rfl⟩) trivial rfl hl.1 rfl (Nat.le_of_ble_eq_true rfl) dX2_cell_18 ⟨Nat.le_of_ble_eq_true rfl, Nat.le_of_ble_eq_true rfl⟩ ?_
    refine bz_ne (tgt := 28) hx hb dX2_cell_21 (by decide) (fun c2 => ?_) (fun c2 => ?_)
    · obtain ⟨jx, hjx, ej⟩ := pIn_k (k := 2) (by decide) (by decide) c2
      subst ej
      have ejx : ix (nI jx) = jx := nI_clamp (by omega)
      rcases mSh_at hm.sh (k := jk) (by omega) with ⟨hs, h24⟩ | ⟨ct, hs, h24, h25, h26⟩
      · skip
        refine lv_aload_n hx hb dX2_cell_28 rfl (lv_at hl 0 rfl) ?_
        refine mg24 hx hb hts hown hK hu.1 dX2_cell_29 ?_
        refine lv_iload_n hx hb dX2_cell_32 rfl (lv_at hl 1 rfl) ?_
        refine ma24 hx hb hK hu.1 (by omega) dX2_cell_33 ?_
        refine top_i (y := (-1)) (h24) ?_
        refine lv_if_lt (tgt := 53) hx hb dX2_cell_34 (by decide) (fun c0 => ?_) (fun c0 => absurd (by decide) c0)
        refine lv_aload_n hx hb dX2_cell_53 rfl (lv_at hl 0 rfl) ?_
        refine lv_iload_n hx hb dX2_cell_54 rfl (lv_at hl 1 rfl) ?_
        refine lv_iload_n hx hb dX2_cell_55 rfl (lv_at hl 2 rfl) ?_
        refine callR_V (rest := []) hx hb hml hown hts KM_st hK (cM_noCell l D d q Aq (put2 τ 0 0 0) (uI σ 0 0) jk i (mRep_fault hm 0) (by omega)) (wX2_noCell hts ⟨Nat.le_of_ble_eq_true rfl, Nat.le_of_ble_eq_true rfl⟩) (m_recv hK hu.1) hu.1 rfl hl.1 rfl (Nat.le_of_ble_eq_true rfl) dX2_cell_56 ⟨Nat.le_of_ble_eq_true rfl, Nat.le_of_ble_eq_true rfl⟩ ?_
        refine top_i (y := 1) (show nocV σ jk i = 1 from by rw [nocV, hs]) ?_
        refine lv_if_le (tgt := 75) hx hb dX2_cell_59 (by decide) (fun c0 => absurd c0 (by decide)) (fun c0 => ?_)
        refine lv_aload_n hx hb dX2_cell_62 rfl (lv_at hl 0 rfl) ?_
        refine lv_aload_n hx hb dX2_cell_63 rfl (lv_at hl 0 rfl) ?_
        refine lv_iload_n hx hb dX2_cell_64 rfl (lv_at hl 1 rfl) ?_
        refine lv_iload_n hx hb dX2_cell_65 rfl (lv_at hl 2 rfl) ?_
        refine callR_V (rest := [.ref q]) hx hb hml hown hts KM_st hK (cM_noCell l D d q Aq (put2 τ 0 0 0) (uI σ 0 0) jk i (mRep_fault hm 0) (by omega)) (wX2_noCell hts ⟨Nat.le_of_ble_eq_true rfl, Nat.le_of_ble_eq_true rfl⟩) (m_recv hK hu.1) hu.1 rfl hl.1 rfl (Nat.le_of_ble_eq_true rfl) dX2_cell_66 ⟨Nat.le_of_ble_eq_true rfl, Nat.le_of_ble_eq_true rfl⟩ ?_
        refine top_i (y := 1) (show nocV σ jk i = 1 from by rw [nocV, hs]) ?_
        refine callU_V (rest := []) hx hb hml hown hts KM_st hK hA hAN hZ (cM_failedLong l D d H00 q Aq (put2 τ 0 0 0) 1) (wX2_failedLong hts ⟨Nat.le_of_ble_eq_true rfl, Nat.le_of_ble_eq_true rfl⟩) (m_recv hK hu.1) hu rfl hl.1 rfl (Nat.le_of_ble_eq_true rfl) dX2_cell_69 ⟨Nat.le_of_ble_eq_true rfl, Nat.le_of_ble_eq_true rfl⟩ (fun r ws H locs hpo hu => ?_)
        obtain ⟨rfl, rfl⟩ := hpo
        show W _ _ _ _ _ _ _ _ _ _ _ _ _ _ _ (F0 _ 72 _ [.long LOSTv])
        refine lv_goto (tgt := 87) hx hb dX2_cell_72 (by decide) ?_
        exact rU_l hx hb hr hlk hu dX2_cell_87 (Nat.le_of_ble_eq_true rfl) (Nat.le_of_ble_eq_true rfl) (by rw [show f_cell σ (nI jk) i (nI jx) = (LOSTv, uI σ 0 1) from by rw [f_cell, if_neg (bt_nf c1), if_neg (bt_nf c2)]; simp only [ejk, ejx]; rw [hs]]; exact ⟨rfl, _, rfl, mRep_fault hm 1⟩)
      · have hc := hok.2.2.2.2.2.2 jk ct hs
        refine lv_aload_n hx hb dX2_cell_28 rfl (lv_at hl 0 rfl) ?_
        refine mg24 hx hb hts hown hK hu.1 dX2_cell_29 ?_
        refine lv_iload_n hx hb dX2_cell_32 rfl (lv_at hl 1 rfl) ?_
        refine ma24 hx hb hK hu.1 (by omega) dX2_cell_33 ?_
        refine top_i (y := nI ct.2.1) (h24) ?_
        refine lv_if_lt (tgt := 53) hx hb dX2_cell_34 (by decide) (fun c0 => absurd c0 (nI_pos (by omega))) (fun c0 => ?_)
        refine lv_aload_n hx hb dX2_cell_37 rfl (lv_at hl 0 rfl) ?_
        refine mg25 hx hb hts hown hK hu.1 dX2_cell_38 ?_
        refine lv_iload_n hx hb dX2_cell_41 rfl (lv_at hl 1 rfl) ?_
        refine ma25 hx hb hK hu.1 (by omega) dX2_cell_42 ?_
        refine top_i (y := nI ct.1) (h25) ?_
        refine lv_iload_n hx hb dX2_cell_43 rfl (lv_at hl 3 rfl) ?_
        refine nc_eq (tgt := 53) hx hb dX2_cell_44 (by decide) (by omega) (by omega) (fun c3 => ?_) (fun c3 => ?_)
        · rcases hci : isC ct i with _ | _
          · skip
            refine lv_aload_n hx hb dX2_cell_53 rfl (lv_at hl 0 rfl) ?_
            refine lv_iload_n hx hb dX2_cell_54 rfl (lv_at hl 1 rfl) ?_
            refine lv_iload_n hx hb dX2_cell_55 rfl (lv_at hl 2 rfl) ?_
            refine callR_V (rest := []) hx hb hml hown hts KM_st hK (cM_noCell l D d q Aq (put2 τ 0 0 0) (uI σ 0 0) jk i (mRep_fault hm 0) (by omega)) (wX2_noCell hts ⟨Nat.le_of_ble_eq_true rfl, Nat.le_of_ble_eq_true rfl⟩) (m_recv hK hu.1) hu.1 rfl hl.1 rfl (Nat.le_of_ble_eq_true rfl) dX2_cell_56 ⟨Nat.le_of_ble_eq_true rfl, Nat.le_of_ble_eq_true rfl⟩ ?_
            refine top_i (y := 3) (show nocV σ jk i = 3 from by rw [nocV, hs]; simp only []; rw [if_pos hci]) ?_
            refine lv_if_le (tgt := 75) hx hb dX2_cell_59 (by decide) (fun c0 => absurd c0 (by decide)) (fun c0 => ?_)
            refine lv_aload_n hx hb dX2_cell_62 rfl (lv_at hl 0 rfl) ?_
            refine lv_aload_n hx hb dX2_cell_63 rfl (lv_at hl 0 rfl) ?_
            refine lv_iload_n hx hb dX2_cell_64 rfl (lv_at hl 1 rfl) ?_
            refine lv_iload_n hx hb dX2_cell_65 rfl (lv_at hl 2 rfl) ?_
            refine callR_V (rest := [.ref q]) hx hb hml hown hts KM_st hK (cM_noCell l D d q Aq (put2 τ 0 0 0) (uI σ 0 0) jk i (mRep_fault hm 0) (by omega)) (wX2_noCell hts ⟨Nat.le_of_ble_eq_true rfl, Nat.le_of_ble_eq_true rfl⟩) (m_recv hK hu.1) hu.1 rfl hl.1 rfl (Nat.le_of_ble_eq_true rfl) dX2_cell_66 ⟨Nat.le_of_ble_eq_true rfl, Nat.le_of_ble_eq_true rfl⟩ ?_
            refine top_i (y := 3) (show nocV σ jk i = 3 from by rw [nocV, hs]; simp only []; rw [if_pos hci]) ?_
            refine callU_V (rest := []) hx hb hml hown hts KM_st hK hA hAN hZ (cM_failedLong l D d H00 q Aq (put2 τ 0 0 0) 3) (wX2_failedLong hts ⟨Nat.le_of_ble_eq_true rfl, Nat.le_of_ble_eq_true rfl⟩) (m_recv hK hu.1) hu rfl hl.1 rfl (Nat.le_of_ble_eq_true rfl) dX2_cell_69 ⟨Nat.le_of_ble_eq_true rfl, Nat.le_of_ble_eq_true rfl⟩ (fun r ws H locs hpo hu => ?_)
            obtain ⟨rfl, rfl⟩ := hpo
            show W _ _ _ _ _ _ _ _ _ _ _ _ _ _ _ (F0 _ 72 _ [.long LOSTv])
            refine lv_goto (tgt := 87) hx hb dX2_cell_72 (by decide) ?_
            exact rU_l hx hb hr hlk hu dX2_cell_87 (Nat.le_of_ble_eq_true rfl) (Nat.le_of_ble_eq_true rfl) (by rw [show f_cell σ (nI jk) i (nI jx) = (LOSTv, uI σ 0 3) from by rw [f_cell, if_neg (bt_nf c1), if_neg (bt_nf c2)]; simp only [ejk, ejx]; rw [hs]; simp only []; rw [if_neg (fun hh => hh c3), if_pos hci]]; exact ⟨rfl, _, rfl, mRep_fault hm 3⟩)
          · obtain ⟨ji, hji, ej⟩ := pIn_ix (by omega) hci
            subst ej
            have eji : ix (nI ji) = ji := nI_clamp (by omega)
            refine lv_aload_n hx hb dX2_cell_53 rfl (lv_at hl 0 rfl) ?_
            refine lv_iload_n hx hb dX2_cell_54 rfl (lv_at hl 1 rfl) ?_
            refine lv_iload_n hx hb dX2_cell_55 rfl (lv_at hl 2 rfl) ?_
            refine callR_V (rest := []) hx hb hml hown hts KM_st hK (cM_noCell l D d q Aq (put2 τ 0 0 0) (uI σ 0 0) jk (nI ji) (mRep_fault hm 0) (by omega)) (wX2_noCell hts ⟨Nat.le_of_ble_eq_true rfl, Nat.le_of_ble_eq_true rfl⟩) (m_recv hK hu.1) hu.1 rfl hl.1 rfl (Nat.le_of_ble_eq_true rfl) dX2_cell_56 ⟨Nat.le_of_ble_eq_true rfl, Nat.le_of_ble_eq_true rfl⟩ ?_
            refine top_i (y := 0) (show nocV σ jk (nI ji) = 0 from by rw [nocV, hs]; simp only []; rw [if_neg (bt_nf hci)]) ?_
            refine lv_if_le (tgt := 75) hx hb dX2_cell_59 (by decide) (fun c0 => ?_) (fun c0 => absurd (by decide) c0)
            refine lv_aload_n hx hb dX2_cell_75 rfl (lv_at hl 0 rfl) ?_
            refine mg26 hx hb hts hown hK hu.1 dX2_cell_76 ?_
            refine lv_bipush (v := nI 60) hx hb dX2_cell_79 (by decide) ?_
            refine lv_iload_n hx hb dX2_cell_81 rfl (lv_at hl 1 rfl) ?_
            refine lv_imul hx hb dX2_cell_82 ?_
            refine lv_iload_n hx hb dX2_cell_83 rfl (lv_at hl 2 rfl) ?_
            refine lv_iadd hx hb dX2_cell_84 ?_
            refine top_i (y := nI (60 * jk + ji)) (by rw [pk_mul, nI_add]) ?_
            refine ma26 hx hb hK hu.1 (by omega) dX2_cell_85 ?_
            refine top_i (y := ct.2.2 ji) (h26 ji hji) ?_
            refine lv_i2l (v := (ct.2.2 ji).toInt64) hx hb dX2_cell_86 rfl ?_
            exact rU_l hx hb hr hlk hu dX2_cell_87 (Nat.le_of_ble_eq_true rfl) (Nat.le_of_ble_eq_true rfl) (by rw [show f_cell σ (nI jk) (nI ji) (nI jx) = ((ct.2.2 ji).toInt64, uI σ 0 0) from by rw [f_cell, if_neg (bt_nf c1), if_neg (bt_nf c2)]; simp only [ejk, ejx]; rw [hs]; simp only []; rw [if_neg (fun hh => hh c3), if_neg (bt_nf hci)]; simp only [eji]]; exact ⟨rfl, _, rfl, mRep_fault hm 0⟩)
        · refine lv_aload_n hx hb dX2_cell_47 rfl (lv_at hl 0 rfl) ?_
          refine lv_iconst (v := 2) hx hb dX2_cell_48 (by decide) ?_
          refine callU_V (rest := []) hx hb hml hown hts KM_st hK hA hAN hZ (cM_failedLong l D d H00 q Aq (put2 τ 0 0 0) 2) (wX2_failedLong hts ⟨Nat.le_of_ble_eq_true rfl, Nat.le_of_ble_eq_true rfl⟩) (m_recv hK hu.1) hu rfl hl.1 rfl (Nat.le_of_ble_eq_true rfl) dX2_cell_49 ⟨Nat.le_of_ble_eq_true rfl, Nat.le_of_ble_eq_true rfl⟩ (fun r ws H locs hpo hu => ?_)
          obtain ⟨rfl, rfl⟩ := hpo
          show W _ _ _ _ _ _ _ _ _ _ _ _ _ _ _ (F0 _ 52 _ [.long LOSTv])
          exact rU_l hx hb hr hlk hu dX2_cell_52 (Nat.le_of_ble_eq_true rfl) (Nat.le_of_ble_eq_true rfl) (by rw [show f_cell σ (nI jk) i (nI jx) = (LOSTv, uI σ 0 2) from by rw [f_cell, if_neg (bt_nf c1), if_neg (bt_nf c2)]; simp only [ejk, ejx]; rw [hs]; simp only []; rw [if_pos c3]]; exact ⟨rfl, _, rfl, mRep_fault hm 2⟩)
    · refine callR_S (rest := []) hx hb hml hown hts KM_st hK (cM_lost l D d) (wX2_lost hts ⟨Nat.le_of_ble_eq_true rfl, Nat.le_of_ble_eq_true rfl⟩) trivial rfl hl.1 rfl (Nat.le_of_ble_eq_true rfl) dX2_cell_24 ⟨Nat.le_of_ble_eq_true rfl, Nat.le_of_ble_eq_true rfl⟩ ?_
      exact rU_l hx hb hr hlk hu dX2_cell_27 (Nat.le_of_ble_eq_true rfl) (Nat.le_of_ble_eq_true rfl) (by rw [show f_cell σ (nI jk) i x = (LOSTv, uI σ 0 0) from by rw [f_cell, if_neg (bt_nf c1), if_pos c2]]; exact ⟨rfl, _, rfl, mRep_fault hm 0⟩)

set_option maxHeartbeats 4000000 in
set_option maxRecDepth 100000 in
theorem cM_sheet (l : Launch) (D : va_G) (d : Nat → ClassId) (H00 : Heap) (q : Nat) (Aq : Nat → Nat) (τ : Nat → Nat → Int32) (σ : ASt) (k x n : Int32) (hm : mRep σ τ)  : cU l (KM D d) H00 D yX2_sheet cX2_sheet 5 (some .int) (rc 2 0 0) [.ref q, .int k, .int x, .int n] (mw d q Aq τ) (mPost d q Aq (some (.int (f_sheet σ k x n).1)) (f_sheet σ k x n).2) := by
  refine cU_start RX2 rfl (by decide) (Nat.le_of_ble_eq_true rfl) ?_
  intro p e s m below meth c A hx hb hml hown hts hr hlk hnm hK hA hAN hZ hu ls hl
  have hl : lv_has ls 5 [(0, .ref q), (1, .int k), (2, .int x), (3, .int n)] := hl
  have hok := hm.ok
  have hD6 : aD σ ≤ 6 := hok.1
  have hE4 : aE σ ≤ 4 := hok.2.1
  have h64 := pow6 hD6
  have hd := hm.day
  have he := hm.eat
  refine lv_iload_n hx hb dX2_sheet_0 rfl (lv_at hl 1 rfl) ?_
  refine callR_S (rest := []) hx hb hml hown hts KM_st hK (cM_noSheet l D d k) (wX2_noSheet hts ⟨Nat.le_of_ble_eq_true rfl, Nat.le_of_ble_eq_true rfl⟩) trivial rfl hl.1 rfl (Nat.le_of_ble_eq_true rfl) dX2_sheet_1 ⟨Nat.le_of_ble_eq_true rfl, Nat.le_of_ble_eq_true rfl⟩ ?_
  refine bzn_eq (tgt := 13) hx hb dX2_sheet_4 (by decide) (fun c1 => ?_) (fun c1 => ?_)
  · obtain ⟨jk, hjk, ej⟩ := pIn_k (k := 3) (by decide) (by decide) c1
    subst ej
    have ejk : ix (nI jk) = jk := nI_clamp (by omega)
    refine lv_iload_n hx hb dX2_sheet_13 rfl (lv_at hl 2 rfl) ?_
    refine lv_i2l (v := x.toInt64) hx hb dX2_sheet_14 rfl ?_
    refine lv_lconst (v := 0) hx hb dX2_sheet_15 (by decide) ?_
    refine lv_ldc2 (v := 2) hx hb hown (hts _ q1007) dX2_sheet_16 ?_
    refine callR_S (rest := []) hx hb hml hown hts KM_st hK (cM_in l D d x.toInt64 0 2) (wX2_in hts ⟨Nat.le_of_ble_eq_true rfl, Nat.le_of_ble_eq_true rfl⟩) trivial rfl hl.1 rfl (Nat.le_of_ble_eq_true rfl) dX2_sheet_19 ⟨Nat.le_of_ble_eq_true rfl, Nat.le_of_ble_eq_true rfl⟩ ?_
    refine bz_eq (tgt := 31) hx hb dX2_sheet_22 (by decide) (fun c2 => ?_) (fun c2 => ?_)
    · refine lv_aload_n hx hb dX2_sheet_31 rfl (lv_at hl 0 rfl) ?_
      refine lv_bipush (v := (-2)) hx hb dX2_sheet_32 (by decide) ?_
      refine callU_V (rest := []) hx hb hml hown hts KM_st hK hA hAN hZ (cM_refused l D d H00 q Aq τ (-2)) (wX2_refused hts ⟨Nat.le_of_ble_eq_true rfl, Nat.le_of_ble_eq_true rfl⟩) (m_recv hK hu.1) hu rfl hl.1 rfl (Nat.le_of_ble_eq_true rfl) dX2_sheet_34 ⟨Nat.le_of_ble_eq_true rfl, Nat.le_of_ble_eq_true rfl⟩ (fun r ws H locs hpo hu => ?_)
      obtain ⟨rfl, rfl⟩ := hpo
      show W _ _ _ _ _ _ _ _ _ _ _ _ _ _ _ (F0 _ 37 _ [.int (-2)])
      exact rU_i hx hb hr hlk hu dX2_sheet_37 (Nat.le_of_ble_eq_true rfl) (Nat.le_of_ble_eq_true rfl) (by rw [show f_sheet σ (nI jk) x n = ((-2), uI σ 0 0) from by rw [f_sheet, if_neg (bt_nf c1), if_pos c2]]; exact ⟨rfl, _, rfl, mRep_fault hm 0⟩)
    · obtain ⟨jx, hjx, ej⟩ := pIn_k (k := 2) (by decide) (by decide) c2
      subst ej
      have ejx : ix (nI jx) = jx := nI_clamp (by omega)
      refine lv_iload_n hx hb dX2_sheet_25 rfl (lv_at hl 3 rfl) ?_
      refine lv_bipush (v := 60) hx hb dX2_sheet_26 (by decide) ?_
      refine lv_icmp_le (tgt := 38) hx hb dX2_sheet_28 (by decide) (fun c3 => ?_) (fun c3 => ?_)
      · refine lv_iload_n hx hb dX2_sheet_38 rfl (lv_at hl 3 rfl) ?_
        refine lv_if_ge (tgt := 48) hx hb dX2_sheet_39 (by decide) (fun c4 => ?_) (fun c4 => ?_)
        · obtain ⟨jn, hjn, ej⟩ := nI_of2 (M := 60) (n := 60) (by decide) (i32_nlt.mpr c4) c3
          subst ej
          have ejn : ix (nI jn) = jn := nI_clamp (by omega)
          refine lv_aload_n hx hb dX2_sheet_48 rfl (lv_at hl 0 rfl) ?_
          refine mg24 hx hb hts hown hK hu.1 dX2_sheet_49 ?_
          refine lv_iload_n hx hb dX2_sheet_52 rfl (lv_at hl 1 rfl) ?_
          refine lv_iload_n hx hb dX2_sheet_53 rfl (lv_at hl 3 rfl) ?_
          refine ms24 hx hb hK hu (by omega) dX2_sheet_54 (fun H locs hu => ?_)
          refine lv_aload_n hx hb dX2_sheet_55 rfl (lv_at hl 0 rfl) ?_
          refine mg25 hx hb hts hown hK hu.1 dX2_sheet_56 ?_
          refine lv_iload_n hx hb dX2_sheet_59 rfl (lv_at hl 1 rfl) ?_
          refine lv_iload_n hx hb dX2_sheet_60 rfl (lv_at hl 2 rfl) ?_
          refine ms25 hx hb hK hu (by omega) dX2_sheet_61 (fun H locs hu => ?_)
          refine lv_iconst (v := nI 0) hx hb dX2_sheet_62 (by decide) ?_
          refine lv_istore (lv' := [(4, .int (nI 0)), (0, .ref q), (1, .int (nI jk)), (2, .int (nI jx)), (3, .int (nI jn))]) hx hb dX2_sheet_63 hl (by decide) rfl (fun ls hl => ?_)
          refine lp_U (σ := Nat × (Nat → Nat → Int32)) (fun n65 zz => zz.1 + n65 = jn ∧ shI τ zz.2 jk jx jn zz.1) (fun zz => [(4, .int (nI zz.1)), (0, .ref q), (1, .int (nI jk)), (2, .int (nI jx)), (3, .int (nI jn))]) (fun zz => mw d q Aq zz.2) (fun n65 zz hI ih65 H locs ls hu hl => ?_) jn (0, put2 (put2 τ 24 jk (nI jn)) 25 jk (nI jx)) (⟨by omega, fun r hr => rfl, fun t ht => rfl, fun t ht => absurd ht (Nat.not_lt_zero t)⟩) (hu) hl
          obtain ⟨i, τ1⟩ := zz
          have hI : i + n65 = jn ∧ shI τ τ1 jk jx jn i := hI
          obtain ⟨hi, hsI⟩ := hI
          have hl : lv_has ls 5 [(4, .int (nI i)), (0, .ref q), (1, .int (nI jk)), (2, .int (nI jx)), (3, .int (nI jn))] := hl
          have hu : uW D A s.heap H locs (mw d q Aq τ1) := hu
          refine lv_iload hx hb dX2_sheet_65 (lv_at hl 0 rfl) ?_
          refine lv_iload_n hx hb dX2_sheet_67 rfl (lv_at hl 4 rfl) ?_
          refine nc_ge (tgt := 90) hx hb dX2_sheet_68 (by decide) (by omega) (by omega) (fun c5 => ?_) (fun c5 => ?_)
          · refine lv_aload_n hx hb dX2_sheet_90 rfl (lv_at hl 1 rfl) ?_
            refine lv_iconst (v := 1) hx hb dX2_sheet_91 (by decide) ?_
            refine callU_V (rest := []) hx hb hml hown hts KM_st hK hA hAN hZ (cM_refused l D d H00 q Aq τ1 1) (wX2_refused hts ⟨Nat.le_of_ble_eq_true rfl, Nat.le_of_ble_eq_true rfl⟩) (m_recv hK hu.1) hu rfl hl.1 rfl (Nat.le_of_ble_eq_true rfl) dX2_sheet_92 ⟨Nat.le_of_ble_eq_true rfl, Nat.le_of_ble_eq_true rfl⟩ (fun r ws H locs hpo hu => ?_)
            obtain ⟨rfl, rfl⟩ := hpo
            show W _ _ _ _ _ _ _ _ _ _ _ _ _ _ _ (F0 _ 95 _ [.int 1])
            exact rU_i hx hb hr hlk hu dX2_sheet_95 (Nat.le_of_ble_eq_true rfl) (Nat.le_of_ble_eq_true rfl) (by rw [show f_sheet σ (nI jk) (nI jx) (nI jn) = (1, uI (uS σ jk (some (jx, jn, fun _ => 0))) 0 0) from by rw [f_sheet, if_neg (bt_nf c1), if_neg (bt_nf c2), if_neg (i32_nlt.mpr c3), if_neg (i32_nlt.mpr c4)]; simp only [ejk, ejx, ejn]]; exact ⟨rfl, _, rfl, mRep_fault (mRep_sheet hm (by omega) (by omega) hjn (by rw [show i = jn by omega] at hsI; exact hsI)) 0⟩)
          · refine lv_aload_n hx hb dX2_sheet_71 rfl (lv_at hl 1 rfl) ?_
            refine mg26 hx hb hts hown hK hu.1 dX2_sheet_72 ?_
            refine lv_bipush (v := nI 60) hx hb dX2_sheet_75 (by decide) ?_
            refine lv_iload_n hx hb dX2_sheet_77 rfl (lv_at hl 2 rfl) ?_
            refine lv_imul hx hb dX2_sheet_78 ?_
            refine lv_iload hx hb dX2_sheet_79 (lv_at hl 0 rfl) ?_
            refine lv_iadd hx hb dX2_sheet_81 ?_
            refine top_i (y := nI (60 * jk + i)) (by rw [pk_mul, nI_add]) ?_
            refine lv_iconst (v := 0) hx hb dX2_sheet_82 (by decide) ?_
            refine ms26 hx hb hK hu (by omega) dX2_sheet_83 (fun H locs hu => ?_)
            refine lv_iinc (v := nI (i + 1)) (lv' := [(4, .int (nI (i + 1))), (0, .ref q), (1, .int (nI jk)), (2, .int (nI jx)), (3, .int (nI jn))]) hx hb dX2_sheet_84 hl (k := 0) rfl (inc_nI _) (by decide) rfl (fun ls hl => ?_)
            refine lv_goto (tgt := 65) hx hb dX2_sheet_87 (by decide) ?_
            exact ih65 (n65 - 1) (i + 1, put2 τ1 26 (60 * jk + i) 0) _ _ ls (by omega) (⟨by omega, shI_step hsI (by omega)⟩) hu (hl)
        · refine lv_aload_n hx hb dX2_sheet_42 rfl (lv_at hl 0 rfl) ?_
          refine lv_iconst (v := 4) hx hb dX2_sheet_43 (by decide) ?_
          refine callU_V (rest := []) hx hb hml hown hts KM_st hK hA hAN hZ (cM_failed l D d H00 q Aq τ 4) (wX2_failed hts ⟨Nat.le_of_ble_eq_true rfl, Nat.le_of_ble_eq_true rfl⟩) (m_recv hK hu.1) hu rfl hl.1 rfl (Nat.le_of_ble_eq_true rfl) dX2_sheet_44 ⟨Nat.le_of_ble_eq_true rfl, Nat.le_of_ble_eq_true rfl⟩ (fun r ws H locs hpo hu => ?_)
          obtain ⟨rfl, rfl⟩ := hpo
          show W _ _ _ _ _ _ _ _ _ _ _ _ _ _ _ (F0 _ 47 _ [.int ((-10) - 4)])
          exact rU_i hx hb hr hlk hu dX2_sheet_47 (Nat.le_of_ble_eq_true rfl) (Nat.le_of_ble_eq_true rfl) (by rw [show f_sheet σ (nI jk) (nI jx) n = ((-14), uI σ 0 4) from by rw [f_sheet, if_neg (bt_nf c1), if_neg (bt_nf c2), if_neg (i32_nlt.mpr c3), if_pos (i32_nle.mp c4)]]; exact ⟨rfl, _, rfl, mRep_fault hm 4⟩)
      · refine lv_aload_n hx hb dX2_sheet_31 rfl (lv_at hl 0 rfl) ?_
        refine lv_bipush (v := (-2)) hx hb dX2_sheet_32 (by decide) ?_
        refine callU_V (rest := []) hx hb hml hown hts KM_st hK hA hAN hZ (cM_refused l D d H00 q Aq τ (-2)) (wX2_refused hts ⟨Nat.le_of_ble_eq_true rfl, Nat.le_of_ble_eq_true rfl⟩) (m_recv hK hu.1) hu rfl hl.1 rfl (Nat.le_of_ble_eq_true rfl) dX2_sheet_34 ⟨Nat.le_of_ble_eq_true rfl, Nat.le_of_ble_eq_true rfl⟩ (fun r ws H locs hpo hu => ?_)
        obtain ⟨rfl, rfl⟩ := hpo
        show W _ _ _ _ _ _ _ _ _ _ _ _ _ _ _ (F0 _ 37 _ [.int (-2)])
        exact rU_i hx hb hr hlk hu dX2_sheet_37 (Nat.le_of_ble_eq_true rfl) (Nat.le_of_ble_eq_true rfl) (by rw [show f_sheet σ (nI jk) (nI jx) n = ((-2), uI σ 0 0) from by rw [f_sheet, if_neg (bt_nf c1), if_neg (bt_nf c2), if_pos (i32_nle.mp c3)]]; exact ⟨rfl, _, rfl, mRep_fault hm 0⟩)
  · refine lv_aload_n hx hb dX2_sheet_7 rfl (lv_at hl 0 rfl) ?_
    refine lv_iconst (v := (-1)) hx hb dX2_sheet_8 (by decide) ?_
    refine callU_V (rest := []) hx hb hml hown hts KM_st hK hA hAN hZ (cM_refused l D d H00 q Aq τ (-1)) (wX2_refused hts ⟨Nat.le_of_ble_eq_true rfl, Nat.le_of_ble_eq_true rfl⟩) (m_recv hK hu.1) hu rfl hl.1 rfl (Nat.le_of_ble_eq_true rfl) dX2_sheet_9 ⟨Nat.le_of_ble_eq_true rfl, Nat.le_of_ble_eq_true rfl⟩ (fun r ws H locs hpo hu => ?_)
    obtain ⟨rfl, rfl⟩ := hpo
    show W _ _ _ _ _ _ _ _ _ _ _ _ _ _ _ (F0 _ 12 _ [.int (-1)])
    exact rU_i hx hb hr hlk hu dX2_sheet_12 (Nat.le_of_ble_eq_true rfl) (Nat.le_of_ble_eq_true rfl) (by rw [show f_sheet σ k x n = ((-1), uI σ 0 0) from by rw [f_sheet, if_pos c1]]; exact ⟨rfl, _, rfl, mRep_fault hm 0⟩)

set_option maxHeartbeats 4000000 in
set_option maxRecDepth 100000 in
theorem cM_copy (l : Launch) (D : va_G) (d : Nat → ClassId) (H00 : Heap) (q : Nat) (Aq : Nat → Nat) (τ : Nat → Nat → Int32) (σ : ASt) (k i o j n : Int32) (hm : mRep σ τ)  : cU l (KM D d) H00 D yX2_copy cX2_copy 7 (some .int) (rc 2 0 0) [.ref q, .int k, .int i, .int o, .int j, .int n] (mw d q Aq τ) (mPost d q Aq (some (.int (f_copy σ k i o j n).1)) (f_copy σ k i o j n).2) := by
  refine cU_start RX2 rfl (by decide) (Nat.le_of_ble_eq_true rfl) ?_
  intro p e s m below meth c A hx hb hml hown hts hr hlk hnm hK hA hAN hZ hu ls hl
  have hl : lv_has ls 7 [(0, .ref q), (1, .int k), (2, .int i), (3, .int o), (4, .int j), (5, .int n)] := hl
  have hok := hm.ok
  have hD6 : aD σ ≤ 6 := hok.1
  have hE4 : aE σ ≤ 4 := hok.2.1
  have h64 := pow6 hD6
  have hd := hm.day
  have he := hm.eat
  refine lv_iload_n hx hb dX2_copy_0 rfl (lv_at hl 1 rfl) ?_
  refine callR_S (rest := []) hx hb hml hown hts KM_st hK (cM_noSheet l D d k) (wX2_noSheet hts ⟨Nat.le_of_ble_eq_true rfl, Nat.le_of_ble_eq_true rfl⟩) trivial rfl hl.1 rfl (Nat.le_of_ble_eq_true rfl) dX2_copy_1 ⟨Nat.le_of_ble_eq_true rfl, Nat.le_of_ble_eq_true rfl⟩ ?_
  refine bzn_ne (tgt := 14) hx hb dX2_copy_4 (by decide) (fun c1 => ?_) (fun c1 => ?_)
  · refine lv_aload_n hx hb dX2_copy_14 rfl (lv_at hl 0 rfl) ?_
    refine lv_iconst (v := (-1)) hx hb dX2_copy_15 (by decide) ?_
    refine callU_V (rest := []) hx hb hml hown hts KM_st hK hA hAN hZ (cM_refused l D d H00 q Aq τ (-1)) (wX2_refused hts ⟨Nat.le_of_ble_eq_true rfl, Nat.le_of_ble_eq_true rfl⟩) (m_recv hK hu.1) hu rfl hl.1 rfl (Nat.le_of_ble_eq_true rfl) dX2_copy_16 ⟨Nat.le_of_ble_eq_true rfl, Nat.le_of_ble_eq_true rfl⟩ (fun r ws H locs hpo hu => ?_)
    obtain ⟨rfl, rfl⟩ := hpo
    show W _ _ _ _ _ _ _ _ _ _ _ _ _ _ _ (F0 _ 19 _ [.int (-1)])
    exact rU_i hx hb hr hlk hu dX2_copy_19 (Nat.le_of_ble_eq_true rfl) (Nat.le_of_ble_eq_true rfl) (by rw [show f_copy σ k i o j n = ((-1), uI σ 0 0) from by rw [f_copy, if_pos c1]]; exact ⟨rfl, _, rfl, mRep_fault hm 0⟩)
  · obtain ⟨jk, hjk, ej⟩ := pIn_k (k := 3) (by decide) (by decide) c1
    subst ej
    have ejk : ix (nI jk) = jk := nI_clamp (by omega)
    refine lv_iload_n hx hb dX2_copy_7 rfl (lv_at hl 3 rfl) ?_
    refine callR_S (rest := []) hx hb hml hown hts KM_st hK (cM_noSheet l D d o) (wX2_noSheet hts ⟨Nat.le_of_ble_eq_true rfl, Nat.le_of_ble_eq_true rfl⟩) trivial rfl hl.1 rfl (Nat.le_of_ble_eq_true rfl) dX2_copy_8 ⟨Nat.le_of_ble_eq_true rfl, Nat.le_of_ble_eq_true rfl⟩ ?_
    refine bzn_eq (tgt := 20) hx hb dX2_copy_11 (by decide) (fun c2 => ?_) (fun c2 => ?_)
    · obtain ⟨jo, hjo, ej⟩ := pIn_k (k := 3) (by decide) (by decide) c2
      subst ej
      have ejo : ix (nI jo) = jo := nI_clamp (by omega)
      rcases mSh_at hm.sh (k := jk) (by omega) with ⟨hsa, h24a⟩ | ⟨ca, hsa, h24a, h25a, h26a⟩
      · skip
        refine lv_aload_n hx hb dX2_copy_20 rfl (lv_at hl 0 rfl) ?_
        refine mg24 hx hb hts hown hK hu.1 dX2_copy_21 ?_
        refine lv_iload_n hx hb dX2_copy_24 rfl (lv_at hl 1 rfl) ?_
        refine ma24 hx hb hK hu.1 (by omega) dX2_copy_25 ?_
        refine top_i (y := (-1)) (h24a) ?_
        refine lv_if_lt (tgt := 38) hx hb dX2_copy_26 (by decide) (fun c0 => ?_) (fun c0 => absurd (by decide) c0)
        refine lv_aload_n hx hb dX2_copy_38 rfl (lv_at hl 0 rfl) ?_
        refine lv_iconst (v := 1) hx hb dX2_copy_39 (by decide) ?_
        refine callU_V (rest := []) hx hb hml hown hts KM_st hK hA hAN hZ (cM_failed l D d H00 q Aq τ 1) (wX2_failed hts ⟨Nat.le_of_ble_eq_true rfl, Nat.le_of_ble_eq_true rfl⟩) (m_recv hK hu.1) hu rfl hl.1 rfl (Nat.le_of_ble_eq_true rfl) dX2_copy_40 ⟨Nat.le_of_ble_eq_true rfl, Nat.le_of_ble_eq_true rfl⟩ (fun r ws H locs hpo hu => ?_)
        obtain ⟨rfl, rfl⟩ := hpo
        show W _ _ _ _ _ _ _ _ _ _ _ _ _ _ _ (F0 _ 43 _ [.int ((-10) - 1)])
        exact rU_i hx hb hr hlk hu dX2_copy_43 (Nat.le_of_ble_eq_true rfl) (Nat.le_of_ble_eq_true rfl) (by rw [show f_copy σ (nI jk) i (nI jo) j n = ((-11), uI σ 0 1) from by rw [f_copy, if_neg (bt_nf c1), if_neg (bt_nf c2)]; simp only [ejk, ejo]; rw [hsa]]; exact ⟨rfl, _, rfl, mRep_fault hm 1⟩)
      · have hca := hok.2.2.2.2.2.2 jk ca hsa
        refine lv_aload_n hx hb dX2_copy_20 rfl (lv_at hl 0 rfl) ?_
        refine mg24 hx hb hts hown hK hu.1 dX2_copy_21 ?_
        refine lv_iload_n hx hb dX2_copy_24 rfl (lv_at hl 1 rfl) ?_
        refine ma24 hx hb hK hu.1 (by omega) dX2_copy_25 ?_
        refine top_i (y := nI ca.2.1) (h24a) ?_
        refine lv_if_lt (tgt := 38) hx hb dX2_copy_26 (by decide) (fun c0 => absurd c0 (nI_pos (by omega))) (fun c0 => ?_)
        rcases mSh_at hm.sh (k := jo) (by omega) with ⟨hsb, h24b⟩ | ⟨cb, hsb, h24b, h25b, h26b⟩
        · skip
          refine lv_aload_n hx hb dX2_copy_29 rfl (lv_at hl 0 rfl) ?_
          refine mg24 hx hb hts hown hK hu.1 dX2_copy_30 ?_
          refine lv_iload_n hx hb dX2_copy_33 rfl (lv_at hl 3 rfl) ?_
          refine ma24 hx hb hK hu.1 (by omega) dX2_copy_34 ?_
          refine top_i (y := (-1)) (h24b) ?_
          refine lv_if_ge (tgt := 44) hx hb dX2_copy_35 (by decide) (fun c0 => absurd c0 (by decide)) (fun c0 => ?_)
          refine lv_aload_n hx hb dX2_copy_38 rfl (lv_at hl 0 rfl) ?_
          refine lv_iconst (v := 1) hx hb dX2_copy_39 (by decide) ?_
          refine callU_V (rest := []) hx hb hml hown hts KM_st hK hA hAN hZ (cM_failed l D d H00 q Aq τ 1) (wX2_failed hts ⟨Nat.le_of_ble_eq_true rfl, Nat.le_of_ble_eq_true rfl⟩) (m_recv hK hu.1) hu rfl hl.1 rfl (Nat.le_of_ble_eq_true rfl) dX2_copy_40 ⟨Nat.le_of_ble_eq_true rfl, Nat.le_of_ble_eq_true rfl⟩ (fun r ws H locs hpo hu => ?_)
          obtain ⟨rfl, rfl⟩ := hpo
          show W _ _ _ _ _ _ _ _ _ _ _ _ _ _ _ (F0 _ 43 _ [.int ((-10) - 1)])
          exact rU_i hx hb hr hlk hu dX2_copy_43 (Nat.le_of_ble_eq_true rfl) (Nat.le_of_ble_eq_true rfl) (by rw [show f_copy σ (nI jk) i (nI jo) j n = ((-11), uI σ 0 1) from by rw [f_copy, if_neg (bt_nf c1), if_neg (bt_nf c2)]; simp only [ejk, ejo]; rw [hsa]; simp only []; rw [hsb]]; exact ⟨rfl, _, rfl, mRep_fault hm 1⟩)
        · have hcb := hok.2.2.2.2.2.2 jo cb hsb
          refine lv_aload_n hx hb dX2_copy_29 rfl (lv_at hl 0 rfl) ?_
          refine mg24 hx hb hts hown hK hu.1 dX2_copy_30 ?_
          refine lv_iload_n hx hb dX2_copy_33 rfl (lv_at hl 3 rfl) ?_
          refine ma24 hx hb hK hu.1 (by omega) dX2_copy_34 ?_
          refine top_i (y := nI cb.2.1) (h24b) ?_
          refine lv_if_ge (tgt := 44) hx hb dX2_copy_35 (by decide) (fun c0 => ?_) (fun c0 => absurd (nI_pos' (by omega)) c0)
          refine lv_aload_n hx hb dX2_copy_44 rfl (lv_at hl 0 rfl) ?_
          refine mg25 hx hb hts hown hK hu.1 dX2_copy_45 ?_
          refine lv_iload_n hx hb dX2_copy_48 rfl (lv_at hl 1 rfl) ?_
          refine ma25 hx hb hK hu.1 (by omega) dX2_copy_49 ?_
          refine top_i (y := nI ca.1) (h25a) ?_
          refine lv_aload_n hx hb dX2_copy_50 rfl (lv_at hl 0 rfl) ?_
          refine mg25 hx hb hts hown hK hu.1 dX2_copy_51 ?_
          refine lv_iload_n hx hb dX2_copy_54 rfl (lv_at hl 3 rfl) ?_
          refine ma25 hx hb hK hu.1 (by omega) dX2_copy_55 ?_
          refine top_i (y := nI cb.1) (h25b) ?_
          refine nc_eq (tgt := 65) hx hb dX2_copy_56 (by decide) (by omega) (by omega) (fun c3 => ?_) (fun c3 => ?_)
          · refine lv_iload_n hx hb dX2_copy_65 rfl (lv_at hl 2 rfl) ?_
            refine lv_iload hx hb dX2_copy_66 (lv_at hl 5 rfl) ?_
            refine lv_i2l (v := n.toInt64) hx hb dX2_copy_68 rfl ?_
            refine lv_aload_n hx hb dX2_copy_69 rfl (lv_at hl 0 rfl) ?_
            refine mg24 hx hb hts hown hK hu.1 dX2_copy_70 ?_
            refine lv_iload_n hx hb dX2_copy_73 rfl (lv_at hl 1 rfl) ?_
            refine ma24 hx hb hK hu.1 (by omega) dX2_copy_74 ?_
            refine top_i (y := nI ca.2.1) (h24a) ?_
            refine callR_S (rest := []) hx hb hml hown hts KM_st hK (cM_isBeyond l D d i n.toInt64 (nI ca.2.1)) (wX2_isBeyond hts ⟨Nat.le_of_ble_eq_true rfl, Nat.le_of_ble_eq_true rfl⟩) trivial rfl hl.1 rfl (Nat.le_of_ble_eq_true rfl) dX2_copy_75 ⟨Nat.le_of_ble_eq_true rfl, Nat.le_of_ble_eq_true rfl⟩ ?_
            refine bz_ne (tgt := 98) hx hb dX2_copy_78 (by decide) (fun c4 => ?_) (fun c4 => ?_)
            · refine lv_aload_n hx hb dX2_copy_98 rfl (lv_at hl 0 rfl) ?_
              refine lv_iconst (v := 3) hx hb dX2_copy_99 (by decide) ?_
              refine callU_V (rest := []) hx hb hml hown hts KM_st hK hA hAN hZ (cM_failed l D d H00 q Aq τ 3) (wX2_failed hts ⟨Nat.le_of_ble_eq_true rfl, Nat.le_of_ble_eq_true rfl⟩) (m_recv hK hu.1) hu rfl hl.1 rfl (Nat.le_of_ble_eq_true rfl) dX2_copy_100 ⟨Nat.le_of_ble_eq_true rfl, Nat.le_of_ble_eq_true rfl⟩ (fun r ws H locs hpo hu => ?_)
              obtain ⟨rfl, rfl⟩ := hpo
              show W _ _ _ _ _ _ _ _ _ _ _ _ _ _ _ (F0 _ 103 _ [.int ((-10) - 3)])
              exact rU_i hx hb hr hlk hu dX2_copy_103 (Nat.le_of_ble_eq_true rfl) (Nat.le_of_ble_eq_true rfl) (by rw [show f_copy σ (nI jk) i (nI jo) j n = ((-13), uI σ 0 3) from by rw [f_copy, if_neg (bt_nf c1), if_neg (bt_nf c2)]; simp only [ejk, ejo]; rw [hsa]; simp only []; rw [hsb]; simp only []; rw [if_neg (fun hh => hh c3), if_pos c4]]; exact ⟨rfl, _, rfl, mRep_fault hm 3⟩)
            · refine lv_iload hx hb dX2_copy_81 (lv_at hl 4 rfl) ?_
              refine lv_iload hx hb dX2_copy_83 (lv_at hl 5 rfl) ?_
              refine lv_i2l (v := n.toInt64) hx hb dX2_copy_85 rfl ?_
              refine lv_aload_n hx hb dX2_copy_86 rfl (lv_at hl 0 rfl) ?_
              refine mg24 hx hb hts hown hK hu.1 dX2_copy_87 ?_
              refine lv_iload_n hx hb dX2_copy_90 rfl (lv_at hl 3 rfl) ?_
              refine ma24 hx hb hK hu.1 (by omega) dX2_copy_91 ?_
              refine top_i (y := nI cb.2.1) (h24b) ?_
              refine callR_S (rest := []) hx hb hml hown hts KM_st hK (cM_isBeyond l D d j n.toInt64 (nI cb.2.1)) (wX2_isBeyond hts ⟨Nat.le_of_ble_eq_true rfl, Nat.le_of_ble_eq_true rfl⟩) trivial rfl hl.1 rfl (Nat.le_of_ble_eq_true rfl) dX2_copy_92 ⟨Nat.le_of_ble_eq_true rfl, Nat.le_of_ble_eq_true rfl⟩ ?_
              refine bz_eq (tgt := 104) hx hb dX2_copy_95 (by decide) (fun c5 => ?_) (fun c5 => ?_)
              · obtain ⟨ji, jn, ei, en, hb1⟩ := bey_ix hca.2 c4
                subst ei
                subst en
                obtain ⟨jj, jn2, ej, en, hb2⟩ := bey_ix hcb.2 c5
                subst ej
                have en : jn = jn2 := (nI_eq (by omega) (by omega)).mp en
                subst en
                have eji : ix (nI ji) = ji := nI_clamp (by omega)
                have ejj : ix (nI jj) = jj := nI_clamp (by omega)
                have ejn : ix (nI jn) = jn := nI_clamp (by omega)
                refine lv_iconst (v := nI 0) hx hb dX2_copy_104 (by decide) ?_
                refine lv_istore (lv' := [(6, .int (nI 0)), (0, .ref q), (1, .int (nI jk)), (2, .int (nI ji)), (3, .int (nI jo)), (4, .int (nI jj)), (5, .int (nI jn))]) hx hb dX2_copy_105 hl (by decide) rfl (fun ls hl => ?_)
                refine lp_U (σ := Nat × (Nat → Nat → Int32)) (fun n107 zz => zz.1 + n107 = jn ∧ hnI τ zz.2 (60 * jk + ji) zz.1) (fun zz => [(6, .int (nI zz.1)), (0, .ref q), (1, .int (nI jk)), (2, .int (nI ji)), (3, .int (nI jo)), (4, .int (nI jj)), (5, .int (nI jn))]) (fun zz => mw d q Aq zz.2) (fun n107 zz hI ih107 H locs ls hu hl => ?_) jn (0, τ) (⟨by omega, fun r hr => rfl, fun t ht => absurd ht (Nat.not_lt_zero t)⟩) (hu) hl
                obtain ⟨t0, τ1⟩ := zz
                have hI : t0 + n107 = jn ∧ hnI τ τ1 (60 * jk + ji) t0 := hI
                obtain ⟨hi, hhI⟩ := hI
                have hl : lv_has ls 7 [(6, .int (nI t0)), (0, .ref q), (1, .int (nI jk)), (2, .int (nI ji)), (3, .int (nI jo)), (4, .int (nI jj)), (5, .int (nI jn))] := hl
                have hu : uW D A s.heap H locs (mw d q Aq τ1) := hu
                refine lv_iload hx hb dX2_copy_107 (lv_at hl 0 rfl) ?_
                refine lv_iload hx hb dX2_copy_109 (lv_at hl 6 rfl) ?_
                refine nc_ge (tgt := 141) hx hb dX2_copy_111 (by decide) (by omega) (by omega) (fun c6 => ?_) (fun c6 => ?_)
                · refine lv_iconst (v := nI 0) hx hb dX2_copy_141 (by decide) ?_
                  refine lv_istore (lv' := [(6, .int (nI 0)), (0, .ref q), (1, .int (nI jk)), (2, .int (nI ji)), (3, .int (nI jo)), (4, .int (nI jj)), (5, .int (nI jn))]) hx hb dX2_copy_142 hl (by decide) rfl (fun ls hl => ?_)
                  refine lp_U (σ := Nat × (Nat → Nat → Int32)) (fun n144 zz => zz.1 + n144 = jn ∧ cpI τ zz.2 (60 * jk + ji) (60 * jo + jj) jn zz.1) (fun zz => [(6, .int (nI zz.1)), (0, .ref q), (1, .int (nI jk)), (2, .int (nI ji)), (3, .int (nI jo)), (4, .int (nI jj)), (5, .int (nI jn))]) (fun zz => mw d q Aq zz.2) (fun n144 zz hI ih144 H locs ls hu hl => ?_) jn (0, τ1) (⟨by omega, cpI_0 (by rw [show t0 = jn by omega] at hhI; exact hhI)⟩) (hu) hl
                  obtain ⟨t0, τ2⟩ := zz
                  have hI : t0 + n144 = jn ∧ cpI τ τ2 (60 * jk + ji) (60 * jo + jj) jn t0 := hI
                  obtain ⟨hi, hcI⟩ := hI
                  have hl : lv_has ls 7 [(6, .int (nI t0)), (0, .ref q), (1, .int (nI jk)), (2, .int (nI ji)), (3, .int (nI jo)), (4, .int (nI jj)), (5, .int (nI jn))] := hl
                  have hu : uW D A s.heap H locs (mw d q Aq τ2) := hu
                  refine lv_iload hx hb dX2_copy_144 (lv_at hl 0 rfl) ?_
                  refine lv_iload hx hb dX2_copy_146 (lv_at hl 6 rfl) ?_
                  refine nc_ge (tgt := 179) hx hb dX2_copy_148 (by decide) (by omega) (by omega) (fun c7 => ?_) (fun c7 => ?_)
                  · refine lv_aload_n hx hb dX2_copy_179 rfl (lv_at hl 1 rfl) ?_
                    refine lv_iload hx hb dX2_copy_180 (lv_at hl 6 rfl) ?_
                    refine callU_V (rest := []) hx hb hml hown hts KM_st hK hA hAN hZ (cM_refused l D d H00 q Aq τ2 (nI jn)) (wX2_refused hts ⟨Nat.le_of_ble_eq_true rfl, Nat.le_of_ble_eq_true rfl⟩) (m_recv hK hu.1) hu rfl hl.1 rfl (Nat.le_of_ble_eq_true rfl) dX2_copy_182 ⟨Nat.le_of_ble_eq_true rfl, Nat.le_of_ble_eq_true rfl⟩ (fun r ws H locs hpo hu => ?_)
                    obtain ⟨rfl, rfl⟩ := hpo
                    show W _ _ _ _ _ _ _ _ _ _ _ _ _ _ _ (F0 _ 185 _ [.int (nI jn)])
                    exact rU_i hx hb hr hlk hu dX2_copy_185 (Nat.le_of_ble_eq_true rfl) (Nat.le_of_ble_eq_true rfl) (by rw [show f_copy σ (nI jk) (nI ji) (nI jo) (nI jj) (nI jn) = (nI jn, uI (uS σ jo (some (cb.1, cb.2.1, va_cpy ca.2.2 cb.2.2 ji jj jn))) 0 0) from by rw [f_copy, if_neg (bt_nf c1), if_neg (bt_nf c2)]; simp only [ejk, ejo]; rw [hsa]; simp only []; rw [hsb]; simp only []; rw [if_neg (fun hh => hh c3), if_neg (bf_nt c4), if_neg (bf_nt c5)]; simp only [eji, ejj, ejn]]; exact ⟨rfl, _, rfl, mRep_fault (mRep_copy hm (by omega) (by omega) hsa hsb hb1 hb2 (by rw [show t0 = jn by omega] at hcI; exact hcI)) 0⟩)
                  · refine lv_aload_n hx hb dX2_copy_151 rfl (lv_at hl 1 rfl) ?_
                    refine mg26 hx hb hts hown hK hu.1 dX2_copy_152 ?_
                    refine lv_bipush (v := nI 60) hx hb dX2_copy_155 (by decide) ?_
                    refine lv_iload_n hx hb dX2_copy_157 rfl (lv_at hl 4 rfl) ?_
                    refine lv_imul hx hb dX2_copy_158 ?_
                    refine lv_iload hx hb dX2_copy_159 (lv_at hl 5 rfl) ?_
                    refine lv_iadd hx hb dX2_copy_161 ?_
                    refine lv_iload hx hb dX2_copy_162 (lv_at hl 0 rfl) ?_
                    refine lv_iadd hx hb dX2_copy_164 ?_
                    refine top_i (y := nI (60 * jo + jj + t0)) (by rw [pk_mul, nI_add, nI_add]) ?_
                    refine lv_aload_n hx hb dX2_copy_165 rfl (lv_at hl 1 rfl) ?_
                    refine mg27 hx hb hts hown hK hu.1 dX2_copy_166 ?_
                    refine lv_iload hx hb dX2_copy_169 (lv_at hl 0 rfl) ?_
                    refine ma27 hx hb hK hu.1 (by omega) dX2_copy_171 ?_
                    refine ms26 hx hb hK hu (by omega) dX2_copy_172 (fun H locs hu => ?_)
                    refine lv_iinc (v := nI (t0 + 1)) (lv' := [(6, .int (nI (t0 + 1))), (0, .ref q), (1, .int (nI jk)), (2, .int (nI ji)), (3, .int (nI jo)), (4, .int (nI jj)), (5, .int (nI jn))]) hx hb dX2_copy_173 hl (k := 0) rfl (inc_nI _) (by decide) rfl (fun ls hl => ?_)
                    refine lv_goto (tgt := 144) hx hb dX2_copy_176 (by decide) ?_
                    exact ih144 (n144 - 1) (t0 + 1, put2 τ2 26 (60 * jo + jj + t0) (τ2 27 t0)) _ _ ls (by omega) (⟨by omega, cpI_step hcI (by omega)⟩) hu (hl)
                · refine lv_aload_n hx hb dX2_copy_114 rfl (lv_at hl 1 rfl) ?_
                  refine mg27 hx hb hts hown hK hu.1 dX2_copy_115 ?_
                  refine lv_iload hx hb dX2_copy_118 (lv_at hl 0 rfl) ?_
                  refine lv_aload_n hx hb dX2_copy_120 rfl (lv_at hl 1 rfl) ?_
                  refine mg26 hx hb hts hown hK hu.1 dX2_copy_121 ?_
                  refine lv_bipush (v := nI 60) hx hb dX2_copy_124 (by decide) ?_
                  refine lv_iload_n hx hb dX2_copy_126 rfl (lv_at hl 2 rfl) ?_
                  refine lv_imul hx hb dX2_copy_127 ?_
                  refine lv_iload_n hx hb dX2_copy_128 rfl (lv_at hl 3 rfl) ?_
                  refine lv_iadd hx hb dX2_copy_129 ?_
                  refine lv_iload hx hb dX2_copy_130 (lv_at hl 0 rfl) ?_
                  refine lv_iadd hx hb dX2_copy_132 ?_
                  refine top_i (y := nI (60 * jk + ji + t0)) (by rw [pk_mul, nI_add, nI_add]) ?_
                  refine ma26 hx hb hK hu.1 (by omega) dX2_copy_133 ?_
                  refine ms27 hx hb hK hu (by omega) dX2_copy_134 (fun H locs hu => ?_)
                  refine lv_iinc (v := nI (t0 + 1)) (lv' := [(6, .int (nI (t0 + 1))), (0, .ref q), (1, .int (nI jk)), (2, .int (nI ji)), (3, .int (nI jo)), (4, .int (nI jj)), (5, .int (nI jn))]) hx hb dX2_copy_135 hl (k := 0) rfl (inc_nI _) (by decide) rfl (fun ls hl => ?_)
                  refine lv_goto (tgt := 107) hx hb dX2_copy_138 (by decide) ?_
                  exact ih107 (n107 - 1) (t0 + 1, put2 τ1 27 t0 (τ1 26 (60 * jk + ji + t0))) _ _ ls (by omega) (⟨by omega, hnI_step hhI⟩) hu (hl)
              · refine lv_aload_n hx hb dX2_copy_98 rfl (lv_at hl 0 rfl) ?_
                refine lv_iconst (v := 3) hx hb dX2_copy_99 (by decide) ?_
                refine callU_V (rest := []) hx hb hml hown hts KM_st hK hA hAN hZ (cM_failed l D d H00 q Aq τ 3) (wX2_failed hts ⟨Nat.le_of_ble_eq_true rfl, Nat.le_of_ble_eq_true rfl⟩) (m_recv hK hu.1) hu rfl hl.1 rfl (Nat.le_of_ble_eq_true rfl) dX2_copy_100 ⟨Nat.le_of_ble_eq_true rfl, Nat.le_of_ble_eq_true rfl⟩ (fun r ws H locs hpo hu => ?_)
                obtain ⟨rfl, rfl⟩ := hpo
                show W _ _ _ _ _ _ _ _ _ _ _ _ _ _ _ (F0 _ 103 _ [.int ((-10) - 3)])
                exact rU_i hx hb hr hlk hu dX2_copy_103 (Nat.le_of_ble_eq_true rfl) (Nat.le_of_ble_eq_true rfl) (by rw [show f_copy σ (nI jk) i (nI jo) j n = ((-13), uI σ 0 3) from by rw [f_copy, if_neg (bt_nf c1), if_neg (bt_nf c2)]; simp only [ejk, ejo]; rw [hsa]; simp only []; rw [hsb]; simp only []; rw [if_neg (fun hh => hh c3), if_neg (bf_nt c4), if_pos c5]]; exact ⟨rfl, _, rfl, mRep_fault hm 3⟩)
          · refine lv_aload_n hx hb dX2_copy_59 rfl (lv_at hl 0 rfl) ?_
            refine lv_iconst (v := 2) hx hb dX2_copy_60 (by decide) ?_
            refine callU_V (rest := []) hx hb hml hown hts KM_st hK hA hAN hZ (cM_failed l D d H00 q Aq τ 2) (wX2_failed hts ⟨Nat.le_of_ble_eq_true rfl, Nat.le_of_ble_eq_true rfl⟩) (m_recv hK hu.1) hu rfl hl.1 rfl (Nat.le_of_ble_eq_true rfl) dX2_copy_61 ⟨Nat.le_of_ble_eq_true rfl, Nat.le_of_ble_eq_true rfl⟩ (fun r ws H locs hpo hu => ?_)
            obtain ⟨rfl, rfl⟩ := hpo
            show W _ _ _ _ _ _ _ _ _ _ _ _ _ _ _ (F0 _ 64 _ [.int ((-10) - 2)])
            exact rU_i hx hb hr hlk hu dX2_copy_64 (Nat.le_of_ble_eq_true rfl) (Nat.le_of_ble_eq_true rfl) (by rw [show f_copy σ (nI jk) i (nI jo) j n = ((-12), uI σ 0 2) from by rw [f_copy, if_neg (bt_nf c1), if_neg (bt_nf c2)]; simp only [ejk, ejo]; rw [hsa]; simp only []; rw [hsb]; simp only []; rw [if_pos c3]]; exact ⟨rfl, _, rfl, mRep_fault hm 2⟩)
    · refine lv_aload_n hx hb dX2_copy_14 rfl (lv_at hl 0 rfl) ?_
      refine lv_iconst (v := (-1)) hx hb dX2_copy_15 (by decide) ?_
      refine callU_V (rest := []) hx hb hml hown hts KM_st hK hA hAN hZ (cM_refused l D d H00 q Aq τ (-1)) (wX2_refused hts ⟨Nat.le_of_ble_eq_true rfl, Nat.le_of_ble_eq_true rfl⟩) (m_recv hK hu.1) hu rfl hl.1 rfl (Nat.le_of_ble_eq_true rfl) dX2_copy_16 ⟨Nat.le_of_ble_eq_true rfl, Nat.le_of_ble_eq_true rfl⟩ (fun r ws H locs hpo hu => ?_)
      obtain ⟨rfl, rfl⟩ := hpo
      show W _ _ _ _ _ _ _ _ _ _ _ _ _ _ _ (F0 _ 19 _ [.int (-1)])
      exact rU_i hx hb hr hlk hu dX2_copy_19 (Nat.le_of_ble_eq_true rfl) (Nat.le_of_ble_eq_true rfl) (by rw [show f_copy σ (nI jk) i o j n = ((-1), uI σ 0 0) from by rw [f_copy, if_neg (bt_nf c1), if_pos c2]]; exact ⟨rfl, _, rfl, mRep_fault hm 0⟩)
