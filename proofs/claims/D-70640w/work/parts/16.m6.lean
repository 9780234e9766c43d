/-! the Model: reading a duchy -/
set_option maxHeartbeats 4000000 in
set_option maxRecDepth 100000 in
theorem cM_codeAt (l : Launch) (D : va_G) (d : Nat → ClassId) (q : Nat) (Aq : Nat → Nat) (τ : Nat → Nat → Int32) (f nn a : Nat) (r : Nat → Int32) (ha : τ 10 0 = nI a) (htx : ∀ j, j < nn → τ 26 (f + j) = r j) (hf : f + nn ≤ 240) (hal : a ≤ 240) : cR l (KM D d) yX2_codeAt cX2_codeAt 3 (some .int) (rk 0) [.ref q, .int (nI f), .int (nI nn)] (va_P D vwCl (mw d q Aq τ)) (.int (tok r nn a)) := by
  refine cR_start RX2 rfl (by decide) (Nat.le_of_ble_eq_true rfl) ?_
  intro p e s m below meth c hx hb hml hown hts hr hlk hK hP ls hl
  have hl : lv_has ls 3 [(0, .ref q), (1, .int (nI f)), (2, .int (nI nn))] := hl
  refine lv_aload_n hx hb dX2_codeAt_0 rfl (lv_at hl 0 rfl) ?_
  refine mg10 hx hb hts hown hK hP dX2_codeAt_1 ?_
  refine top_i (y := nI a) (ha) ?_
  refine lv_iload_n hx hb dX2_codeAt_4 rfl (lv_at hl 2 rfl) ?_
  refine nc_ge (tgt := 22) hx hb dX2_codeAt_5 (by decide) (by omega) (by omega) (fun c1 => ?_) (fun c1 => ?_)
  · refine lv_bipush (v := (-9)) hx hb dX2_codeAt_22 (by decide) ?_
    exact rR_i hx hb hr hlk dX2_codeAt_24 (by rw [tok, if_neg (Nat.not_lt.mpr c1)])
  · refine lv_aload_n hx hb dX2_codeAt_8 rfl (lv_at hl 0 rfl) ?_
    refine mg26 hx hb hts hown hK hP dX2_codeAt_9 ?_
    refine lv_iload_n hx hb dX2_codeAt_12 rfl (lv_at hl 1 rfl) ?_
    refine lv_aload_n hx hb dX2_codeAt_13 rfl (lv_at hl 0 rfl) ?_
    refine mg10 hx hb hts hown hK hP dX2_codeAt_14 ?_
    refine top_i (y := nI a) (ha) ?_
    refine lv_iadd hx hb dX2_codeAt_17 ?_
    refine top_i (y := nI (f + a)) (nI_add _ _) ?_
    refine ma26 hx hb hK hP (by omega) dX2_codeAt_18 ?_
    refine top_i (y := r a) (htx a c1) ?_
    refine lv_goto (tgt := 24) hx hb dX2_codeAt_19 (by decide) ?_
    exact rR_i hx hb hr hlk dX2_codeAt_24 (by rw [tok, if_pos c1])

set_option maxHeartbeats 4000000 in
set_option maxRecDepth 100000 in
theorem cM_figure (l : Launch) (D : va_G) (d : Nat → ClassId) (H00 : Heap) (q : Nat) (Aq : Nat → Nat) (τ : Nat → Nat → Int32) (f nn a : Nat) (r : Nat → Int32) (lo hi : Int32) (ha : τ 10 0 = nI a) (htx : ∀ j, j < nn → τ 26 (f + j) = r j) (hf : f + nn ≤ 240) (hal : a ≤ 240) : cU l (KM D d) H00 D yX2_figure cX2_figure 7 (some .int) (rc 1 0 0) [.ref q, .int (nI f), .int (nI nn), .int lo, .int hi] (mw d q Aq τ) (fun r0 ws => r0 = some (.int (if dig r nn a lo hi = false then (-9) else tok r nn a - 48)) ∧ ws = mw d q Aq (put2 τ 10 0 (nI (if dig r nn a lo hi = false then a else a + 1)))) := by
  refine cU_start RX2 rfl (by decide) (Nat.le_of_ble_eq_true rfl) ?_
  intro p e s m below meth c A hx hb hml hown hts hr hlk hnm hK hA hAN hZ hu ls hl
  have hl : lv_has ls 7 [(0, .ref q), (1, .int (nI f)), (2, .int (nI nn)), (3, .int lo), (4, .int hi)] := hl
  refine lv_aload_n hx hb dX2_figure_0 rfl (lv_at hl 0 rfl) ?_
  refine lv_iload_n hx hb dX2_figure_1 rfl (lv_at hl 1 rfl) ?_
  refine lv_iload_n hx hb dX2_figure_2 rfl (lv_at hl 2 rfl) ?_
  refine callR_V (rest := []) hx hb hml hown hts KM_st hK (cM_codeAt l D d q Aq τ f nn a r ha htx hf (by omega)) (wX2_codeAt hts ⟨Nat.le_of_ble_eq_true rfl, Nat.le_of_ble_eq_true rfl⟩) (m_recv hK hu.1) hu.1 rfl hl.1 rfl (Nat.le_of_ble_eq_true rfl) dX2_figure_3 ⟨Nat.le_of_ble_eq_true rfl, Nat.le_of_ble_eq_true rfl⟩ ?_
  refine lv_bipush (v := 48) hx hb dX2_figure_6 (by decide) ?_
  refine lv_isub hx hb dX2_figure_8 ?_
  refine lv_istore (lv' := [(5, .int (tok r nn a - 48)), (0, .ref q), (1, .int (nI f)), (2, .int (nI nn)), (3, .int lo), (4, .int hi)]) hx hb dX2_figure_9 hl (by decide) rfl (fun ls hl => ?_)
  refine lv_iload hx hb dX2_figure_11 (lv_at hl 0 rfl) ?_
  refine lv_i2l (v := (tok r nn a - 48).toInt64) hx hb dX2_figure_13 rfl ?_
  refine lv_iload_n hx hb dX2_figure_14 rfl (lv_at hl 4 rfl) ?_
  refine lv_i2l (v := lo.toInt64) hx hb dX2_figure_15 rfl ?_
  refine lv_iload hx hb dX2_figure_16 (lv_at hl 5 rfl) ?_
  refine lv_i2l (v := hi.toInt64) hx hb dX2_figure_18 rfl ?_
  refine callR_S (rest := []) hx hb hml hown hts KM_st hK (cM_in l D d ((tok r nn a - 48).toInt64) lo.toInt64 hi.toInt64) (wX2_in hts ⟨Nat.le_of_ble_eq_true rfl, Nat.le_of_ble_eq_true rfl⟩) trivial rfl hl.1 rfl (Nat.le_of_ble_eq_true rfl) dX2_figure_19 ⟨Nat.le_of_ble_eq_true rfl, Nat.le_of_ble_eq_true rfl⟩ ?_
  refine top_i (y := bI (dig r nn a lo hi)) (rfl) ?_
  refine lv_istore (lv' := [(6, .int (bI (dig r nn a lo hi))), (5, .int (tok r nn a - 48)), (0, .ref q), (1, .int (nI f)), (2, .int (nI nn)), (3, .int lo), (4, .int hi)]) hx hb dX2_figure_22 hl (by decide) rfl (fun ls hl => ?_)
  rcases hf0 : dig r nn a lo hi with _ | _
  · rw [hf0] at hl
    have hl : lv_has ls 7 [(6, .int 0), (5, .int (tok r nn a - 48)), (0, .ref q), (1, .int (nI f)), (2, .int (nI nn)), (3, .int lo), (4, .int hi)] := hl
    refine lv_aload_n hx hb dX2_figure_24 rfl (lv_at hl 2 rfl) ?_
    refine lv_dup hx hb dX2_figure_25 rfl ?_
    refine mg10 hx hb hts hown hK hu.1 dX2_figure_26 ?_
    refine top_i (y := nI a) (ha) ?_
    refine lv_iload hx hb dX2_figure_29 (lv_at hl 0 rfl) ?_
    refine lv_if_eq (tgt := 38) hx hb dX2_figure_31 (by decide) (fun c0 => ?_) (fun c0 => absurd (by decide) c0)
    refine lv_iconst (v := 0) hx hb dX2_figure_38 (by decide) ?_
    refine lv_iadd hx hb dX2_figure_39 ?_
    refine top_i (y := nI a) (Int32.add_zero _) ?_
    refine mp10 hx hb hts hown hK hu dX2_figure_40 (fun H locs hu => ?_)
    refine lv_iload hx hb dX2_figure_43 (lv_at hl 0 rfl) ?_
    refine lv_if_eq (tgt := 53) hx hb dX2_figure_45 (by decide) (fun c0 => ?_) (fun c0 => absurd (by decide) c0)
    refine lv_bipush (v := (-9)) hx hb dX2_figure_53 (by decide) ?_
    exact rU_i hx hb hr hlk hu dX2_figure_55 (Nat.le_of_ble_eq_true rfl) (Nat.le_of_ble_eq_true rfl) (⟨by rw [if_pos rfl], by rw [if_pos rfl]⟩)
  · rw [hf0] at hl
    have hl : lv_has ls 7 [(6, .int 1), (5, .int (tok r nn a - 48)), (0, .ref q), (1, .int (nI f)), (2, .int (nI nn)), (3, .int lo), (4, .int hi)] := hl
    refine lv_aload_n hx hb dX2_figure_24 rfl (lv_at hl 2 rfl) ?_
    refine lv_dup hx hb dX2_figure_25 rfl ?_
    refine mg10 hx hb hts hown hK hu.1 dX2_figure_26 ?_
    refine top_i (y := nI a) (ha) ?_
    refine lv_iload hx hb dX2_figure_29 (lv_at hl 0 rfl) ?_
    refine lv_if_eq (tgt := 38) hx hb dX2_figure_31 (by decide) (fun c0 => absurd c0 (by decide)) (fun c0 => ?_)
    refine lv_iconst (v := 1) hx hb dX2_figure_34 (by decide) ?_
    refine lv_goto (tgt := 39) hx hb dX2_figure_35 (by decide) ?_
    refine lv_iadd hx hb dX2_figure_39 ?_
    refine top_i (y := nI (a + 1)) (nI_1 _) ?_
    refine mp10 hx hb hts hown hK hu dX2_figure_40 (fun H locs hu => ?_)
    refine lv_iload hx hb dX2_figure_43 (lv_at hl 0 rfl) ?_
    refine lv_if_eq (tgt := 53) hx hb dX2_figure_45 (by decide) (fun c0 => absurd c0 (by decide)) (fun c0 => ?_)
    refine lv_iload hx hb dX2_figure_48 (lv_at hl 1 rfl) ?_
    refine lv_goto (tgt := 55) hx hb dX2_figure_50 (by decide) ?_
    exact rU_i hx hb hr hlk hu dX2_figure_55 (Nat.le_of_ble_eq_true rfl) (Nat.le_of_ble_eq_true rfl) (⟨by rw [if_neg (by decide)], by rw [if_neg (by decide)]⟩)

set_option maxHeartbeats 4000000 in
set_option maxRecDepth 100000 in
theorem cM_readsDays (l : Launch) (D : va_G) (d : Nat → ClassId) (H00 : Heap) (q : Nat) (Aq : Nat → Nat) (τ : Nat → Nat → Int32) (τ0 : Nat → Nat → Int32) (f nn : Nat) (r : Nat → Int32) (sv : Int32) (hp : mPr τ0 τ r sv 3 0 0) (htx : ∀ j, j < nn → τ0 26 (f + j) = r j) (hf : f + nn ≤ 240) (hnn : nn ≤ 60) : cU l (KM D d) H00 D yX2_readsDays cX2_readsDays 5 (some .boolean) (rc 2 0 0) [.ref q, .int (nI f), .int (nI nn)] (mw d q Aq τ) (fun r0 ws => ∃ τ2, ws = mw d q Aq τ2 ∧ r0 = some (.int (bI (decide (0 < dcn r nn 6)))) ∧ mPr τ0 τ2 r sv (3 + dcn r nn 6) (dcn r nn 6) 0) := by
  refine cU_start RX2 rfl (by decide) (Nat.le_of_ble_eq_true rfl) ?_
  intro p e s m below meth c A hx hb hml hown hts hr hlk hnm hK hA hAN hZ hu ls hl
  have hl : lv_has ls 5 [(0, .ref q), (1, .int (nI f)), (2, .int (nI nn))] := hl
  refine lv_iconst (v := 1) hx hb dX2_readsDays_0 (by decide) ?_
  refine lv_istore_n (lv' := [(3, .int 1), (0, .ref q), (1, .int (nI f)), (2, .int (nI nn))]) hx hb dX2_readsDays_1 rfl hl (by decide) rfl (fun ls hl => ?_)
  refine lp_U (σ := Nat × (Nat → Nat → Int32)) (fun n2 zz => zz.1 + n2 = 6 ∧ mPr τ0 zz.2 r sv (3 + zz.1) zz.1 0 ∧ dcn r nn zz.1 = zz.1) (fun zz => [(3, .int 1), (0, .ref q), (1, .int (nI f)), (2, .int (nI nn))]) (fun zz => mw d q Aq zz.2) (fun n2 zz hI ih2 H locs ls hu hl => ?_) 6 (0, τ) (⟨by omega, hp, rfl⟩) (hu) hl
  obtain ⟨dk, τ1⟩ := zz
  have hI : dk + n2 = 6 ∧ mPr τ0 τ1 r sv (3 + dk) dk 0 ∧ dcn r nn dk = dk := hI
  obtain ⟨hi, hp, hdc⟩ := hI
  have hl : lv_has ls 5 [(3, .int 1), (0, .ref q), (1, .int (nI f)), (2, .int (nI nn))] := hl
  have hu : uW D A s.heap H locs (mw d q Aq τ1) := hu
  refine lv_aload_n hx hb dX2_readsDays_2 rfl (lv_at hl 1 rfl) ?_
  refine mg12 hx hb hts hown hK hu.1 dX2_readsDays_3 ?_
  refine top_i (y := nI dk) (hp.2.2.2.1) ?_
  refine lv_bipush (v := nI 6) hx hb dX2_readsDays_6 (by decide) ?_
  refine nc_ge (tgt := 65) hx hb dX2_readsDays_8 (by decide) (by omega) (by omega) (fun c1 => ?_) (fun c1 => ?_)
  · refine lv_aload_n hx hb dX2_readsDays_65 rfl (lv_at hl 1 rfl) ?_
    refine mg12 hx hb hts hown hK hu.1 dX2_readsDays_66 ?_
    refine top_i (y := nI dk) (hp.2.2.2.1) ?_
    refine lv_if_le (tgt := 76) hx hb dX2_readsDays_69 (by decide) (fun c2 => ?_) (fun c2 => ?_)
    · refine lv_iconst (v := 0) hx hb dX2_readsDays_76 (by decide) ?_
      exact rU_z hx hb hr hlk hu dX2_readsDays_77 (Nat.le_of_ble_eq_true rfl) (Nat.le_of_ble_eq_true rfl) (by rw [(show dcn r nn 6 = dk from by rw [← show dk = 6 by omega]; exact hdc)]; first | rw [decide_eq_true (nI_gt0 (by omega) c2)]; rfl | rw [decide_eq_false (nI_le0 (by omega) c2)]; rfl) (⟨_, rfl, rfl, by rw [(show dcn r nn 6 = dk from by rw [← show dk = 6 by omega]; exact hdc)]; exact hp⟩)
    · refine lv_iconst (v := 1) hx hb dX2_readsDays_72 (by decide) ?_
      refine lv_goto (tgt := 77) hx hb dX2_readsDays_73 (by decide) ?_
      exact rU_z hx hb hr hlk hu dX2_readsDays_77 (Nat.le_of_ble_eq_true rfl) (Nat.le_of_ble_eq_true rfl) (by rw [(show dcn r nn 6 = dk from by rw [← show dk = 6 by omega]; exact hdc)]; first | rw [decide_eq_true (nI_gt0 (by omega) c2)]; rfl | rw [decide_eq_false (nI_le0 (by omega) c2)]; rfl) (⟨_, rfl, rfl, by rw [(show dcn r nn 6 = dk from by rw [← show dk = 6 by omega]; exact hdc)]; exact hp⟩)
  · refine lv_iload_n hx hb dX2_readsDays_11 rfl (lv_at hl 0 rfl) ?_
    refine lv_if_eq (tgt := 65) hx hb dX2_readsDays_12 (by decide) (fun c0 => absurd c0 (by decide)) (fun c0 => ?_)
    refine lv_aload_n hx hb dX2_readsDays_15 rfl (lv_at hl 1 rfl) ?_
    refine lv_iload_n hx hb dX2_readsDays_16 rfl (lv_at hl 2 rfl) ?_
    refine lv_iload_n hx hb dX2_readsDays_17 rfl (lv_at hl 3 rfl) ?_
    refine lv_iconst (v := 0) hx hb dX2_readsDays_18 (by decide) ?_
    refine lv_bipush (v := 9) hx hb dX2_readsDays_19 (by decide) ?_
    refine callU_V (rest := []) hx hb hml hown hts KM_st hK hA hAN hZ (cM_figure l D d H00 q Aq τ1 f nn (3 + dk) r 0 9 (show τ1 10 0 = nI (3 + dk) from hp.2.1) (fun j hj => by rw [show τ1 26 = τ0 26 from hp.1 26 (by omega)]; exact htx j hj) hf (by omega)) (wX2_figure hts ⟨Nat.le_of_ble_eq_true rfl, Nat.le_of_ble_eq_true rfl⟩) (m_recv hK hu.1) hu rfl hl.1 rfl (Nat.le_of_ble_eq_true rfl) dX2_readsDays_21 ⟨Nat.le_of_ble_eq_true rfl, Nat.le_of_ble_eq_true rfl⟩ (fun r ws H locs hpo hu => ?_)
    obtain ⟨rfl, rfl⟩ := hpo
    show W _ _ _ _ _ _ _ _ _ _ _ _ _ _ _ (F0 _ 24 _ [.int (if dig r nn (3 + dk) 0 9 = false then (-9) else tok r nn (3 + dk) - 48)])
    rcases hd0 : dig r nn (3 + dk) 0 9 with _ | _
    · rw [hd0, if_pos rfl] at hu
      refine top_i (y := (-9)) (by first | rw [if_pos rfl] | rw [hd0, if_pos rfl]) ?_
      refine lv_istore (lv' := [(4, .int (-9)), (3, .int 1), (0, .ref q), (1, .int (nI f)), (2, .int (nI nn))]) hx hb dX2_readsDays_24 hl (by decide) rfl (fun ls hl => ?_)
      refine lv_iload hx hb dX2_readsDays_26 (lv_at hl 0 rfl) ?_
      refine lv_if_lt (tgt := 35) hx hb dX2_readsDays_28 (by decide) (fun c0 => ?_) (fun c0 => absurd (by decide) c0)
      refine lv_iconst (v := 0) hx hb dX2_readsDays_35 (by decide) ?_
      refine lv_istore_n (lv' := [(3, .int 0), (4, .int (-9)), (0, .ref q), (1, .int (nI f)), (2, .int (nI nn))]) hx hb dX2_readsDays_36 rfl hl (by decide) rfl (fun ls hl => ?_)
      refine lv_iload_n hx hb dX2_readsDays_37 rfl (lv_at hl 0 rfl) ?_
      refine lv_if_eq (tgt := 62) hx hb dX2_readsDays_38 (by decide) (fun c0 => ?_) (fun c0 => absurd (by decide) c0)
      refine lv_goto (tgt := 2) hx hb dX2_readsDays_62 (by decide) ?_
      refine lv_aload_n hx hb dX2_readsDays_2 rfl (lv_at hl 2 rfl) ?_
      refine mg12 hx hb hts hown hK hu.1 dX2_readsDays_3 ?_
      refine top_i (y := τ1 12 0) rfl ?_
      refine top_i (y := nI dk) (hp.2.2.2.1) ?_
      refine lv_bipush (v := nI 6) hx hb dX2_readsDays_6 (by decide) ?_
      refine nc_ge (tgt := 65) hx hb dX2_readsDays_8 (by decide) (by omega) (by omega) (fun c3 => ?_) (fun c3 => ?_)
      · refine lv_aload_n hx hb dX2_readsDays_65 rfl (lv_at hl 2 rfl) ?_
        refine mg12 hx hb hts hown hK hu.1 dX2_readsDays_66 ?_
        refine top_i (y := τ1 12 0) rfl ?_
        refine top_i (y := nI dk) (hp.2.2.2.1) ?_
        refine lv_if_le (tgt := 76) hx hb dX2_readsDays_69 (by decide) (fun c4 => ?_) (fun c4 => ?_)
        · refine lv_iconst (v := 0) hx hb dX2_readsDays_76 (by decide) ?_
          exact rU_z hx hb hr hlk hu dX2_readsDays_77 (Nat.le_of_ble_eq_true rfl) (Nat.le_of_ble_eq_true rfl) (by rw [dcn_stop hdc hd0 6 (by omega)]; first | rw [decide_eq_true (nI_gt0 (by omega) c4)]; rfl | rw [decide_eq_false (nI_le0 (by omega) c4)]; rfl) (⟨_, rfl, rfl, by rw [dcn_stop hdc hd0 6 (by omega)]; exact mPr_at hp (3 + dk)⟩)
        · refine lv_iconst (v := 1) hx hb dX2_readsDays_72 (by decide) ?_
          refine lv_goto (tgt := 77) hx hb dX2_readsDays_73 (by decide) ?_
          exact rU_z hx hb hr hlk hu dX2_readsDays_77 (Nat.le_of_ble_eq_true rfl) (Nat.le_of_ble_eq_true rfl) (by rw [dcn_stop hdc hd0 6 (by omega)]; first | rw [decide_eq_true (nI_gt0 (by omega) c4)]; rfl | rw [decide_eq_false (nI_le0 (by omega) c4)]; rfl) (⟨_, rfl, rfl, by rw [dcn_stop hdc hd0 6 (by omega)]; exact mPr_at hp (3 + dk)⟩)
      · refine lv_iload_n hx hb dX2_readsDays_11 rfl (lv_at hl 0 rfl) ?_
        refine lv_if_eq (tgt := 65) hx hb dX2_readsDays_12 (by decide) (fun c0 => ?_) (fun c0 => absurd (by decide) c0)
        refine lv_aload_n hx hb dX2_readsDays_65 rfl (lv_at hl 2 rfl) ?_
        refine mg12 hx hb hts hown hK hu.1 dX2_readsDays_66 ?_
        refine top_i (y := τ1 12 0) rfl ?_
        refine top_i (y := nI dk) (hp.2.2.2.1) ?_
        refine lv_if_le (tgt := 76) hx hb dX2_readsDays_69 (by decide) (fun c5 => ?_) (fun c5 => ?_)
        · refine lv_iconst (v := 0) hx hb dX2_readsDays_76 (by decide) ?_
          exact rU_z hx hb hr hlk hu dX2_readsDays_77 (Nat.le_of_ble_eq_true rfl) (Nat.le_of_ble_eq_true rfl) (by rw [dcn_stop hdc hd0 6 (by omega)]; first | rw [decide_eq_true (nI_gt0 (by omega) c5)]; rfl | rw [decide_eq_false (nI_le0 (by omega) c5)]; rfl) (⟨_, rfl, rfl, by rw [dcn_stop hdc hd0 6 (by omega)]; exact mPr_at hp (3 + dk)⟩)
        · refine lv_iconst (v := 1) hx hb dX2_readsDays_72 (by decide) ?_
          refine lv_goto (tgt := 77) hx hb dX2_readsDays_73 (by decide) ?_
          exact rU_z hx hb hr hlk hu dX2_readsDays_77 (Nat.le_of_ble_eq_true rfl) (Nat.le_of_ble_eq_true rfl) (by rw [dcn_stop hdc hd0 6 (by omega)]; first | rw [decide_eq_true (nI_gt0 (by omega) c5)]; rfl | rw [decide_eq_false (nI_le0 (by omega) c5)]; rfl) (⟨_, rfl, rfl, by rw [dcn_stop hdc hd0 6 (by omega)]; exact mPr_at hp (3 + dk)⟩)
    · rw [hd0, if_neg (by decide)] at hu
      obtain ⟨v, ev, lv, hv⟩ := dig_ix (lo := 0) (hi := 9) (by decide) (by decide) hd0
      refine top_i (y := nI v) (by first | rw [if_neg (by decide), ev] | rw [hd0, if_neg (by decide), ev]) ?_
      have qv := dig_lt (lo := 0) (hi := 9) (by decide) hd0
      have rv : nI v = r (3 + dk) - 48 := by rw [← ev, qv.2]
      refine lv_istore (lv' := [(4, .int (nI v)), (3, .int 1), (0, .ref q), (1, .int (nI f)), (2, .int (nI nn))]) hx hb dX2_readsDays_24 hl (by decide) rfl (fun ls hl => ?_)
      refine lv_iload hx hb dX2_readsDays_26 (lv_at hl 0 rfl) ?_
      refine lv_if_lt (tgt := 35) hx hb dX2_readsDays_28 (by decide) (fun c0 => absurd c0 (nI_pos (by omega))) (fun c0 => ?_)
      refine lv_iconst (v := 1) hx hb dX2_readsDays_31 (by decide) ?_
      refine lv_goto (tgt := 36) hx hb dX2_readsDays_32 (by decide) ?_
      refine lv_istore_n (lv' := [(3, .int 1), (4, .int (nI v)), (0, .ref q), (1, .int (nI f)), (2, .int (nI nn))]) hx hb dX2_readsDays_36 rfl hl (by decide) rfl (fun ls hl => ?_)
      refine lv_iload_n hx hb dX2_readsDays_37 rfl (lv_at hl 0 rfl) ?_
      refine lv_if_eq (tgt := 62) hx hb dX2_readsDays_38 (by decide) (fun c0 => absurd c0 (by decide)) (fun c0 => ?_)
      refine lv_aload_n hx hb dX2_readsDays_41 rfl (lv_at hl 2 rfl) ?_
      refine mg14 hx hb hts hown hK hu.1 dX2_readsDays_42 ?_
      refine lv_aload_n hx hb dX2_readsDays_45 rfl (lv_at hl 2 rfl) ?_
      refine mg12 hx hb hts hown hK hu.1 dX2_readsDays_46 ?_
      refine top_i (y := τ1 12 0) rfl ?_
      refine top_i (y := nI dk) (hp.2.2.2.1) ?_
      refine lv_iload hx hb dX2_readsDays_49 (lv_at hl 1 rfl) ?_
      refine ms14 hx hb hK hu (by omega) dX2_readsDays_51 (fun H locs hu => ?_)
      refine lv_aload_n hx hb dX2_readsDays_52 rfl (lv_at hl 2 rfl) ?_
      refine lv_dup hx hb dX2_readsDays_53 rfl ?_
      refine mg12 hx hb hts hown hK hu.1 dX2_readsDays_54 ?_
      refine top_i (y := τ1 12 0) rfl ?_
      refine top_i (y := nI dk) (hp.2.2.2.1) ?_
      refine lv_iconst (v := 1) hx hb dX2_readsDays_57 (by decide) ?_
      refine lv_iadd hx hb dX2_readsDays_58 ?_
      refine top_i (y := nI (dk + 1)) (nI_1 _) ?_
      refine mp12 hx hb hts hown hK hu dX2_readsDays_59 (fun H locs hu => ?_)
      refine lv_goto (tgt := 2) hx hb dX2_readsDays_62 (by decide) ?_
      exact ih2 (n2 - 1) (dk + 1, put2 (put2 (put2 τ1 10 0 (nI (3 + dk + 1))) 14 dk (nI v)) 12 0 (nI (dk + 1))) _ _ ls (by omega) (⟨by omega, mPr_day (mPr_at hp (3 + dk + 1)) rv, dcn_go hdc hd0⟩) hu ((lv_sub hl [0, 2, 3, 4] rfl))

set_option maxHeartbeats 4000000 in
set_option maxRecDepth 100000 in
theorem cM_readsEater (l : Launch) (D : va_G) (d : Nat → ClassId) (H00 : Heap) (q : Nat) (Aq : Nat → Nat) (τ : Nat → Nat → Int32) (τ0 : Nat → Nat → Int32) (f nn : Nat) (r : Nat → Int32) (sv : Int32) (b dd ne : Nat) (hp : mPr τ0 τ r sv b dd ne) (hbb : b = 3 + dd + 5 * ne) (hne : ne ≤ 4) (hdd : dd ≤ 6) (htx : ∀ j, j < nn → τ0 26 (f + j) = r j) (hf : f + nn ≤ 240) (hnn : nn ≤ 60) : cU l (KM D d) H00 D yX2_readsEater cX2_readsEater 7 (some .boolean) (rc 2 0 0) [.ref q, .int (nI f), .int (nI nn)] (mw d q Aq τ) (fun r0 ws => ∃ τ2, ws = mw d q Aq τ2 ∧ r0 = some (.int (bI (decide (exE r nn b ne = 5)))) ∧ mPr τ0 τ2 r sv (b + exE r nn b ne) dd (if exE r nn b ne = 5 then ne + 1 else ne)) := by
  refine cU_start RX2 rfl (by decide) (Nat.le_of_ble_eq_true rfl) ?_
  intro p e s m below meth c A hx hb hml hown hts hr hlk hnm hK hA hAN hZ hu ls hl
  have hl : lv_has ls 7 [(0, .ref q), (1, .int (nI f)), (2, .int (nI nn))] := hl
  refine lv_aload_n hx hb dX2_readsEater_0 rfl (lv_at hl 0 rfl) ?_
  refine mg13 hx hb hts hown hK hu.1 dX2_readsEater_1 ?_
  refine top_i (y := nI ne) (hp.2.2.2.2.1) ?_
  refine lv_iconst (v := nI 4) hx hb dX2_readsEater_4 (by decide) ?_
  refine nc_eq (tgt := 19) hx hb dX2_readsEater_5 (by decide) (by omega) (by omega) (fun c1 => ?_) (fun c1 => ?_)
  · refine lv_iconst (v := 0) hx hb dX2_readsEater_19 (by decide) ?_
    exact rU_z hx hb hr hlk hu dX2_readsEater_20 (Nat.le_of_ble_eq_true rfl) (Nat.le_of_ble_eq_true rfl) (by rw [show exE r nn b ne = 0 from by rw [exE, if_pos c1]]; rfl) (⟨_, rfl, rfl, by rw [show exE r nn b ne = 0 from by rw [exE, if_pos c1]]; exact hp⟩)
  · refine lv_aload_n hx hb dX2_readsEater_8 rfl (lv_at hl 0 rfl) ?_
    refine lv_iload_n hx hb dX2_readsEater_9 rfl (lv_at hl 1 rfl) ?_
    refine lv_iload_n hx hb dX2_readsEater_10 rfl (lv_at hl 2 rfl) ?_
    refine callR_V (rest := []) hx hb hml hown hts KM_st hK (cM_codeAt l D d q Aq τ f nn b r (show τ 10 0 = nI b from hp.2.1) (fun j hj => by rw [show τ 26 = τ0 26 from hp.1 26 (by omega)]; exact htx j hj) hf (by omega)) (wX2_codeAt hts ⟨Nat.le_of_ble_eq_true rfl, Nat.le_of_ble_eq_true rfl⟩) (m_recv hK hu.1) hu.1 rfl hl.1 rfl (Nat.le_of_ble_eq_true rfl) dX2_readsEater_11 ⟨Nat.le_of_ble_eq_true rfl, Nat.le_of_ble_eq_true rfl⟩ ?_
    refine lv_bipush (v := 59) hx hb dX2_readsEater_14 (by decide) ?_
    refine lv_icmp_eq (tgt := 21) hx hb dX2_readsEater_16 (by decide) (fun c2 => ?_) (fun c2 => ?_)
    · refine lv_aload_n hx hb dX2_readsEater_21 rfl (lv_at hl 0 rfl) ?_
      refine lv_dup hx hb dX2_readsEater_22 rfl ?_
      refine mg10 hx hb hts hown hK hu.1 dX2_readsEater_23 ?_
      refine top_i (y := nI b) (hp.2.1) ?_
      refine lv_iconst (v := 1) hx hb dX2_readsEater_26 (by decide) ?_
      refine lv_iadd hx hb dX2_readsEater_27 ?_
      refine top_i (y := nI (b + 1)) (nI_1 _) ?_
      refine mp10 hx hb hts hown hK hu dX2_readsEater_28 (fun H locs hu => ?_)
      refine lv_aload_n hx hb dX2_readsEater_31 rfl (lv_at hl 0 rfl) ?_
      refine lv_iload_n hx hb dX2_readsEater_32 rfl (lv_at hl 1 rfl) ?_
      refine lv_iload_n hx hb dX2_readsEater_33 rfl (lv_at hl 2 rfl) ?_
      refine callR_V (rest := []) hx hb hml hown hts KM_st hK (cM_codeAt l D d q Aq (put2 τ 10 0 (nI (b + 1))) f nn (b + 1) r (show (put2 τ 10 0 (nI (b + 1))) 10 0 = nI (b + 1) from rfl) (fun j hj => by rw [show (put2 τ 10 0 (nI (b + 1))) 26 = τ0 26 from hp.1 26 (by omega)]; exact htx j hj) hf (by omega)) (wX2_codeAt hts ⟨Nat.le_of_ble_eq_true rfl, Nat.le_of_ble_eq_true rfl⟩) (m_recv hK hu.1) hu.1 rfl hl.1 rfl (Nat.le_of_ble_eq_true rfl) dX2_readsEater_34 ⟨Nat.le_of_ble_eq_true rfl, Nat.le_of_ble_eq_true rfl⟩ ?_
      refine lv_istore_n (lv' := [(3, .int (tok r nn (b + 1))), (0, .ref q), (1, .int (nI f)), (2, .int (nI nn))]) hx hb dX2_readsEater_37 rfl hl (by decide) rfl (fun ls hl => ?_)
      refine lv_iload_n hx hb dX2_readsEater_38 rfl (lv_at hl 0 rfl) ?_
      refine lv_bipush (v := 101) hx hb dX2_readsEater_39 (by decide) ?_
      refine lv_icmp_eq (tgt := 58) hx hb dX2_readsEater_41 (by decide) (fun c3 => ?_) (fun c3 => ?_)
      · refine lv_aload_n hx hb dX2_readsEater_58 rfl (lv_at hl 1 rfl) ?_
        refine lv_dup hx hb dX2_readsEater_59 rfl ?_
        refine mg10 hx hb hts hown hK hu.1 dX2_readsEater_60 ?_
        refine top_i (y := nI (b + 1)) rfl ?_
        refine lv_iconst (v := 1) hx hb dX2_readsEater_63 (by decide) ?_
        refine lv_iadd hx hb dX2_readsEater_64 ?_
        refine top_i (y := nI (b + 2)) (nI_1 _) ?_
        refine mp10 hx hb hts hown hK hu dX2_readsEater_65 (fun H locs hu => ?_)
        refine lv_aload_n hx hb dX2_readsEater_68 rfl (lv_at hl 1 rfl) ?_
        refine lv_iload_n hx hb dX2_readsEater_69 rfl (lv_at hl 2 rfl) ?_
        refine lv_iload_n hx hb dX2_readsEater_70 rfl (lv_at hl 3 rfl) ?_
        refine lv_iconst (v := 0) hx hb dX2_readsEater_71 (by decide) ?_
        refine lv_iconst (v := 5) hx hb dX2_readsEater_72 (by decide) ?_
        refine callU_V (rest := []) hx hb hml hown hts KM_st hK hA hAN hZ (cM_figure l D d H00 q Aq (put2 (put2 τ 10 0 (nI (b + 1))) 10 0 (nI (b + 2))) f nn (b + 2) r 0 5 (show (put2 (put2 τ 10 0 (nI (b + 1))) 10 0 (nI (b + 2))) 10 0 = nI (b + 2) from rfl) (fun j hj => by rw [show (put2 (put2 τ 10 0 (nI (b + 1))) 10 0 (nI (b + 2))) 26 = τ0 26 from hp.1 26 (by omega)]; exact htx j hj) hf (by omega)) (wX2_figure hts ⟨Nat.le_of_ble_eq_true rfl, Nat.le_of_ble_eq_true rfl⟩) (m_recv hK hu.1) hu rfl hl.1 rfl (Nat.le_of_ble_eq_true rfl) dX2_readsEater_73 ⟨Nat.le_of_ble_eq_true rfl, Nat.le_of_ble_eq_true rfl⟩ (fun r ws H locs hpo hu => ?_)
        obtain ⟨rfl, rfl⟩ := hpo
        show W _ _ _ _ _ _ _ _ _ _ _ _ _ _ _ (F0 _ 76 _ [.int (if dig r nn (b + 2) 0 5 = false then (-9) else tok r nn (b + 2) - 48)])
        rcases hS : dig r nn (b + 2) 0 5 with _ | _
        · rw [hS, if_pos rfl] at hu
          refine top_i (y := (-9)) (by first | rw [if_pos rfl] | rw [hS, if_pos rfl]) ?_
          refine lv_istore (lv' := [(4, .int (-9)), (3, .int (tok r nn (b + 1))), (0, .ref q), (1, .int (nI f)), (2, .int (nI nn))]) hx hb dX2_readsEater_76 hl (by decide) rfl (fun ls hl => ?_)
          refine lv_iload hx hb dX2_readsEater_78 (lv_at hl 0 rfl) ?_
          refine lv_if_ge (tgt := 88) hx hb dX2_readsEater_80 (by decide) (fun c0 => absurd c0 (by decide)) (fun c0 => ?_)
          refine lv_bipush (v := (-9)) hx hb dX2_readsEater_83 (by decide) ?_
          refine lv_goto (tgt := 97) hx hb dX2_readsEater_85 (by decide) ?_
          refine lv_istore (lv' := [(5, .int (-9)), (4, .int (-9)), (3, .int (tok r nn (b + 1))), (0, .ref q), (1, .int (nI f)), (2, .int (nI nn))]) hx hb dX2_readsEater_97 hl (by decide) rfl (fun ls hl => ?_)
          refine lv_iload hx hb dX2_readsEater_99 (lv_at hl 0 rfl) ?_
          refine lv_if_ge (tgt := 109) hx hb dX2_readsEater_101 (by decide) (fun c0 => absurd c0 (by decide)) (fun c0 => ?_)
          refine lv_bipush (v := (-9)) hx hb dX2_readsEater_104 (by decide) ?_
          refine lv_goto (tgt := 118) hx hb dX2_readsEater_106 (by decide) ?_
          refine lv_istore (lv' := [(6, .int (-9)), (5, .int (-9)), (4, .int (-9)), (3, .int (tok r nn (b + 1))), (0, .ref q), (1, .int (nI f)), (2, .int (nI nn))]) hx hb dX2_readsEater_118 hl (by decide) rfl (fun ls hl => ?_)
          refine lv_iload hx hb dX2_readsEater_120 (lv_at hl 0 rfl) ?_
          refine lv_if_ge (tgt := 127) hx hb dX2_readsEater_122 (by decide) (fun c0 => absurd c0 (by decide)) (fun c0 => ?_)
          refine lv_iconst (v := 0) hx hb dX2_readsEater_125 (by decide) ?_
          exact rU_z hx hb hr hlk hu dX2_readsEater_126 (Nat.le_of_ble_eq_true rfl) (Nat.le_of_ble_eq_true rfl) (by rw [eAt_2 c1 c2 (by rw [c3]; decide) hS]; rfl) (⟨_, rfl, rfl, by rw [eAt_2 c1 c2 (by rw [c3]; decide) hS]; exact mPr_at (mPr_at (mPr_at hp (b + 1)) (b + 2)) (b + 2)⟩)
        · rw [hS, if_neg (by decide)] at hu
          obtain ⟨vs, evs, lvs, hvs⟩ := dig_ix (lo := 0) (hi := 5) (by decide) (by decide) hS
          refine top_i (y := nI vs) (by first | rw [if_neg (by decide), evs] | rw [hS, if_neg (by decide), evs]) ?_
          have qvs := dig_lt (lo := 0) (hi := 5) (by decide) hS
          have rvs : nI vs = r (b + 2) - 48 := by rw [← evs, qvs.2]
          refine lv_istore (lv' := [(4, .int (nI vs)), (3, .int (tok r nn (b + 1))), (0, .ref q), (1, .int (nI f)), (2, .int (nI nn))]) hx hb dX2_readsEater_76 hl (by decide) rfl (fun ls hl => ?_)
          refine lv_iload hx hb dX2_readsEater_78 (lv_at hl 0 rfl) ?_
          refine lv_if_ge (tgt := 88) hx hb dX2_readsEater_80 (by decide) (fun c0 => ?_) (fun c0 => absurd (nI_pos' (by omega)) c0)
          refine lv_aload_n hx hb dX2_readsEater_88 rfl (lv_at hl 2 rfl) ?_
          refine lv_iload_n hx hb dX2_readsEater_89 rfl (lv_at hl 3 rfl) ?_
          refine lv_iload_n hx hb dX2_readsEater_90 rfl (lv_at hl 4 rfl) ?_
          refine lv_iconst (v := 1) hx hb dX2_readsEater_91 (by decide) ?_
          refine lv_bipush (v := 9) hx hb dX2_readsEater_92 (by decide) ?_
          refine callU_V (rest := []) hx hb hml hown hts KM_st hK hA hAN hZ (cM_figure l D d H00 q Aq (put2 (put2 (put2 τ 10 0 (nI (b + 1))) 10 0 (nI (b + 2))) 10 0 (nI (b + 3))) f nn (b + 3) r 1 9 (show (put2 (put2 (put2 τ 10 0 (nI (b + 1))) 10 0 (nI (b + 2))) 10 0 (nI (b + 3))) 10 0 = nI (b + 3) from rfl) (fun j hj => by rw [show (put2 (put2 (put2 τ 10 0 (nI (b + 1))) 10 0 (nI (b + 2))) 10 0 (nI (b + 3))) 26 = τ0 26 from hp.1 26 (by omega)]; exact htx j hj) hf (by omega)) (wX2_figure hts ⟨Nat.le_of_ble_eq_true rfl, Nat.le_of_ble_eq_true rfl⟩) (m_recv hK hu.1) hu rfl hl.1 rfl (Nat.le_of_ble_eq_true rfl) dX2_readsEater_94 ⟨Nat.le_of_ble_eq_true rfl, Nat.le_of_ble_eq_true rfl⟩ (fun r ws H locs hpo hu => ?_)
          obtain ⟨rfl, rfl⟩ := hpo
          show W _ _ _ _ _ _ _ _ _ _ _ _ _ _ _ (F0 _ 97 _ [.int (if dig r nn (b + 3) 1 9 = false then (-9) else tok r nn (b + 3) - 48)])
          rcases hP : dig r nn (b + 3) 1 9 with _ | _
          · rw [hP, if_pos rfl] at hu
            refine top_i (y := (-9)) (by first | rw [if_pos rfl] | rw [hP, if_pos rfl]) ?_
            refine lv_istore (lv' := [(5, .int (-9)), (4, .int (nI vs)), (3, .int (tok r nn (b + 1))), (0, .ref q), (1, .int (nI f)), (2, .int (nI nn))]) hx hb dX2_readsEater_97 hl (by decide) rfl (fun ls hl => ?_)
            refine lv_iload hx hb dX2_readsEater_99 (lv_at hl 0 rfl) ?_
            refine lv_if_ge (tgt := 109) hx hb dX2_readsEater_101 (by decide) (fun c0 => absurd c0 (by decide)) (fun c0 => ?_)
            refine lv_bipush (v := (-9)) hx hb dX2_readsEater_104 (by decide) ?_
            refine lv_goto (tgt := 118) hx hb dX2_readsEater_106 (by decide) ?_
            refine lv_istore (lv' := [(6, .int (-9)), (5, .int (-9)), (4, .int (nI vs)), (3, .int (tok r nn (b + 1))), (0, .ref q), (1, .int (nI f)), (2, .int (nI nn))]) hx hb dX2_readsEater_118 hl (by decide) rfl (fun ls hl => ?_)
            refine lv_iload hx hb dX2_readsEater_120 (lv_at hl 0 rfl) ?_
            refine lv_if_ge (tgt := 127) hx hb dX2_readsEater_122 (by decide) (fun c0 => absurd c0 (by decide)) (fun c0 => ?_)
            refine lv_iconst (v := 0) hx hb dX2_readsEater_125 (by decide) ?_
            exact rU_z hx hb hr hlk hu dX2_readsEater_126 (Nat.le_of_ble_eq_true rfl) (Nat.le_of_ble_eq_true rfl) (by rw [eAt_3 c1 c2 (by rw [c3]; decide) hS hP]; rfl) (⟨_, rfl, rfl, by rw [eAt_3 c1 c2 (by rw [c3]; decide) hS hP]; exact mPr_at (mPr_at (mPr_at (mPr_at hp (b + 1)) (b + 2)) (b + 3)) (b + 3)⟩)
          · rw [hP, if_neg (by decide)] at hu
            obtain ⟨vp, evp, lvp, hvp⟩ := dig_ix (lo := 1) (hi := 9) (by decide) (by decide) hP
            refine top_i (y := nI vp) (by first | rw [if_neg (by decide), evp] | rw [hP, if_neg (by decide), evp]) ?_
            have qvp := dig_lt (lo := 1) (hi := 9) (by decide) hP
            have rvp : nI vp = r (b + 3) - 48 := by rw [← evp, qvp.2]
            refine lv_istore (lv' := [(5, .int (nI vp)), (4, .int (nI vs)), (3, .int (tok r nn (b + 1))), (0, .ref q), (1, .int (nI f)), (2, .int (nI nn))]) hx hb dX2_readsEater_97 hl (by decide) rfl (fun ls hl => ?_)
            refine lv_iload hx hb dX2_readsEater_99 (lv_at hl 0 rfl) ?_
            refine lv_if_ge (tgt := 109) hx hb dX2_readsEater_101 (by decide) (fun c0 => ?_) (fun c0 => absurd (nI_pos' (by omega)) c0)
            refine lv_aload_n hx hb dX2_readsEater_109 rfl (lv_at hl 3 rfl) ?_
            refine lv_iload_n hx hb dX2_readsEater_110 rfl (lv_at hl 4 rfl) ?_
            refine lv_iload_n hx hb dX2_readsEater_111 rfl (lv_at hl 5 rfl) ?_
            refine lv_iconst (v := 0) hx hb dX2_readsEater_112 (by decide) ?_
            refine lv_bipush (v := 6) hx hb dX2_readsEater_113 (by decide) ?_
            refine callU_V (rest := []) hx hb hml hown hts KM_st hK hA hAN hZ (cM_figure l D d H00 q Aq (put2 (put2 (put2 (put2 τ 10 0 (nI (b + 1))) 10 0 (nI (b + 2))) 10 0 (nI (b + 3))) 10 0 (nI (b + 4))) f nn (b + 4) r 0 6 (show (put2 (put2 (put2 (put2 τ 10 0 (nI (b + 1))) 10 0 (nI (b + 2))) 10 0 (nI (b + 3))) 10 0 (nI (b + 4))) 10 0 = nI (b + 4) from rfl) (fun j hj => by rw [show (put2 (put2 (put2 (put2 τ 10 0 (nI (b + 1))) 10 0 (nI (b + 2))) 10 0 (nI (b + 3))) 10 0 (nI (b + 4))) 26 = τ0 26 from hp.1 26 (by omega)]; exact htx j hj) hf (by omega)) (wX2_figure hts ⟨Nat.le_of_ble_eq_true rfl, Nat.le_of_ble_eq_true rfl⟩) (m_recv hK hu.1) hu rfl hl.1 rfl (Nat.le_of_ble_eq_true rfl) dX2_readsEater_115 ⟨Nat.le_of_ble_eq_true rfl, Nat.le_of_ble_eq_true rfl⟩ (fun r ws H locs hpo hu => ?_)
            obtain ⟨rfl, rfl⟩ := hpo
            show W _ _ _ _ _ _ _ _ _ _ _ _ _ _ _ (F0 _ 118 _ [.int (if dig r nn (b + 4) 0 6 = false then (-9) else tok r nn (b + 4) - 48)])
            rcases hN : dig r nn (b + 4) 0 6 with _ | _
            · rw [hN, if_pos rfl] at hu
              refine top_i (y := (-9)) (by first | rw [if_pos rfl] | rw [hN, if_pos rfl]) ?_
              refine lv_istore (lv' := [(6, .int (-9)), (5, .int (nI vp)), (4, .int (nI vs)), (3, .int (tok r nn (b + 1))), (0, .ref q), (1, .int (nI f)), (2, .int (nI nn))]) hx hb dX2_readsEater_118 hl (by decide) rfl (fun ls hl => ?_)
              refine lv_iload hx hb dX2_readsEater_120 (lv_at hl 0 rfl) ?_
              refine lv_if_ge (tgt := 127) hx hb dX2_readsEater_122 (by decide) (fun c0 => absurd c0 (by decide)) (fun c0 => ?_)
              refine lv_iconst (v := 0) hx hb dX2_readsEater_125 (by decide) ?_
              exact rU_z hx hb hr hlk hu dX2_readsEater_126 (Nat.le_of_ble_eq_true rfl) (Nat.le_of_ble_eq_true rfl) (by rw [eAt_4 c1 c2 (by rw [c3]; decide) hS hP hN]; rfl) (⟨_, rfl, rfl, by rw [eAt_4 c1 c2 (by rw [c3]; decide) hS hP hN]; exact mPr_at (mPr_at (mPr_at (mPr_at (mPr_at hp (b + 1)) (b + 2)) (b + 3)) (b + 4)) (b + 4)⟩)
            · rw [hN, if_neg (by decide)] at hu
              obtain ⟨vn, evn, lvn, hvn⟩ := dig_ix (lo := 0) (hi := 6) (by decide) (by decide) hN
              refine top_i (y := nI vn) (by first | rw [if_neg (by decide), evn] | rw [hN, if_neg (by decide), evn]) ?_
              have qvn := dig_lt (lo := 0) (hi := 6) (by decide) hN
              have rvn : nI vn = r (b + 4) - 48 := by rw [← evn, qvn.2]
              refine lv_istore (lv' := [(6, .int (nI vn)), (5, .int (nI vp)), (4, .int (nI vs)), (3, .int (tok r nn (b + 1))), (0, .ref q), (1, .int (nI f)), (2, .int (nI nn))]) hx hb dX2_readsEater_118 hl (by decide) rfl (fun ls hl => ?_)
              refine lv_iload hx hb dX2_readsEater_120 (lv_at hl 0 rfl) ?_
              refine lv_if_ge (tgt := 127) hx hb dX2_readsEater_122 (by decide) (fun c0 => ?_) (fun c0 => absurd (nI_pos' (by omega)) c0)
              refine lv_aload_n hx hb dX2_readsEater_127 rfl (lv_at hl 4 rfl) ?_
              refine mg15 hx hb hts hown hK hu.1 dX2_readsEater_128 ?_
              refine lv_aload_n hx hb dX2_readsEater_131 rfl (lv_at hl 4 rfl) ?_
              refine mg13 hx hb hts hown hK hu.1 dX2_readsEater_132 ?_
              refine top_i (y := τ 13 0) rfl ?_
              refine top_i (y := nI ne) (hp.2.2.2.2.1) ?_
              refine lv_iload_n hx hb dX2_readsEater_135 rfl (lv_at hl 3 rfl) ?_
              refine lv_bipush (v := 101) hx hb dX2_readsEater_136 (by decide) ?_
              refine lv_icmp_ne (tgt := 145) hx hb dX2_readsEater_138 (by decide) (fun c0 => absurd (c3) c0) (fun c0 => ?_)
              refine lv_iconst (v := 0) hx hb dX2_readsEater_141 (by decide) ?_
              refine lv_goto (tgt := 156) hx hb dX2_readsEater_142 (by decide) ?_
              refine ms15 hx hb hK hu (by omega) dX2_readsEater_156 (fun H locs hu => ?_)
              refine lv_aload_n hx hb dX2_readsEater_157 rfl (lv_at hl 4 rfl) ?_
              refine mg16 hx hb hts hown hK hu.1 dX2_readsEater_158 ?_
              refine lv_aload_n hx hb dX2_readsEater_161 rfl (lv_at hl 4 rfl) ?_
              refine mg13 hx hb hts hown hK hu.1 dX2_readsEater_162 ?_
              refine top_i (y := τ 13 0) rfl ?_
              refine top_i (y := nI ne) (hp.2.2.2.2.1) ?_
              refine lv_iload hx hb dX2_readsEater_165 (lv_at hl 2 rfl) ?_
              refine ms16 hx hb hK hu (by omega) dX2_readsEater_167 (fun H locs hu => ?_)
              refine lv_aload_n hx hb dX2_readsEater_168 rfl (lv_at hl 4 rfl) ?_
              refine mg17 hx hb hts hown hK hu.1 dX2_readsEater_169 ?_
              refine lv_aload_n hx hb dX2_readsEater_172 rfl (lv_at hl 4 rfl) ?_
              refine mg13 hx hb hts hown hK hu.1 dX2_readsEater_173 ?_
              refine top_i (y := τ 13 0) rfl ?_
              refine top_i (y := nI ne) (hp.2.2.2.2.1) ?_
              refine lv_iload hx hb dX2_readsEater_176 (lv_at hl 1 rfl) ?_
              refine ms17 hx hb hK hu (by omega) dX2_readsEater_178 (fun H locs hu => ?_)
              refine lv_aload_n hx hb dX2_readsEater_179 rfl (lv_at hl 4 rfl) ?_
              refine mg18 hx hb hts hown hK hu.1 dX2_readsEater_180 ?_
              refine lv_aload_n hx hb dX2_readsEater_183 rfl (lv_at hl 4 rfl) ?_
              refine mg13 hx hb hts hown hK hu.1 dX2_readsEater_184 ?_
              refine top_i (y := τ 13 0) rfl ?_
              refine top_i (y := nI ne) (hp.2.2.2.2.1) ?_
              refine lv_iload hx hb dX2_readsEater_187 (lv_at hl 0 rfl) ?_
              refine ms18 hx hb hK hu (by omega) dX2_readsEater_189 (fun H locs hu => ?_)
              refine lv_aload_n hx hb dX2_readsEater_190 rfl (lv_at hl 4 rfl) ?_
              refine lv_dup hx hb dX2_readsEater_191 rfl ?_
              refine mg13 hx hb hts hown hK hu.1 dX2_readsEater_192 ?_
              refine top_i (y := τ 13 0) rfl ?_
              refine top_i (y := nI ne) (hp.2.2.2.2.1) ?_
              refine lv_iconst (v := 1) hx hb dX2_readsEater_195 (by decide) ?_
              refine lv_iadd hx hb dX2_readsEater_196 ?_
              refine top_i (y := nI (ne + 1)) (nI_1 _) ?_
              refine mp13 hx hb hts hown hK hu dX2_readsEater_197 (fun H locs hu => ?_)
              refine lv_iconst (v := 1) hx hb dX2_readsEater_200 (by decide) ?_
              exact rU_z hx hb hr hlk hu dX2_readsEater_201 (Nat.le_of_ble_eq_true rfl) (Nat.le_of_ble_eq_true rfl) (by rw [eAt_5 c1 c2 (by rw [c3]; decide) hS hP hN]; rfl) (⟨_, rfl, rfl, by rw [eAt_5 c1 c2 (by rw [c3]; decide) hS hP hN]; exact mPr_eat (mPr_at (mPr_at (mPr_at (mPr_at (mPr_at hp (b + 1)) (b + 2)) (b + 3)) (b + 4)) (b + 5)) (by rw [← hbb, (tok_lt c3 (by decide)).2]; decide) (by rw [← hbb]; exact rvs) (by rw [← hbb]; exact rvp) (by rw [← hbb]; exact rvn)⟩)
      · refine lv_iload_n hx hb dX2_readsEater_44 rfl (lv_at hl 0 rfl) ?_
        refine lv_bipush (v := 115) hx hb dX2_readsEater_45 (by decide) ?_
        refine lv_icmp_eq (tgt := 58) hx hb dX2_readsEater_47 (by decide) (fun c4 => ?_) (fun c4 => ?_)
        · refine lv_aload_n hx hb dX2_readsEater_58 rfl (lv_at hl 1 rfl) ?_
          refine lv_dup hx hb dX2_readsEater_59 rfl ?_
          refine mg10 hx hb hts hown hK hu.1 dX2_readsEater_60 ?_
          refine top_i (y := nI (b + 1)) rfl ?_
          refine lv_iconst (v := 1) hx hb dX2_readsEater_63 (by decide) ?_
          refine lv_iadd hx hb dX2_readsEater_64 ?_
          refine top_i (y := nI (b + 2)) (nI_1 _) ?_
          refine mp10 hx hb hts hown hK hu dX2_readsEater_65 (fun H locs hu => ?_)
          refine lv_aload_n hx hb dX2_readsEater_68 rfl (lv_at hl 1 rfl) ?_
          refine lv_iload_n hx hb dX2_readsEater_69 rfl (lv_at hl 2 rfl) ?_
          refine lv_iload_n hx hb dX2_readsEater_70 rfl (lv_at hl 3 rfl) ?_
          refine lv_iconst (v := 0) hx hb dX2_readsEater_71 (by decide) ?_
          refine lv_iconst (v := 5) hx hb dX2_readsEater_72 (by decide) ?_
          refine callU_V (rest := []) hx hb hml hown hts KM_st hK hA hAN hZ (cM_figure l D d H00 q Aq (put2 (put2 τ 10 0 (nI (b + 1))) 10 0 (nI (b + 2))) f nn (b + 2) r 0 5 (show (put2 (put2 τ 10 0 (nI (b + 1))) 10 0 (nI (b + 2))) 10 0 = nI (b + 2) from rfl) (fun j hj => by rw [show (put2 (put2 τ 10 0 (nI (b + 1))) 10 0 (nI (b + 2))) 26 = τ0 26 from hp.1 26 (by omega)]; exact htx j hj) hf (by omega)) (wX2_figure hts ⟨Nat.le_of_ble_eq_true rfl, Nat.le_of_ble_eq_true rfl⟩) (m_recv hK hu.1) hu rfl hl.1 rfl (Nat.le_of_ble_eq_true rfl) dX2_readsEater_73 ⟨Nat.le_of_ble_eq_true rfl, Nat.le_of_ble_eq_true rfl⟩ (fun r ws H locs hpo hu => ?_)
          obtain ⟨rfl, rfl⟩ := hpo
          show W _ _ _ _ _ _ _ _ _ _ _ _ _ _ _ (F0 _ 76 _ [.int (if dig r nn (b + 2) 0 5 = false then (-9) else tok r nn (b + 2) - 48)])
          rcases hS : dig r nn (b + 2) 0 5 with _ | _
          · rw [hS, if_pos rfl] at hu
            refine top_i (y := (-9)) (by first | rw [if_pos rfl] | rw [hS, if_pos rfl]) ?_
            refine lv_istore (lv' := [(4, .int (-9)), (3, .int (tok r nn (b + 1))), (0, .ref q), (1, .int (nI f)), (2, .int (nI nn))]) hx hb dX2_readsEater_76 hl (by decide) rfl (fun ls hl => ?_)
            refine lv_iload hx hb dX2_readsEater_78 (lv_at hl 0 rfl) ?_
            refine lv_if_ge (tgt := 88) hx hb dX2_readsEater_80 (by decide) (fun c0 => absurd c0 (by decide)) (fun c0 => ?_)
            refine lv_bipush (v := (-9)) hx hb dX2_readsEater_83 (by decide) ?_
            refine lv_goto (tgt := 97) hx hb dX2_readsEater_85 (by decide) ?_
            refine lv_istore (lv' := [(5, .int (-9)), (4, .int (-9)), (3, .int (tok r nn (b + 1))), (0, .ref q), (1, .int (nI f)), (2, .int (nI nn))]) hx hb dX2_readsEater_97 hl (by decide) rfl (fun ls hl => ?_)
            refine lv_iload hx hb dX2_readsEater_99 (lv_at hl 0 rfl) ?_
            refine lv_if_ge (tgt := 109) hx hb dX2_readsEater_101 (by decide) (fun c0 => absurd c0 (by decide)) (fun c0 => ?_)
            refine lv_bipush (v := (-9)) hx hb dX2_readsEater_104 (by decide) ?_
            refine lv_goto (tgt := 118) hx hb dX2_readsEater_106 (by decide) ?_
            refine lv_istore (lv' := [(6, .int (-9)), (5, .int (-9)), (4, .int (-9)), (3, .int (tok r nn (b + 1))), (0, .ref q), (1, .int (nI f)), (2, .int (nI nn))]) hx hb dX2_readsEater_118 hl (by decide) rfl (fun ls hl => ?_)
            refine lv_iload hx hb dX2_readsEater_120 (lv_at hl 0 rfl) ?_
            refine lv_if_ge (tgt := 127) hx hb dX2_readsEater_122 (by decide) (fun c0 => absurd c0 (by decide)) (fun c0 => ?_)
            refine lv_iconst (v := 0) hx hb dX2_readsEater_125 (by decide) ?_
            exact rU_z hx hb hr hlk hu dX2_readsEater_126 (Nat.le_of_ble_eq_true rfl) (Nat.le_of_ble_eq_true rfl) (by rw [eAt_2 c1 c2 (by rw [c4]; decide) hS]; rfl) (⟨_, rfl, rfl, by rw [eAt_2 c1 c2 (by rw [c4]; decide) hS]; exact mPr_at (mPr_at (mPr_at hp (b + 1)) (b + 2)) (b + 2)⟩)
          · rw [hS, if_neg (by decide)] at hu
            obtain ⟨vs, evs, lvs, hvs⟩ := dig_ix (lo := 0) (hi := 5) (by decide) (by decide) hS
            refine top_i (y := nI vs) (by first | rw [if_neg (by decide), evs] | rw [hS, if_neg (by decide), evs]) ?_
            have qvs := dig_lt (lo := 0) (hi := 5) (by decide) hS
            have rvs : nI vs = r (b + 2) - 48 := by rw [← evs, qvs.2]
            refine lv_istore (lv' := [(4, .int (nI vs)), (3, .int (tok r nn (b + 1))), (0, .ref q), (1, .int (nI f)), (2, .int (nI nn))]) hx hb dX2_readsEater_76 hl (by decide) rfl (fun ls hl => ?_)
            refine lv_iload hx hb dX2_readsEater_78 (lv_at hl 0 rfl) ?_
            refine lv_if_ge (tgt := 88) hx hb dX2_readsEater_80 (by decide) (fun c0 => ?_) (fun c0 => absurd (nI_pos' (by omega)) c0)
            refine lv_aload_n hx hb dX2_readsEater_88 rfl (lv_at hl 2 rfl) ?_
            refine lv_iload_n hx hb dX2_readsEater_89 rfl (lv_at hl 3 rfl) ?_
            refine lv_iload_n hx hb dX2_readsEater_90 rfl (lv_at hl 4 rfl) ?_
            refine lv_iconst (v := 1) hx hb dX2_readsEater_91 (by decide) ?_
            refine lv_bipush (v := 9) hx hb dX2_readsEater_92 (by decide) ?_
            refine callU_V (rest := []) hx hb hml hown hts KM_st hK hA hAN hZ (cM_figure l D d H00 q Aq (put2 (put2 (put2 τ 10 0 (nI (b + 1))) 10 0 (nI (b + 2))) 10 0 (nI (b + 3))) f nn (b + 3) r 1 9 (show (put2 (put2 (put2 τ 10 0 (nI (b + 1))) 10 0 (nI (b + 2))) 10 0 (nI (b + 3))) 10 0 = nI (b + 3) from rfl) (fun j hj => by rw [show (put2 (put2 (put2 τ 10 0 (nI (b + 1))) 10 0 (nI (b + 2))) 10 0 (nI (b + 3))) 26 = τ0 26 from hp.1 26 (by omega)]; exact htx j hj) hf (by omega)) (wX2_figure hts ⟨Nat.le_of_ble_eq_true rfl, Nat.le_of_ble_eq_true rfl⟩) (m_recv hK hu.1) hu rfl hl.1 rfl (Nat.le_of_ble_eq_true rfl) dX2_readsEater_94 ⟨Nat.le_of_ble_eq_true rfl, Nat.le_of_ble_eq_true rfl⟩ (fun r ws H locs hpo hu => ?_)
            obtain ⟨rfl, rfl⟩ := hpo
            show W _ _ _ _ _ _ _ _ _ _ _ _ _ _ _ (F0 _ 97 _ [.int (if dig r nn (b + 3) 1 9 = false then (-9) else tok r nn (b + 3) - 48)])
            rcases hP : dig r nn (b + 3) 1 9 with _ | _
            · rw [hP, if_pos rfl] at hu
              refine top_i (y := (-9)) (by first | rw [if_pos rfl] | rw [hP, if_pos rfl]) ?_
              refine lv_istore (lv' := [(5, .int (-9)), (4, .int (nI vs)), (3, .int (tok r nn (b + 1))), (0, .ref q), (1, .int (nI f)), (2, .int (nI nn))]) hx hb dX2_readsEater_97 hl (by decide) rfl (fun ls hl => ?_)
              refine lv_iload hx hb dX2_readsEater_99 (lv_at hl 0 rfl) ?_
              refine lv_if_ge (tgt := 109) hx hb dX2_readsEater_101 (by decide) (fun c0 => absurd c0 (by decide)) (fun c0 => ?_)
              refine lv_bipush (v := (-9)) hx hb dX2_readsEater_104 (by decide) ?_
              refine lv_goto (tgt := 118) hx hb dX2_readsEater_106 (by decide) ?_
              refine lv_istore (lv' := [(6, .int (-9)), (5, .int (-9)), (4, .int (nI vs)), (3, .int (tok r nn (b + 1))), (0, .ref q), (1, .int (nI f)), (2, .int (nI nn))]) hx hb dX2_readsEater_118 hl (by decide) rfl (fun ls hl => ?_)
              refine lv_iload hx hb dX2_readsEater_120 (lv_at hl 0 rfl) ?_
              refine lv_if_ge (tgt := 127) hx hb dX2_readsEater_122 (by decide) (fun c0 => absurd c0 (by decide)) (fun c0 => ?_)
              refine lv_iconst (v := 0) hx hb dX2_readsEater_125 (by decide) ?_
              exact rU_z hx hb hr hlk hu dX2_readsEater_126 (Nat.le_of_ble_eq_true rfl) (Nat.le_of_ble_eq_true rfl) (by rw [eAt_3 c1 c2 (by rw [c4]; decide) hS hP]; rfl) (⟨_, rfl, rfl, by rw [eAt_3 c1 c2 (by rw [c4]; decide) hS hP]; exact mPr_at (mPr_at (mPr_at (mPr_at hp (b + 1)) (b + 2)) (b + 3)) (b + 3)⟩)
            · rw [hP, if_neg (by decide)] at hu
              obtain ⟨vp, evp, lvp, hvp⟩ := dig_ix (lo := 1) (hi := 9) (by decide) (by decide) hP
              refine top_i (y := nI vp) (by first | rw [if_neg (by decide), evp] | rw [hP, if_neg (by decide), evp]) ?_
              have qvp := dig_lt (lo := 1) (hi := 9) (by decide) hP
              have rvp : nI vp = r (b + 3) - 48 := by rw [← evp, qvp.2]
              refine lv_istore (lv' := [(5, .int (nI vp)), (4, .int (nI vs)), (3, .int (tok r nn (b + 1))), (0, .ref q), (1, .int (nI f)), (2, .int (nI nn))]) hx hb dX2_readsEater_97 hl (by decide) rfl (fun ls hl => ?_)
              refine lv_iload hx hb dX2_readsEater_99 (lv_at hl 0 rfl) ?_
              refine lv_if_ge (tgt := 109) hx hb dX2_readsEater_101 (by decide) (fun c0 => ?_) (fun c0 => absurd (nI_pos' (by omega)) c0)
              refine lv_aload_n hx hb dX2_readsEater_109 rfl (lv_at hl 3 rfl) ?_
              refine lv_iload_n hx hb dX2_readsEater_110 rfl (lv_at hl 4 rfl) ?_
              refine lv_iload_n hx hb dX2_readsEater_111 rfl (lv_at hl 5 rfl) ?_
              refine lv_iconst (v := 0) hx hb dX2_readsEater_112 (by decide) ?_
              refine lv_bipush (v := 6) hx hb dX2_readsEater_113 (by decide) ?_
              refine callU_V (rest := []) hx hb hml hown hts KM_st hK hA hAN hZ (cM_figure l D d H00 q Aq (put2 (put2 (put2 (put2 τ 10 0 (nI (b + 1))) 10 0 (nI (b + 2))) 10 0 (nI (b + 3))) 10 0 (nI (b + 4))) f nn (b + 4) r 0 6 (show (put2 (put2 (put2 (put2 τ 10 0 (nI (b + 1))) 10 0 (nI (b + 2))) 10 0 (nI (b + 3))) 10 0 (nI (b + 4))) 10 0 = nI (b + 4) from rfl) (fun j hj => by rw [show (put2 (put2 (put2 (put2 τ 10 0 (nI (b + 1))) 10 0 (nI (b + 2))) 10 0 (nI (b + 3))) 10 0 (nI (b + 4))) 26 = τ0 26 from hp.1 26 (by omega)]; exact htx j hj) hf (by omega)) (wX2_figure hts ⟨Nat.le_of_ble_eq_true rfl, Nat.le_of_ble_eq_true rfl⟩) (m_recv hK hu.1) hu rfl hl.1 rfl (Nat.le_of_ble_eq_true rfl) dX2_readsEater_115 ⟨Nat.le_of_ble_eq_true rfl, Nat.le_of_ble_eq_true rfl⟩ (fun r ws H locs hpo hu => ?_)
              obtain ⟨rfl, rfl⟩ := hpo
              show W _ _ _ _ _ _ _ _ _ _ _ _ _ _ _ (F0 _ 118 _ [.int (if dig r nn (b + 4) 0 6 = false then (-9) else tok r nn (b + 4) - 48)])
              rcases hN : dig r nn (b + 4) 0 6 with _ | _
              · rw [hN, if_pos rfl] at hu
                refine top_i (y := (-9)) (by first | rw [if_pos rfl] | rw [hN, if_pos rfl]) ?_
                refine lv_istore (lv' := [(6, .int (-9)), (5, .int (nI vp)), (4, .int (nI vs)), (3, .int (tok r nn (b + 1))), (0, .ref q), (1, .int (nI f)), (2, .int (nI nn))]) hx hb dX2_readsEater_118 hl (by decide) rfl (fun ls hl => ?_)
                refine lv_iload hx hb dX2_readsEater_120 (lv_at hl 0 rfl) ?_
                refine lv_if_ge (tgt := 127) hx hb dX2_readsEater_122 (by decide) (fun c0 => absurd c0 (by decide)) (fun c0 => ?_)
                refine lv_iconst (v := 0) hx hb dX2_readsEater_125 (by decide) ?_
                exact rU_z hx hb hr hlk hu dX2_readsEater_126 (Nat.le_of_ble_eq_true rfl) (Nat.le_of_ble_eq_true rfl) (by rw [eAt_4 c1 c2 (by rw [c4]; decide) hS hP hN]; rfl) (⟨_, rfl, rfl, by rw [eAt_4 c1 c2 (by rw [c4]; decide) hS hP hN]; exact mPr_at (mPr_at (mPr_at (mPr_at (mPr_at hp (b + 1)) (b + 2)) (b + 3)) (b + 4)) (b + 4)⟩)
              · rw [hN, if_neg (by decide)] at hu
                obtain ⟨vn, evn, lvn, hvn⟩ := dig_ix (lo := 0) (hi := 6) (by decide) (by decide) hN
                refine top_i (y := nI vn) (by first | rw [if_neg (by decide), evn] | rw [hN, if_neg (by decide), evn]) ?_
                have qvn := dig_lt (lo := 0) (hi := 6) (by decide) hN
                have rvn : nI vn = r (b + 4) - 48 := by rw [← evn, qvn.2]
                refine lv_istore (lv' := [(6, .int (nI vn)), (5, .int (nI vp)), (4, .int (nI vs)), (3, .int (tok r nn (b + 1))), (0, .ref q), (1, .int (nI f)), (2, .int (nI nn))]) hx hb dX2_readsEater_118 hl (by decide) rfl (fun ls hl => ?_)
                refine lv_iload hx hb dX2_readsEater_120 (lv_at hl 0 rfl) ?_
                refine lv_if_ge (tgt := 127) hx hb dX2_readsEater_122 (by decide) (fun c0 => ?_) (fun c0 => absurd (nI_pos' (by omega)) c0)
                refine lv_aload_n hx hb dX2_readsEater_127 rfl (lv_at hl 4 rfl) ?_
                refine mg15 hx hb hts hown hK hu.1 dX2_readsEater_128 ?_
                refine lv_aload_n hx hb dX2_readsEater_131 rfl (lv_at hl 4 rfl) ?_
                refine mg13 hx hb hts hown hK hu.1 dX2_readsEater_132 ?_
                refine top_i (y := τ 13 0) rfl ?_
                refine top_i (y := nI ne) (hp.2.2.2.2.1) ?_
                refine lv_iload_n hx hb dX2_readsEater_135 rfl (lv_at hl 3 rfl) ?_
                refine lv_bipush (v := 101) hx hb dX2_readsEater_136 (by decide) ?_
                refine lv_icmp_ne (tgt := 145) hx hb dX2_readsEater_138 (by decide) (fun c0 => ?_) (fun c0 => absurd c0 (c3))
                refine lv_iload_n hx hb dX2_readsEater_145 rfl (lv_at hl 3 rfl) ?_
                refine lv_bipush (v := 115) hx hb dX2_readsEater_146 (by decide) ?_
                refine lv_icmp_ne (tgt := 155) hx hb dX2_readsEater_148 (by decide) (fun c0 => absurd (c4) c0) (fun c0 => ?_)
                refine lv_iconst (v := 1) hx hb dX2_readsEater_151 (by decide) ?_
                refine lv_goto (tgt := 156) hx hb dX2_readsEater_152 (by decide) ?_
                refine ms15 hx hb hK hu (by omega) dX2_readsEater_156 (fun H locs hu => ?_)
                refine lv_aload_n hx hb dX2_readsEater_157 rfl (lv_at hl 4 rfl) ?_
                refine mg16 hx hb hts hown hK hu.1 dX2_readsEater_158 ?_
                refine lv_aload_n hx hb dX2_readsEater_161 rfl (lv_at hl 4 rfl) ?_
                refine mg13 hx hb hts hown hK hu.1 dX2_readsEater_162 ?_
                refine top_i (y := τ 13 0) rfl ?_
                refine top_i (y := nI ne) (hp.2.2.2.2.1) ?_
                refine lv_iload hx hb dX2_readsEater_165 (lv_at hl 2 rfl) ?_
                refine ms16 hx hb hK hu (by omega) dX2_readsEater_167 (fun H locs hu => ?_)
                refine lv_aload_n hx hb dX2_readsEater_168 rfl (lv_at hl 4 rfl) ?_
                refine mg17 hx hb hts hown hK hu.1 dX2_readsEater_169 ?_
                refine lv_aload_n hx hb dX2_readsEater_172 rfl (lv_at hl 4 rfl) ?_
                refine mg13 hx hb hts hown hK hu.1 dX2_readsEater_173 ?_
                refine top_i (y := τ 13 0) rfl ?_
                refine top_i (y := nI ne) (hp.2.2.2.2.1) ?_
                refine lv_iload hx hb dX2_readsEater_176 (lv_at hl 1 rfl) ?_
                refine ms17 hx hb hK hu (by omega) dX2_readsEater_178 (fun H locs hu => ?_)
                refine lv_aload_n hx hb dX2_readsEater_179 rfl (lv_at hl 4 rfl) ?_
                refine mg18 hx hb hts hown hK hu.1 dX2_readsEater_180 ?_
                refine lv_aload_n hx hb dX2_readsEater_183 rfl (lv_at hl 4 rfl) ?_
                refine mg13 hx hb hts hown hK hu.1 dX2_readsEater_184 ?_
                refine top_i (y := τ 13 0) rfl ?_
                refine top_i (y := nI ne) (hp.2.2.2.2.1) ?_
                refine lv_iload hx hb dX2_readsEater_187 (lv_at hl 0 rfl) ?_
                refine ms18 hx hb hK hu (by omega) dX2_readsEater_189 (fun H locs hu => ?_)
                refine lv_aload_n hx hb dX2_readsEater_190 rfl (lv_at hl 4 rfl) ?_
                refine lv_dup hx hb dX2_readsEater_191 rfl ?_
                refine mg13 hx hb hts hown hK hu.1 dX2_readsEater_192 ?_
                refine top_i (y := τ 13 0) rfl ?_
                refine top_i (y := nI ne) (hp.2.2.2.2.1) ?_
                refine lv_iconst (v := 1) hx hb dX2_readsEater_195 (by decide) ?_
                refine lv_iadd hx hb dX2_readsEater_196 ?_
                refine top_i (y := nI (ne + 1)) (nI_1 _) ?_
                refine mp13 hx hb hts hown hK hu dX2_readsEater_197 (fun H locs hu => ?_)
                refine lv_iconst (v := 1) hx hb dX2_readsEater_200 (by decide) ?_
                exact rU_z hx hb hr hlk hu dX2_readsEater_201 (Nat.le_of_ble_eq_true rfl) (Nat.le_of_ble_eq_true rfl) (by rw [eAt_5 c1 c2 (by rw [c4]; decide) hS hP hN]; rfl) (⟨_, rfl, rfl, by rw [eAt_5 c1 c2 (by rw [c4]; decide) hS hP hN]; exact mPr_eat (mPr_at (mPr_at (mPr_at (mPr_at (mPr_at hp (b + 1)) (b + 2)) (b + 3)) (b + 4)) (b + 5)) (by rw [← hbb, (tok_lt c4 (by decide)).2]; decide) (by rw [← hbb]; exact rvs) (by rw [← hbb]; exact rvp) (by rw [← hbb]; exact rvn)⟩)
        · refine lv_iload_n hx hb dX2_readsEater_50 rfl (lv_at hl 0 rfl) ?_
          refine lv_bipush (v := 108) hx hb dX2_readsEater_51 (by decide) ?_
          refine lv_icmp_eq (tgt := 58) hx hb dX2_readsEater_53 (by decide) (fun c5 => ?_) (fun c5 => ?_)
          · refine lv_aload_n hx hb dX2_readsEater_58 rfl (lv_at hl 1 rfl) ?_
            refine lv_dup hx hb dX2_readsEater_59 rfl ?_
            refine mg10 hx hb hts hown hK hu.1 dX2_readsEater_60 ?_
            refine top_i (y := nI (b + 1)) rfl ?_
            refine lv_iconst (v := 1) hx hb dX2_readsEater_63 (by decide) ?_
            refine lv_iadd hx hb dX2_readsEater_64 ?_
            refine top_i (y := nI (b + 2)) (nI_1 _) ?_
            refine mp10 hx hb hts hown hK hu dX2_readsEater_65 (fun H locs hu => ?_)
            refine lv_aload_n hx hb dX2_readsEater_68 rfl (lv_at hl 1 rfl) ?_
            refine lv_iload_n hx hb dX2_readsEater_69 rfl (lv_at hl 2 rfl) ?_
            refine lv_iload_n hx hb dX2_readsEater_70 rfl (lv_at hl 3 rfl) ?_
            refine lv_iconst (v := 0) hx hb dX2_readsEater_71 (by decide) ?_
            refine lv_iconst (v := 5) hx hb dX2_readsEater_72 (by decide) ?_
            refine callU_V (rest := []) hx hb hml hown hts KM_st hK hA hAN hZ (cM_figure l D d H00 q Aq (put2 (put2 τ 10 0 (nI (b + 1))) 10 0 (nI (b + 2))) f nn (b + 2) r 0 5 (show (put2 (put2 τ 10 0 (nI (b + 1))) 10 0 (nI (b + 2))) 10 0 = nI (b + 2) from rfl) (fun j hj => by rw [show (put2 (put2 τ 10 0 (nI (b + 1))) 10 0 (nI (b + 2))) 26 = τ0 26 from hp.1 26 (by omega)]; exact htx j hj) hf (by omega)) (wX2_figure hts ⟨Nat.le_of_ble_eq_true rfl, Nat.le_of_ble_eq_true rfl⟩) (m_recv hK hu.1) hu rfl hl.1 rfl (Nat.le_of_ble_eq_true rfl) dX2_readsEater_73 ⟨Nat.le_of_ble_eq_true rfl, Nat.le_of_ble_eq_true rfl⟩ (fun r ws H locs hpo hu => ?_)
            obtain ⟨rfl, rfl⟩ := hpo
            show W _ _ _ _ _ _ _ _ _ _ _ _ _ _ _ (F0 _ 76 _ [.int (if dig r nn (b + 2) 0 5 = false then (-9) else tok r nn (b + 2) - 48)])
            rcases hS : dig r nn (b + 2) 0 5 with _ | _
            · rw [hS, if_pos rfl] at hu
              refine top_i (y := (-9)) (by first | rw [if_pos rfl] | rw [hS, if_pos rfl]) ?_
              refine lv_istore (lv' := [(4, .int (-9)), (3, .int (tok r nn (b + 1))), (0, .ref q), (1, .int (nI f)), (2, .int (nI nn))]) hx hb dX2_readsEater_76 hl (by decide) rfl (fun ls hl => ?_)
              refine lv_iload hx hb dX2_readsEater_78 (lv_at hl 0 rfl) ?_
              refine lv_if_ge (tgt := 88) hx hb dX2_readsEater_80 (by decide) (fun c0 => absurd c0 (by decide)) (fun c0 => ?_)
              refine lv_bipush (v := (-9)) hx hb dX2_readsEater_83 (by decide) ?_
              refine lv_goto (tgt := 97) hx hb dX2_readsEater_85 (by decide) ?_
              refine lv_istore (lv' := [(5, .int (-9)), (4, .int (-9)), (3, .int (tok r nn (b + 1))), (0, .ref q), (1, .int (nI f)), (2, .int (nI nn))]) hx hb dX2_readsEater_97 hl (by decide) rfl (fun ls hl => ?_)
              refine lv_iload hx hb dX2_readsEater_99 (lv_at hl 0 rfl) ?_
              refine lv_if_ge (tgt := 109) hx hb dX2_readsEater_101 (by decide) (fun c0 => absurd c0 (by decide)) (fun c0 => ?_)
              refine lv_bipush (v := (-9)) hx hb dX2_readsEater_104 (by decide) ?_
              refine lv_goto (tgt := 118) hx hb dX2_readsEater_106 (by decide) ?_
              refine lv_istore (lv' := [(6, .int (-9)), (5, .int (-9)), (4, .int (-9)), (3, .int (tok r nn (b + 1))), (0, .ref q), (1, .int (nI f)), (2, .int (nI nn))]) hx hb dX2_readsEater_118 hl (by decide) rfl (fun ls hl => ?_)
              refine lv_iload hx hb dX2_readsEater_120 (lv_at hl 0 rfl) ?_
              refine lv_if_ge (tgt := 127) hx hb dX2_readsEater_122 (by decide) (fun c0 => absurd c0 (by decide)) (fun c0 => ?_)
              refine lv_iconst (v := 0) hx hb dX2_readsEater_125 (by decide) ?_
              exact rU_z hx hb hr hlk hu dX2_readsEater_126 (Nat.le_of_ble_eq_true rfl) (Nat.le_of_ble_eq_true rfl) (by rw [eAt_2 c1 c2 (by rw [c5]; decide) hS]; rfl) (⟨_, rfl, rfl, by rw [eAt_2 c1 c2 (by rw [c5]; decide) hS]; exact mPr_at (mPr_at (mPr_at hp (b + 1)) (b + 2)) (b + 2)⟩)
            · rw [hS, if_neg (by decide)] at hu
              obtain ⟨vs, evs, lvs, hvs⟩ := dig_ix (lo := 0) (hi := 5) (by decide) (by decide) hS
              refine top_i (y := nI vs) (by first | rw [if_neg (by decide), evs] | rw [hS, if_neg (by decide), evs]) ?_
              have qvs := dig_lt (lo := 0) (hi := 5) (by decide) hS
              have rvs : nI vs = r (b + 2) - 48 := by rw [← evs, qvs.2]
              refine lv_istore (lv' := [(4, .int (nI vs)), (3, .int (tok r nn (b + 1))), (0, .ref q), (1, .int (nI f)), (2, .int (nI nn))]) hx hb dX2_readsEater_76 hl (by decide) rfl (fun ls hl => ?_)
              refine lv_iload hx hb dX2_readsEater_78 (lv_at hl 0 rfl) ?_
              refine lv_if_ge (tgt := 88) hx hb dX2_readsEater_80 (by decide) (fun c0 => ?_) (fun c0 => absurd (nI_pos' (by omega)) c0)
              refine lv_aload_n hx hb dX2_readsEater_88 rfl (lv_at hl 2 rfl) ?_
              refine lv_iload_n hx hb dX2_readsEater_89 rfl (lv_at hl 3 rfl) ?_
              refine lv_iload_n hx hb dX2_readsEater_90 rfl (lv_at hl 4 rfl) ?_
              refine lv_iconst (v := 1) hx hb dX2_readsEater_91 (by decide) ?_
              refine lv_bipush (v := 9) hx hb dX2_readsEater_92 (by decide) ?_
              refine callU_V (rest := []) hx hb hml hown hts KM_st hK hA hAN hZ (cM_figure l D d H00 q Aq (put2 (put2 (put2 τ 10 0 (nI (b + 1))) 10 0 (nI (b + 2))) 10 0 (nI (b + 3))) f nn (b + 3) r 1 9 (show (put2 (put2 (put2 τ 10 0 (nI (b + 1))) 10 0 (nI (b + 2))) 10 0 (nI (b + 3))) 10 0 = nI (b + 3) from rfl) (fun j hj => by rw [show (put2 (put2 (put2 τ 10 0 (nI (b + 1))) 10 0 (nI (b + 2))) 10 0 (nI (b + 3))) 26 = τ0 26 from hp.1 26 (by omega)]; exact htx j hj) hf (by omega)) (wX2_figure hts ⟨Nat.le_of_ble_eq_true rfl, Nat.le_of_ble_eq_true rfl⟩) (m_recv hK hu.1) hu rfl hl.1 rfl (Nat.le_of_ble_eq_true rfl) dX2_readsEater_94 ⟨Nat.le_of_ble_eq_true rfl, Nat.le_of_ble_eq_true rfl⟩ (fun r ws H locs hpo hu => ?_)
              obtain ⟨rfl, rfl⟩ := hpo
              show W _ _ _ _ _ _ _ _ _ _ _ _ _ _ _ (F0 _ 97 _ [.int (if dig r nn (b + 3) 1 9 = false then (-9) else tok r nn (b + 3) - 48)])
              rcases hP : dig r nn (b + 3) 1 9 with _ | _
              · rw [hP, if_pos rfl] at hu
                refine top_i (y := (-9)) (by first | rw [if_pos rfl] | rw [hP, if_pos rfl]) ?_
                refine lv_istore (lv' := [(5, .int (-9)), (4, .int (nI vs)), (3, .int (tok r nn (b + 1))), (0, .ref q), (1, .int (nI f)), (2, .int (nI nn))]) hx hb dX2_readsEater_97 hl (by decide) rfl (fun ls hl => ?_)
                refine lv_iload hx hb dX2_readsEater_99 (lv_at hl 0 rfl) ?_
                refine lv_if_ge (tgt := 109) hx hb dX2_readsEater_101 (by decide) (fun c0 => absurd c0 (by decide)) (fun c0 => ?_)
                refine lv_bipush (v := (-9)) hx hb dX2_readsEater_104 (by decide) ?_
                refine lv_goto (tgt := 118) hx hb dX2_readsEater_106 (by decide) ?_
                refine lv_istore (lv' := [(6, .int (-9)), (5, .int (-9)), (4, .int (nI vs)), (3, .int (tok r nn (b + 1))), (0, .ref q), (1, .int (nI f)), (2, .int (nI nn))]) hx hb dX2_readsEater_118 hl (by decide) rfl (fun ls hl => ?_)
                refine lv_iload hx hb dX2_readsEater_120 (lv_at hl 0 rfl) ?_
                refine lv_if_ge (tgt := 127) hx hb dX2_readsEater_122 (by decide) (fun c0 => absurd c0 (by decide)) (fun c0 => ?_)
                refine lv_iconst (v := 0) hx hb dX2_readsEater_125 (by decide) ?_
                exact rU_z hx hb hr hlk hu dX2_readsEater_126 (Nat.le_of_ble_eq_true rfl) (Nat.le_of_ble_eq_true rfl) (by rw [eAt_3 c1 c2 (by rw [c5]; decide) hS hP]; rfl) (⟨_, rfl, rfl, by rw [eAt_3 c1 c2 (by rw [c5]; decide) hS hP]; exact mPr_at (mPr_at (mPr_at (mPr_at hp (b + 1)) (b + 2)) (b + 3)) (b + 3)⟩)
              · rw [hP, if_neg (by decide)] at hu
                obtain ⟨vp, evp, lvp, hvp⟩ := dig_ix (lo := 1) (hi := 9) (by decide) (by decide) hP
                refine top_i (y := nI vp) (by first | rw [if_neg (by decide), evp] | rw [hP, if_neg (by decide), evp]) ?_
                have qvp := dig_lt (lo := 1) (hi := 9) (by decide) hP
                have rvp : nI vp = r (b + 3) - 48 := by rw [← evp, qvp.2]
                refine lv_istore (lv' := [(5, .int (nI vp)), (4, .int (nI vs)), (3, .int (tok r nn (b + 1))), (0, .ref q), (1, .int (nI f)), (2, .int (nI nn))]) hx hb dX2_readsEater_97 hl (by decide) rfl (fun ls hl => ?_)
                refine lv_iload hx hb dX2_readsEater_99 (lv_at hl 0 rfl) ?_
                refine lv_if_ge (tgt := 109) hx hb dX2_readsEater_101 (by decide) (fun c0 => ?_) (fun c0 => absurd (nI_pos' (by omega)) c0)
                refine lv_aload_n hx hb dX2_readsEater_109 rfl (lv_at hl 3 rfl) ?_
                refine lv_iload_n hx hb dX2_readsEater_110 rfl (lv_at hl 4 rfl) ?_
                refine lv_iload_n hx hb dX2_readsEater_111 rfl (lv_at hl 5 rfl) ?_
                refine lv_iconst (v := 0) hx hb dX2_readsEater_112 (by decide) ?_
                refine lv_bipush (v := 6) hx hb dX2_readsEater_113 (by decide) ?_
                refine callU_V (rest := []) hx hb hml hown hts KM_st hK hA hAN hZ (cM_figure l D d H00 q Aq (put2 (put2 (put2 (put2 τ 10 0 (nI (b + 1))) 10 0 (nI (b + 2))) 10 0 (nI (b + 3))) 10 0 (nI (b + 4))) f nn (b + 4) r 0 6 (show (put2 (put2 (put2 (put2 τ 10 0 (nI (b + 1))) 10 0 (nI (b + 2))) 10 0 (nI (b + 3))) 10 0 (nI (b + 4))) 10 0 = nI (b + 4) from rfl) (fun j hj => by rw [show (put2 (put2 (put2 (put2 τ 10 0 (nI (b + 1))) 10 0 (nI (b + 2))) 10 0 (nI (b + 3))) 10 0 (nI (b + 4))) 26 = τ0 26 from hp.1 26 (by omega)]; exact htx j hj) hf (by omega)) (wX2_figure hts ⟨Nat.le_of_ble_eq_true rfl, Nat.le_of_ble_eq_true rfl⟩) (m_recv hK hu.1) hu rfl hl.1 rfl (Nat.le_of_ble_eq_true rfl) dX2_readsEater_115 ⟨Nat.le_of_ble_eq_true rfl, Nat.le_of_ble_eq_true rfl⟩ (fun r ws H locs hpo hu => ?_)
                obtain ⟨rfl, rfl⟩ := hpo
                show W _ _ _ _ _ _ _ _ _ _ _ _ _ _ _ (F0 _ 118 _ [.int (if dig r nn (b + 4) 0 6 = false then (-9) else tok r nn (b + 4) - 48)])
                rcases hN : dig r nn (b + 4) 0 6 with _ | _
                · rw [hN, if_pos rfl] at hu
                  refine top_i (y := (-9)) (by first | rw [if_pos rfl] | rw [hN, if_pos rfl]) ?_
                  refine lv_istore (lv' := [(6, .int (-9)), (5, .int (nI vp)), (4, .int (nI vs)), (3, .int (tok r nn (b + 1))), (0, .ref q), (1, .int (nI f)), (2, .int (nI nn))]) hx hb dX2_readsEater_118 hl (by decide) rfl (fun ls hl => ?_)
                  refine lv_iload hx hb dX2_readsEater_120 (lv_at hl 0 rfl) ?_
                  refine lv_if_ge (tgt := 127) hx hb dX2_readsEater_122 (by decide) (fun c0 => absurd c0 (by decide)) (fun c0 => ?_)
                  refine lv_iconst (v := 0) hx hb dX2_readsEater_125 (by decide) ?_
                  exact rU_z hx hb hr hlk hu dX2_readsEater_126 (Nat.le_of_ble_eq_true rfl) (Nat.le_of_ble_eq_true rfl) (by rw [eAt_4 c1 c2 (by rw [c5]; decide) hS hP hN]; rfl) (⟨_, rfl, rfl, by rw [eAt_4 c1 c2 (by rw [c5]; decide) hS hP hN]; exact mPr_at (mPr_at (mPr_at (mPr_at (mPr_at hp (b + 1)) (b + 2)) (b + 3)) (b + 4)) (b + 4)⟩)
                · rw [hN, if_neg (by decide)] at hu
                  obtain ⟨vn, evn, lvn, hvn⟩ := dig_ix (lo := 0) (hi := 6) (by decide) (by decide) hN
                  refine top_i (y := nI vn) (by first | rw [if_neg (by decide), evn] | rw [hN, if_neg (by decide), evn]) ?_
                  have qvn := dig_lt (lo := 0) (hi := 6) (by decide) hN
                  have rvn : nI vn = r (b + 4) - 48 := by rw [← evn, qvn.2]
                  refine lv_istore (lv' := [(6, .int (nI vn)), (5, .int (nI vp)), (4, .int (nI vs)), (3, .int (tok r nn (b + 1))), (0, .ref q), (1, .int (nI f)), (2, .int (nI nn))]) hx hb dX2_readsEater_118 hl (by decide) rfl (fun ls hl => ?_)
                  refine lv_iload hx hb dX2_readsEater_120 (lv_at hl 0 rfl) ?_
                  refine lv_if_ge (tgt := 127) hx hb dX2_readsEater_122 (by decide) (fun c0 => ?_) (fun c0 => absurd (nI_pos' (by omega)) c0)
                  refine lv_aload_n hx hb dX2_readsEater_127 rfl (lv_at hl 4 rfl) ?_
                  refine mg15 hx hb hts hown hK hu.1 dX2_readsEater_128 ?_
                  refine lv_aload_n hx hb dX2_readsEater_131 rfl (lv_at hl 4 rfl) ?_
                  refine mg13 hx hb hts hown hK hu.1 dX2_readsEater_132 ?_
                  refine top_i (y := τ 13 0) rfl ?_
                  refine top_i (y := nI ne) (hp.2.2.2.2.1) ?_
                  refine lv_iload_n hx hb dX2_readsEater_135 rfl (lv_at hl 3 rfl) ?_
                  refine lv_bipush (v := 101) hx hb dX2_readsEater_136 (by decide) ?_
                  refine lv_icmp_ne (tgt := 145) hx hb dX2_readsEater_138 (by decide) (fun c0 => ?_) (fun c0 => absurd c0 (c3))
                  refine lv_iload_n hx hb dX2_readsEater_145 rfl (lv_at hl 3 rfl) ?_
                  refine lv_bipush (v := 115) hx hb dX2_readsEater_146 (by decide) ?_
                  refine lv_icmp_ne (tgt := 155) hx hb dX2_readsEater_148 (by decide) (fun c0 => ?_) (fun c0 => absurd c0 (c4))
                  refine lv_iconst (v := 2) hx hb dX2_readsEater_155 (by decide) ?_
                  refine ms15 hx hb hK hu (by omega) dX2_readsEater_156 (fun H locs hu => ?_)
                  refine lv_aload_n hx hb dX2_readsEater_157 rfl (lv_at hl 4 rfl) ?_
                  refine mg16 hx hb hts hown hK hu.1 dX2_readsEater_158 ?_
                  refine lv_aload_n hx hb dX2_readsEater_161 rfl (lv_at hl 4 rfl) ?_
                  refine mg13 hx hb hts hown hK hu.1 dX2_readsEater_162 ?_
                  refine top_i (y := τ 13 0) rfl ?_
                  refine top_i (y := nI ne) (hp.2.2.2.2.1) ?_
                  refine lv_iload hx hb dX2_readsEater_165 (lv_at hl 2 rfl) ?_
                  refine ms16 hx hb hK hu (by omega) dX2_readsEater_167 (fun H locs hu => ?_)
                  refine lv_aload_n hx hb dX2_readsEater_168 rfl (lv_at hl 4 rfl) ?_
                  refine mg17 hx hb hts hown hK hu.1 dX2_readsEater_169 ?_
                  refine lv_aload_n hx hb dX2_readsEater_172 rfl (lv_at hl 4 rfl) ?_
                  refine mg13 hx hb hts hown hK hu.1 dX2_readsEater_173 ?_
                  refine top_i (y := τ 13 0) rfl ?_
                  refine top_i (y := nI ne) (hp.2.2.2.2.1) ?_
                  refine lv_iload hx hb dX2_readsEater_176 (lv_at hl 1 rfl) ?_
                  refine ms17 hx hb hK hu (by omega) dX2_readsEater_178 (fun H locs hu => ?_)
                  refine lv_aload_n hx hb dX2_readsEater_179 rfl (lv_at hl 4 rfl) ?_
                  refine mg18 hx hb hts hown hK hu.1 dX2_readsEater_180 ?_
                  refine lv_aload_n hx hb dX2_readsEater_183 rfl (lv_at hl 4 rfl) ?_
                  refine mg13 hx hb hts hown hK hu.1 dX2_readsEater_184 ?_
                  refine top_i (y := τ 13 0) rfl ?_
                  refine top_i (y := nI ne) (hp.2.2.2.2.1) ?_
                  refine lv_iload hx hb dX2_readsEater_187 (lv_at hl 0 rfl) ?_
                  refine ms18 hx hb hK hu (by omega) dX2_readsEater_189 (fun H locs hu => ?_)
                  refine lv_aload_n hx hb dX2_readsEater_190 rfl (lv_at hl 4 rfl) ?_
                  refine lv_dup hx hb dX2_readsEater_191 rfl ?_
                  refine mg13 hx hb hts hown hK hu.1 dX2_readsEater_192 ?_
                  refine top_i (y := τ 13 0) rfl ?_
                  refine top_i (y := nI ne) (hp.2.2.2.2.1) ?_
                  refine lv_iconst (v := 1) hx hb dX2_readsEater_195 (by decide) ?_
                  refine lv_iadd hx hb dX2_readsEater_196 ?_
                  refine top_i (y := nI (ne + 1)) (nI_1 _) ?_
                  refine mp13 hx hb hts hown hK hu dX2_readsEater_197 (fun H locs hu => ?_)
                  refine lv_iconst (v := 1) hx hb dX2_readsEater_200 (by decide) ?_
                  exact rU_z hx hb hr hlk hu dX2_readsEater_201 (Nat.le_of_ble_eq_true rfl) (Nat.le_of_ble_eq_true rfl) (by rw [eAt_5 c1 c2 (by rw [c5]; decide) hS hP hN]; rfl) (⟨_, rfl, rfl, by rw [eAt_5 c1 c2 (by rw [c5]; decide) hS hP hN]; exact mPr_eat (mPr_at (mPr_at (mPr_at (mPr_at (mPr_at hp (b + 1)) (b + 2)) (b + 3)) (b + 4)) (b + 5)) (by rw [← hbb, (tok_lt c5 (by decide)).2]; decide) (by rw [← hbb]; exact rvs) (by rw [← hbb]; exact rvp) (by rw [← hbb]; exact rvn)⟩)
          · refine lv_iconst (v := 0) hx hb dX2_readsEater_56 (by decide) ?_
            exact rU_z hx hb hr hlk hu dX2_readsEater_57 (Nat.le_of_ble_eq_true rfl) (Nat.le_of_ble_eq_true rfl) (by rw [eAt_1 c1 c2 (kdc_3 c3 c4 c5)]; rfl) (⟨_, rfl, rfl, by rw [eAt_1 c1 c2 (kdc_3 c3 c4 c5)]; exact mPr_at hp (b + 1)⟩)
    · refine lv_iconst (v := 0) hx hb dX2_readsEater_19 (by decide) ?_
      exact rU_z hx hb hr hlk hu dX2_readsEater_20 (Nat.le_of_ble_eq_true rfl) (Nat.le_of_ble_eq_true rfl) (by rw [eAt_0 c1 c2]; rfl) (⟨_, rfl, rfl, by rw [eAt_0 c1 c2]; exact hp⟩)
