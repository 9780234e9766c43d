/-! the Model: reading a duchy, the whole -/
set_option maxHeartbeats 4000000 in
set_option maxRecDepth 100000 in
theorem cM_readsDuchy (l : Launch) (D : va_G) (d : Nat → ClassId) (H00 : Heap) (q : Nat) (Aq : Nat → Nat) (τ : Nat → Nat → Int32) (f nn : Nat) (r : Nat → Int32) (htx : ∀ j, j < nn → τ 26 (f + j) = r j) (hf : f + nn ≤ 240) (hnn : nn ≤ 60) : cU l (KM D d) H00 D yX2_readsDuchy cX2_readsDuchy 4 (some .boolean) (rc 3 0 0) [.ref q, .int (nI f), .int (nI nn)] (mw d q Aq τ) (fun r0 ws => ∃ τ2, ws = mw d q Aq τ2 ∧ r0 = some (.int (bI (prs r nn).1)) ∧ mPq τ τ2 r nn) := by
  refine cU_start RX2 rfl (by decide) (Nat.le_of_ble_eq_true rfl) ?_
  intro p e s m below meth c A hx hb hml hown hts hr hlk hnm hK hA hAN hZ hu ls hl
  have hl : lv_has ls 4 [(0, .ref q), (1, .int (nI f)), (2, .int (nI nn))] := hl
  have hdc6 := dcn_le r nn 6
  refine lv_aload_n hx hb dX2_readsDuchy_0 rfl (lv_at hl 0 rfl) ?_
  refine lv_iconst (v := nI 0) hx hb dX2_readsDuchy_1 (by decide) ?_
  refine mp10 hx hb hts hown hK hu dX2_readsDuchy_2 (fun H locs hu => ?_)
  refine lv_aload_n hx hb dX2_readsDuchy_5 rfl (lv_at hl 0 rfl) ?_
  refine lv_iconst (v := nI 0) hx hb dX2_readsDuchy_6 (by decide) ?_
  refine mp12 hx hb hts hown hK hu dX2_readsDuchy_7 (fun H locs hu => ?_)
  refine lv_aload_n hx hb dX2_readsDuchy_10 rfl (lv_at hl 0 rfl) ?_
  refine lv_iconst (v := nI 0) hx hb dX2_readsDuchy_11 (by decide) ?_
  refine mp13 hx hb hts hown hK hu dX2_readsDuchy_12 (fun H locs hu => ?_)
  refine lv_aload_n hx hb dX2_readsDuchy_15 rfl (lv_at hl 0 rfl) ?_
  refine lv_iload_n hx hb dX2_readsDuchy_16 rfl (lv_at hl 1 rfl) ?_
  refine lv_iload_n hx hb dX2_readsDuchy_17 rfl (lv_at hl 2 rfl) ?_
  refine callR_V (rest := []) hx hb hml hown hts KM_st hK (cM_codeAt l D d q Aq (put2 (put2 (put2 τ 10 0 (nI 0)) 12 0 (nI 0)) 13 0 (nI 0)) f nn 0 r (show (put2 (put2 (put2 τ 10 0 (nI 0)) 12 0 (nI 0)) 13 0 (nI 0)) 10 0 = nI 0 from rfl) (fun j hj => by rw [show (put2 (put2 (put2 τ 10 0 (nI 0)) 12 0 (nI 0)) 13 0 (nI 0)) 26 = τ 26 from ((mPr_0 τ r)).1 26 (by omega)]; exact htx j hj) hf (by omega)) (wX2_codeAt hts ⟨Nat.le_of_ble_eq_true rfl, Nat.le_of_ble_eq_true rfl⟩) (m_recv hK hu.1) hu.1 rfl hl.1 rfl (Nat.le_of_ble_eq_true rfl) dX2_readsDuchy_18 ⟨Nat.le_of_ble_eq_true rfl, Nat.le_of_ble_eq_true rfl⟩ ?_
  refine lv_bipush (v := 100) hx hb dX2_readsDuchy_21 (by decide) ?_
  refine lv_icmp_ne (tgt := 30) hx hb dX2_readsDuchy_23 (by decide) (fun c1 => ?_) (fun c1 => ?_)
  · refine lv_iconst (v := 0) hx hb dX2_readsDuchy_30 (by decide) ?_
    refine lv_istore_n (lv' := [(3, .int 0), (0, .ref q), (1, .int (nI f)), (2, .int (nI nn))]) hx hb dX2_readsDuchy_31 rfl hl (by decide) rfl (fun ls hl => ?_)
    refine lv_aload_n hx hb dX2_readsDuchy_32 rfl (lv_at hl 1 rfl) ?_
    refine lv_dup hx hb dX2_readsDuchy_33 rfl ?_
    refine mg10 hx hb hts hown hK hu.1 dX2_readsDuchy_34 ?_
    refine top_i (y := nI 0) rfl ?_
    refine lv_iload_n hx hb dX2_readsDuchy_37 rfl (lv_at hl 0 rfl) ?_
    refine lv_if_eq (tgt := 45) hx hb dX2_readsDuchy_38 (by decide) (fun c0 => ?_) (fun c0 => absurd (by decide) c0)
    refine lv_iconst (v := 0) hx hb dX2_readsDuchy_45 (by decide) ?_
    refine lv_iadd hx hb dX2_readsDuchy_46 ?_
    refine top_i (y := nI 0) (Int32.add_zero _) ?_
    refine mp10 hx hb hts hown hK hu dX2_readsDuchy_47 (fun H locs hu => ?_)
    refine lv_aload_n hx hb dX2_readsDuchy_50 rfl (lv_at hl 1 rfl) ?_
    refine lv_iload_n hx hb dX2_readsDuchy_51 rfl (lv_at hl 0 rfl) ?_
    refine lv_if_eq (tgt := 67) hx hb dX2_readsDuchy_52 (by decide) (fun c0 => ?_) (fun c0 => absurd (by decide) c0)
    refine lv_bipush (v := (-9)) hx hb dX2_readsDuchy_67 (by decide) ?_
    refine mp11 hx hb hts hown hK hu dX2_readsDuchy_69 (fun H locs hu => ?_)
    refine lv_aload_n hx hb dX2_readsDuchy_72 rfl (lv_at hl 1 rfl) ?_
    refine mg11 hx hb hts hown hK hu.1 dX2_readsDuchy_73 ?_
    refine top_i (y := (-9)) rfl ?_
    refine lv_if_lt (tgt := 94) hx hb dX2_readsDuchy_76 (by decide) (fun c0 => ?_) (fun c0 => absurd (by decide) c0)
    refine lv_iconst (v := 0) hx hb dX2_readsDuchy_94 (by decide) ?_
    refine lv_istore_n (lv' := [(3, .int 0), (0, .ref q), (1, .int (nI f)), (2, .int (nI nn))]) hx hb dX2_readsDuchy_95 rfl hl (by decide) rfl (fun ls hl => ?_)
    refine lv_aload_n hx hb dX2_readsDuchy_96 rfl (lv_at hl 1 rfl) ?_
    refine lv_dup hx hb dX2_readsDuchy_97 rfl ?_
    refine mg10 hx hb hts hown hK hu.1 dX2_readsDuchy_98 ?_
    refine top_i (y := nI 0) rfl ?_
    refine lv_iload_n hx hb dX2_readsDuchy_101 rfl (lv_at hl 0 rfl) ?_
    refine lv_if_eq (tgt := 109) hx hb dX2_readsDuchy_102 (by decide) (fun c0 => ?_) (fun c0 => absurd (by decide) c0)
    refine lv_iconst (v := 0) hx hb dX2_readsDuchy_109 (by decide) ?_
    refine lv_iadd hx hb dX2_readsDuchy_110 ?_
    refine top_i (y := nI 0) (Int32.add_zero _) ?_
    refine mp10 hx hb hts hown hK hu dX2_readsDuchy_111 (fun H locs hu => ?_)
    refine lv_iload_n hx hb dX2_readsDuchy_114 rfl (lv_at hl 0 rfl) ?_
    refine lv_if_eq (tgt := 131) hx hb dX2_readsDuchy_115 (by decide) (fun c0 => ?_) (fun c0 => absurd (by decide) c0)
    refine lv_iconst (v := 0) hx hb dX2_readsDuchy_131 (by decide) ?_
    refine lv_istore_n (lv' := [(3, .int 0), (0, .ref q), (1, .int (nI f)), (2, .int (nI nn))]) hx hb dX2_readsDuchy_132 rfl hl (by decide) rfl (fun ls hl => ?_)
    refine lv_iload_n hx hb dX2_readsDuchy_133 rfl (lv_at hl 0 rfl) ?_
    refine lv_if_eq (tgt := 162) hx hb dX2_readsDuchy_134 (by decide) (fun c0 => ?_) (fun c0 => absurd (by decide) c0)
    refine lv_iload_n hx hb dX2_readsDuchy_162 rfl (lv_at hl 0 rfl) ?_
    exact rU_z hx hb hr hlk hu dX2_readsDuchy_163 (Nat.le_of_ble_eq_true rfl) (Nat.le_of_ble_eq_true rfl) (by rw [prs_0 c1]; rfl) (⟨_, rfl, rfl, mPq_no (mPr_at (mPr_sv (mPr_at (mPr_0 τ r) 0) (-9)) 0) (prs_0 c1)⟩)
  · refine lv_iconst (v := 1) hx hb dX2_readsDuchy_26 (by decide) ?_
    refine lv_goto (tgt := 31) hx hb dX2_readsDuchy_27 (by decide) ?_
    refine lv_istore_n (lv' := [(3, .int 1), (0, .ref q), (1, .int (nI f)), (2, .int (nI nn))]) hx hb dX2_readsDuchy_31 rfl hl (by decide) rfl (fun ls hl => ?_)
    refine lv_aload_n hx hb dX2_readsDuchy_32 rfl (lv_at hl 1 rfl) ?_
    refine lv_dup hx hb dX2_readsDuchy_33 rfl ?_
    refine mg10 hx hb hts hown hK hu.1 dX2_readsDuchy_34 ?_
    refine top_i (y := nI 0) rfl ?_
    refine lv_iload_n hx hb dX2_readsDuchy_37 rfl (lv_at hl 0 rfl) ?_
    refine lv_if_eq (tgt := 45) hx hb dX2_readsDuchy_38 (by decide) (fun c0 => absurd c0 (by decide)) (fun c0 => ?_)
    refine lv_iconst (v := 1) hx hb dX2_readsDuchy_41 (by decide) ?_
    refine lv_goto (tgt := 46) hx hb dX2_readsDuchy_42 (by decide) ?_
    refine lv_iadd hx hb dX2_readsDuchy_46 ?_
    refine top_i (y := nI 1) (nI_1 _) ?_
    refine mp10 hx hb hts hown hK hu dX2_readsDuchy_47 (fun H locs hu => ?_)
    refine lv_aload_n hx hb dX2_readsDuchy_50 rfl (lv_at hl 1 rfl) ?_
    refine lv_iload_n hx hb dX2_readsDuchy_51 rfl (lv_at hl 0 rfl) ?_
    refine lv_if_eq (tgt := 67) hx hb dX2_readsDuchy_52 (by decide) (fun c0 => absurd c0 (by decide)) (fun c0 => ?_)
    refine lv_aload_n hx hb dX2_readsDuchy_55 rfl (lv_at hl 1 rfl) ?_
    refine lv_iload_n hx hb dX2_readsDuchy_56 rfl (lv_at hl 2 rfl) ?_
    refine lv_iload_n hx hb dX2_readsDuchy_57 rfl (lv_at hl 3 rfl) ?_
    refine lv_iconst (v := 0) hx hb dX2_readsDuchy_58 (by decide) ?_
    refine lv_bipush (v := 9) hx hb dX2_readsDuchy_59 (by decide) ?_
    refine callU_V (rest := [.ref q]) hx hb hml hown hts KM_st hK hA hAN hZ (cM_figure l D d H00 q Aq (put2 (put2 (put2 (put2 τ 10 0 (nI 0)) 12 0 (nI 0)) 13 0 (nI 0)) 10 0 (nI 1)) f nn 1 r 0 9 (show (put2 (put2 (put2 (put2 τ 10 0 (nI 0)) 12 0 (nI 0)) 13 0 (nI 0)) 10 0 (nI 1)) 10 0 = nI 1 from rfl) (fun j hj => by rw [show (put2 (put2 (put2 (put2 τ 10 0 (nI 0)) 12 0 (nI 0)) 13 0 (nI 0)) 10 0 (nI 1)) 26 = τ 26 from ((mPr_at (mPr_0 τ r) 1)).1 26 (by omega)]; exact htx j hj) hf (by omega)) (wX2_figure hts ⟨Nat.le_of_ble_eq_true rfl, Nat.le_of_ble_eq_true rfl⟩) (m_recv hK hu.1) hu rfl hl.1 rfl (Nat.le_of_ble_eq_true rfl) dX2_readsDuchy_61 ⟨Nat.le_of_ble_eq_true rfl, Nat.le_of_ble_eq_true rfl⟩ (fun r ws H locs hpo hu => ?_)
    obtain ⟨rfl, rfl⟩ := hpo
    show W _ _ _ _ _ _ _ _ _ _ _ _ _ _ _ (F0 _ 64 _ [.int (if dig r nn 1 0 9 = false then (-9) else tok r nn 1 - 48), .ref q])
    rcases hd1 : dig r nn 1 0 9 with _ | _
    · rw [hd1, if_pos rfl] at hu
      refine top_i (y := (-9)) (by first | rw [if_pos rfl] | rw [hd1, if_pos rfl]) ?_
      refine lv_goto (tgt := 69) hx hb dX2_readsDuchy_64 (by decide) ?_
      refine mp11 hx hb hts hown hK hu dX2_readsDuchy_69 (fun H locs hu => ?_)
      refine lv_aload_n hx hb dX2_readsDuchy_72 rfl (lv_at hl 1 rfl) ?_
      refine mg11 hx hb hts hown hK hu.1 dX2_readsDuchy_73 ?_
      refine top_i (y := (-9)) rfl ?_
      refine lv_if_lt (tgt := 94) hx hb dX2_readsDuchy_76 (by decide) (fun c0 => ?_) (fun c0 => absurd (by decide) c0)
      refine lv_iconst (v := 0) hx hb dX2_readsDuchy_94 (by decide) ?_
      refine lv_istore_n (lv' := [(3, .int 0), (0, .ref q), (1, .int (nI f)), (2, .int (nI nn))]) hx hb dX2_readsDuchy_95 rfl hl (by decide) rfl (fun ls hl => ?_)
      refine lv_aload_n hx hb dX2_readsDuchy_96 rfl (lv_at hl 1 rfl) ?_
      refine lv_dup hx hb dX2_readsDuchy_97 rfl ?_
      refine mg10 hx hb hts hown hK hu.1 dX2_readsDuchy_98 ?_
      refine top_i (y := nI 1) rfl ?_
      refine lv_iload_n hx hb dX2_readsDuchy_101 rfl (lv_at hl 0 rfl) ?_
      refine lv_if_eq (tgt := 109) hx hb dX2_readsDuchy_102 (by decide) (fun c0 => ?_) (fun c0 => absurd (by decide) c0)
      refine lv_iconst (v := 0) hx hb dX2_readsDuchy_109 (by decide) ?_
      refine lv_iadd hx hb dX2_readsDuchy_110 ?_
      refine top_i (y := nI 1) (Int32.add_zero _) ?_
      refine mp10 hx hb hts hown hK hu dX2_readsDuchy_111 (fun H locs hu => ?_)
      refine lv_iload_n hx hb dX2_readsDuchy_114 rfl (lv_at hl 0 rfl) ?_
      refine lv_if_eq (tgt := 131) hx hb dX2_readsDuchy_115 (by decide) (fun c0 => ?_) (fun c0 => absurd (by decide) c0)
      refine lv_iconst (v := 0) hx hb dX2_readsDuchy_131 (by decide) ?_
      refine lv_istore_n (lv' := [(3, .int 0), (0, .ref q), (1, .int (nI f)), (2, .int (nI nn))]) hx hb dX2_readsDuchy_132 rfl hl (by decide) rfl (fun ls hl => ?_)
      refine lv_iload_n hx hb dX2_readsDuchy_133 rfl (lv_at hl 0 rfl) ?_
      refine lv_if_eq (tgt := 162) hx hb dX2_readsDuchy_134 (by decide) (fun c0 => ?_) (fun c0 => absurd (by decide) c0)
      refine lv_iload_n hx hb dX2_readsDuchy_162 rfl (lv_at hl 0 rfl) ?_
      exact rU_z hx hb hr hlk hu dX2_readsDuchy_163 (Nat.le_of_ble_eq_true rfl) (Nat.le_of_ble_eq_true rfl) (by rw [prs_1 c1 hd1]; rfl) (⟨_, rfl, rfl, mPq_no (mPr_at (mPr_sv (mPr_at (mPr_at (mPr_0 τ r) 1) 1) (-9)) 1) (prs_1 c1 hd1)⟩)
    · rw [hd1, if_neg (by decide)] at hu
      obtain ⟨v1, ev1, lv1, hv1⟩ := dig_ix (lo := 0) (hi := 9) (by decide) (by decide) hd1
      refine top_i (y := nI v1) (by first | rw [if_neg (by decide), ev1] | rw [hd1, if_neg (by decide), ev1]) ?_
      have qv1 := dig_lt (lo := 0) (hi := 9) (by decide) hd1
      have rv1 : nI v1 = r 1 - 48 := by rw [← ev1, qv1.2]
      refine lv_goto (tgt := 69) hx hb dX2_readsDuchy_64 (by decide) ?_
      refine mp11 hx hb hts hown hK hu dX2_readsDuchy_69 (fun H locs hu => ?_)
      refine lv_aload_n hx hb dX2_readsDuchy_72 rfl (lv_at hl 1 rfl) ?_
      refine mg11 hx hb hts hown hK hu.1 dX2_readsDuchy_73 ?_
      refine top_i (y := nI v1) rfl ?_
      refine lv_if_lt (tgt := 94) hx hb dX2_readsDuchy_76 (by decide) (fun c0 => absurd c0 (nI_pos (by omega))) (fun c0 => ?_)
      refine lv_aload_n hx hb dX2_readsDuchy_79 rfl (lv_at hl 1 rfl) ?_
      refine lv_iload_n hx hb dX2_readsDuchy_80 rfl (lv_at hl 2 rfl) ?_
      refine lv_iload_n hx hb dX2_readsDuchy_81 rfl (lv_at hl 3 rfl) ?_
      refine callR_V (rest := []) hx hb hml hown hts KM_st hK (cM_codeAt l D d q Aq (put2 (put2 (put2 (put2 (put2 (put2 τ 10 0 (nI 0)) 12 0 (nI 0)) 13 0 (nI 0)) 10 0 (nI 1)) 10 0 (nI 2)) 11 0 (nI v1)) f nn 2 r (show (put2 (put2 (put2 (put2 (put2 (put2 τ 10 0 (nI 0)) 12 0 (nI 0)) 13 0 (nI 0)) 10 0 (nI 1)) 10 0 (nI 2)) 11 0 (nI v1)) 10 0 = nI 2 from rfl) (fun j hj => by rw [show (put2 (put2 (put2 (put2 (put2 (put2 τ 10 0 (nI 0)) 12 0 (nI 0)) 13 0 (nI 0)) 10 0 (nI 1)) 10 0 (nI 2)) 11 0 (nI v1)) 26 = τ 26 from ((mPr_sv (mPr_at (mPr_at (mPr_0 τ r) 1) 2) (nI v1))).1 26 (by omega)]; exact htx j hj) hf (by omega)) (wX2_codeAt hts ⟨Nat.le_of_ble_eq_true rfl, Nat.le_of_ble_eq_true rfl⟩) (m_recv hK hu.1) hu.1 rfl hl.1 rfl (Nat.le_of_ble_eq_true rfl) dX2_readsDuchy_82 ⟨Nat.le_of_ble_eq_true rfl, Nat.le_of_ble_eq_true rfl⟩ ?_
      refine lv_bipush (v := 44) hx hb dX2_readsDuchy_85 (by decide) ?_
      refine lv_icmp_ne (tgt := 94) hx hb dX2_readsDuchy_87 (by decide) (fun c2 => ?_) (fun c2 => ?_)
      · refine lv_iconst (v := 0) hx hb dX2_readsDuchy_94 (by decide) ?_
        refine lv_istore_n (lv' := [(3, .int 0), (0, .ref q), (1, .int (nI f)), (2, .int (nI nn))]) hx hb dX2_readsDuchy_95 rfl hl (by decide) rfl (fun ls hl => ?_)
        refine lv_aload_n hx hb dX2_readsDuchy_96 rfl (lv_at hl 1 rfl) ?_
        refine lv_dup hx hb dX2_readsDuchy_97 rfl ?_
        refine mg10 hx hb hts hown hK hu.1 dX2_readsDuchy_98 ?_
        refine top_i (y := nI 2) rfl ?_
        refine lv_iload_n hx hb dX2_readsDuchy_101 rfl (lv_at hl 0 rfl) ?_
        refine lv_if_eq (tgt := 109) hx hb dX2_readsDuchy_102 (by decide) (fun c0 => ?_) (fun c0 => absurd (by decide) c0)
        refine lv_iconst (v := 0) hx hb dX2_readsDuchy_109 (by decide) ?_
        refine lv_iadd hx hb dX2_readsDuchy_110 ?_
        refine top_i (y := nI 2) (Int32.add_zero _) ?_
        refine mp10 hx hb hts hown hK hu dX2_readsDuchy_111 (fun H locs hu => ?_)
        refine lv_iload_n hx hb dX2_readsDuchy_114 rfl (lv_at hl 0 rfl) ?_
        refine lv_if_eq (tgt := 131) hx hb dX2_readsDuchy_115 (by decide) (fun c0 => ?_) (fun c0 => absurd (by decide) c0)
        refine lv_iconst (v := 0) hx hb dX2_readsDuchy_131 (by decide) ?_
        refine lv_istore_n (lv' := [(3, .int 0), (0, .ref q), (1, .int (nI f)), (2, .int (nI nn))]) hx hb dX2_readsDuchy_132 rfl hl (by decide) rfl (fun ls hl => ?_)
        refine lv_iload_n hx hb dX2_readsDuchy_133 rfl (lv_at hl 0 rfl) ?_
        refine lv_if_eq (tgt := 162) hx hb dX2_readsDuchy_134 (by decide) (fun c0 => ?_) (fun c0 => absurd (by decide) c0)
        refine lv_iload_n hx hb dX2_readsDuchy_162 rfl (lv_at hl 0 rfl) ?_
        exact rU_z hx hb hr hlk hu dX2_readsDuchy_163 (Nat.le_of_ble_eq_true rfl) (Nat.le_of_ble_eq_true rfl) (by rw [prs_2 c1 hd1 c2]; rfl) (⟨_, rfl, rfl, mPq_no (mPr_at (mPr_sv (mPr_at (mPr_at (mPr_0 τ r) 1) 2) (nI v1)) 2) (prs_2 c1 hd1 c2)⟩)
      · refine lv_iconst (v := 1) hx hb dX2_readsDuchy_90 (by decide) ?_
        refine lv_goto (tgt := 95) hx hb dX2_readsDuchy_91 (by decide) ?_
        refine lv_istore_n (lv' := [(3, .int 1), (0, .ref q), (1, .int (nI f)), (2, .int (nI nn))]) hx hb dX2_readsDuchy_95 rfl hl (by decide) rfl (fun ls hl => ?_)
        refine lv_aload_n hx hb dX2_readsDuchy_96 rfl (lv_at hl 1 rfl) ?_
        refine lv_dup hx hb dX2_readsDuchy_97 rfl ?_
        refine mg10 hx hb hts hown hK hu.1 dX2_readsDuchy_98 ?_
        refine top_i (y := nI 2) rfl ?_
        refine lv_iload_n hx hb dX2_readsDuchy_101 rfl (lv_at hl 0 rfl) ?_
        refine lv_if_eq (tgt := 109) hx hb dX2_readsDuchy_102 (by decide) (fun c0 => absurd c0 (by decide)) (fun c0 => ?_)
        refine lv_iconst (v := 1) hx hb dX2_readsDuchy_105 (by decide) ?_
        refine lv_goto (tgt := 110) hx hb dX2_readsDuchy_106 (by decide) ?_
        refine lv_iadd hx hb dX2_readsDuchy_110 ?_
        refine top_i (y := nI 3) (nI_1 _) ?_
        refine mp10 hx hb hts hown hK hu dX2_readsDuchy_111 (fun H locs hu => ?_)
        refine lv_iload_n hx hb dX2_readsDuchy_114 rfl (lv_at hl 0 rfl) ?_
        refine lv_if_eq (tgt := 131) hx hb dX2_readsDuchy_115 (by decide) (fun c0 => absurd c0 (by decide)) (fun c0 => ?_)
        refine lv_aload_n hx hb dX2_readsDuchy_118 rfl (lv_at hl 1 rfl) ?_
        refine lv_iload_n hx hb dX2_readsDuchy_119 rfl (lv_at hl 2 rfl) ?_
        refine lv_iload_n hx hb dX2_readsDuchy_120 rfl (lv_at hl 3 rfl) ?_
        refine callU_V (rest := []) hx hb hml hown hts KM_st hK hA hAN hZ (cM_readsDays l D d H00 q Aq (put2 (put2 (put2 (put2 (put2 (put2 (put2 τ 10 0 (nI 0)) 12 0 (nI 0)) 13 0 (nI 0)) 10 0 (nI 1)) 10 0 (nI 2)) 11 0 (nI v1)) 10 0 (nI 3)) τ f nn r (nI v1) (mPr_at (mPr_sv (mPr_at (mPr_at (mPr_0 τ r) 1) 2) (nI v1)) 3) htx hf hnn) (wX2_readsDays hts ⟨Nat.le_of_ble_eq_true rfl, Nat.le_of_ble_eq_true rfl⟩) (m_recv hK hu.1) hu rfl hl.1 rfl (Nat.le_of_ble_eq_true rfl) dX2_readsDuchy_121 ⟨Nat.le_of_ble_eq_true rfl, Nat.le_of_ble_eq_true rfl⟩ (fun r ws H locs hpo hu => ?_)
        obtain ⟨τ2, rfl, rfl, hp2⟩ := hpo
        show W _ _ _ _ _ _ _ _ _ _ _ _ _ _ _ (F0 _ 124 _ [.int (bI (decide (0 < dcn r nn 6)))])
        refine bz_eq (tgt := 131) hx hb dX2_readsDuchy_124 (by decide) (fun c3 => ?_) (fun c3 => ?_)
        · refine lv_iconst (v := 0) hx hb dX2_readsDuchy_131 (by decide) ?_
          refine lv_istore_n (lv' := [(3, .int 0), (0, .ref q), (1, .int (nI f)), (2, .int (nI nn))]) hx hb dX2_readsDuchy_132 rfl hl (by decide) rfl (fun ls hl => ?_)
          refine lv_iload_n hx hb dX2_readsDuchy_133 rfl (lv_at hl 0 rfl) ?_
          refine lv_if_eq (tgt := 162) hx hb dX2_readsDuchy_134 (by decide) (fun c0 => ?_) (fun c0 => absurd (by decide) c0)
          refine lv_iload_n hx hb dX2_readsDuchy_162 rfl (lv_at hl 0 rfl) ?_
          exact rU_z hx hb hr hlk hu dX2_readsDuchy_163 (Nat.le_of_ble_eq_true rfl) (Nat.le_of_ble_eq_true rfl) (by rw [(prs_3 c1 hd1 c2 c3).2]; rfl) (⟨_, rfl, rfl, mPq_no (by rw [(prs_3 c1 hd1 c2 c3).1] at hp2; exact hp2) (prs_3 c1 hd1 c2 c3).2⟩)
        · refine lv_iconst (v := 1) hx hb dX2_readsDuchy_127 (by decide) ?_
          refine lv_goto (tgt := 132) hx hb dX2_readsDuchy_128 (by decide) ?_
          refine lv_istore_n (lv' := [(3, .int 1), (0, .ref q), (1, .int (nI f)), (2, .int (nI nn))]) hx hb dX2_readsDuchy_132 rfl hl (by decide) rfl (fun ls hl => ?_)
          refine lp_U (σ := Nat × (Nat → Nat → Int32)) (fun n133 zz => zz.1 + n133 = 5 ∧ mPr τ zz.2 r (nI v1) (3 + dcn r nn 6 + 5 * zz.1) (dcn r nn 6) zz.1 ∧ prs r nn = eLp r nn (3 + dcn r nn 6) n133 zz.1 ∧ zz.1 ≤ 4) (fun zz => [(3, .int 1), (0, .ref q), (1, .int (nI f)), (2, .int (nI nn))]) (fun zz => mw d q Aq zz.2) (fun n133 zz hI ih133 H locs ls hu hl => ?_) 5 (0, τ2) (⟨by omega, by simp only [Nat.mul_zero, Nat.add_zero]; exact hp2, by simp only []; exact prs_4 c1 hd1 c2 c3, by omega⟩) (hu) hl
          obtain ⟨ne, τ1⟩ := zz
          have hI : ne + n133 = 5 ∧ mPr τ τ1 r (nI v1) (3 + dcn r nn 6 + 5 * ne) (dcn r nn 6) ne ∧ prs r nn = eLp r nn (3 + dcn r nn 6) n133 ne ∧ ne ≤ 4 := hI
          obtain ⟨hi, hp, hpe, hne⟩ := hI
          have hl : lv_has ls 4 [(3, .int 1), (0, .ref q), (1, .int (nI f)), (2, .int (nI nn))] := hl
          have hu : uW D A s.heap H locs (mw d q Aq τ1) := hu
          have hn1 : eLp r nn (3 + dcn r nn 6) n133 ne = eLp r nn (3 + dcn r nn 6) ((n133 - 1) + 1) ne := by rw [show (n133 - 1) + 1 = n133 by omega]
          refine lv_iload_n hx hb dX2_readsDuchy_133 rfl (lv_at hl 0 rfl) ?_
          refine lv_if_eq (tgt := 162) hx hb dX2_readsDuchy_134 (by decide) (fun c0 => absurd c0 (by decide)) (fun c0 => ?_)
          refine lv_aload_n hx hb dX2_readsDuchy_137 rfl (lv_at hl 1 rfl) ?_
          refine mg13 hx hb hts hown hK hu.1 dX2_readsDuchy_138 ?_
          refine top_i (y := nI ne) (hp.2.2.2.2.1) ?_
          refine nz_eq (tgt := 152) hx hb dX2_readsDuchy_141 (by decide) (by omega) (fun c4 => ?_) (fun c4 => ?_)
          · refine lv_aload_n hx hb dX2_readsDuchy_152 rfl (lv_at hl 1 rfl) ?_
            refine lv_iload_n hx hb dX2_readsDuchy_153 rfl (lv_at hl 2 rfl) ?_
            refine lv_iload_n hx hb dX2_readsDuchy_154 rfl (lv_at hl 3 rfl) ?_
            refine callU_V (rest := []) hx hb hml hown hts KM_st hK hA hAN hZ (cM_readsEater l D d H00 q Aq τ1 τ f nn r (nI v1) (3 + dcn r nn 6 + 5 * ne) (dcn r nn 6) ne hp rfl (by omega) hdc6 htx hf hnn) (wX2_readsEater hts ⟨Nat.le_of_ble_eq_true rfl, Nat.le_of_ble_eq_true rfl⟩) (m_recv hK hu.1) hu rfl hl.1 rfl (Nat.le_of_ble_eq_true rfl) dX2_readsDuchy_155 ⟨Nat.le_of_ble_eq_true rfl, Nat.le_of_ble_eq_true rfl⟩ (fun r ws H locs hpo hu => ?_)
            obtain ⟨τ3, rfl, rfl, hp3⟩ := hpo
            show W _ _ _ _ _ _ _ _ _ _ _ _ _ _ _ (F0 _ 158 _ [.int (bI (decide (exE r nn (3 + dcn r nn 6 + 5 * ne) ne = 5)))])
            refine lv_istore_n (lv' := [(3, .int (bI (decide (exE r nn (3 + dcn r nn 6 + 5 * ne) ne = 5)))), (0, .ref q), (1, .int (nI f)), (2, .int (nI nn))]) hx hb dX2_readsDuchy_158 rfl hl (by decide) rfl (fun ls hl => ?_)
            rcases hx5 : decide (exE r nn (3 + dcn r nn 6 + 5 * ne) ne = 5) with _ | _
            · rw [hx5] at hl
              have hl : lv_has ls 4 [(3, .int 0), (0, .ref q), (1, .int (nI f)), (2, .int (nI nn))] := hl
              have hx6 := of_decide_eq_false hx5
              refine lv_goto (tgt := 133) hx hb dX2_readsDuchy_159 (by decide) ?_
              refine lv_iload_n hx hb dX2_readsDuchy_133 rfl (lv_at hl 0 rfl) ?_
              refine lv_if_eq (tgt := 162) hx hb dX2_readsDuchy_134 (by decide) (fun c0 => ?_) (fun c0 => absurd (by decide) c0)
              refine lv_iload_n hx hb dX2_readsDuchy_162 rfl (lv_at hl 0 rfl) ?_
              exact rU_z hx hb hr hlk hu dX2_readsDuchy_163 (Nat.le_of_ble_eq_true rfl) (Nat.le_of_ble_eq_true rfl) (by rw [(show prs r nn = _ from by rw [hpe, hn1, eLp_no (Or.inl c4) hx6])]; rfl) (⟨_, rfl, rfl, mPq_no (by rw [if_neg hx6] at hp3; exact hp3) (show prs r nn = _ from by rw [hpe, hn1, eLp_no (Or.inl c4) hx6])⟩)
            · rw [hx5] at hl
              have hl : lv_has ls 4 [(3, .int 1), (0, .ref q), (1, .int (nI f)), (2, .int (nI nn))] := hl
              have hx6 := of_decide_eq_true hx5
              refine lv_goto (tgt := 133) hx hb dX2_readsDuchy_159 (by decide) ?_
              have hgo := eLp_go (f := n133 - 1) (Or.inl c4) hx6
              exact ih133 (n133 - 1) (ne + 1, τ3) _ _ ls (by omega) (⟨by omega, by rw [hx6, if_pos rfl] at hp3; simp only [Nat.mul_add, Nat.mul_one, ← Nat.add_assoc]; exact hp3, hpe.trans (hn1.trans hgo.1), by omega⟩) hu (hl)
          · refine lv_aload_n hx hb dX2_readsDuchy_144 rfl (lv_at hl 1 rfl) ?_
            refine mg10 hx hb hts hown hK hu.1 dX2_readsDuchy_145 ?_
            refine top_i (y := nI (3 + dcn r nn 6 + 5 * ne)) (hp.2.1) ?_
            refine lv_iload_n hx hb dX2_readsDuchy_148 rfl (lv_at hl 3 rfl) ?_
            refine nc_ge (tgt := 162) hx hb dX2_readsDuchy_149 (by decide) (by omega) (by omega) (fun c5 => ?_) (fun c5 => ?_)
            · refine lv_iload_n hx hb dX2_readsDuchy_162 rfl (lv_at hl 0 rfl) ?_
              exact rU_z hx hb hr hlk hu dX2_readsDuchy_163 (Nat.le_of_ble_eq_true rfl) (Nat.le_of_ble_eq_true rfl) (by rw [hpe, hn1, eLp_yes c4 c5]; rfl) (⟨_, rfl, rfl, hp.1, by rw [hpe, hn1, eLp_yes c4 c5]; exact hp.2.1, fun _ => by rw [hpe, hn1, eLp_yes c4 c5, ← rv1]; exact hp⟩)
            · refine lv_aload_n hx hb dX2_readsDuchy_152 rfl (lv_at hl 1 rfl) ?_
              refine lv_iload_n hx hb dX2_readsDuchy_153 rfl (lv_at hl 2 rfl) ?_
              refine lv_iload_n hx hb dX2_readsDuchy_154 rfl (lv_at hl 3 rfl) ?_
              refine callU_V (rest := []) hx hb hml hown hts KM_st hK hA hAN hZ (cM_readsEater l D d H00 q Aq τ1 τ f nn r (nI v1) (3 + dcn r nn 6 + 5 * ne) (dcn r nn 6) ne hp rfl (by omega) hdc6 htx hf hnn) (wX2_readsEater hts ⟨Nat.le_of_ble_eq_true rfl, Nat.le_of_ble_eq_true rfl⟩) (m_recv hK hu.1) hu rfl hl.1 rfl (Nat.le_of_ble_eq_true rfl) dX2_readsDuchy_155 ⟨Nat.le_of_ble_eq_true rfl, Nat.le_of_ble_eq_true rfl⟩ (fun r ws H locs hpo hu => ?_)
              obtain ⟨τ3, rfl, rfl, hp3⟩ := hpo
              show W _ _ _ _ _ _ _ _ _ _ _ _ _ _ _ (F0 _ 158 _ [.int (bI (decide (exE r nn (3 + dcn r nn 6 + 5 * ne) ne = 5)))])
              refine lv_istore_n (lv' := [(3, .int (bI (decide (exE r nn (3 + dcn r nn 6 + 5 * ne) ne = 5)))), (0, .ref q), (1, .int (nI f)), (2, .int (nI nn))]) hx hb dX2_readsDuchy_158 rfl hl (by decide) rfl (fun ls hl => ?_)
              rcases hx5 : decide (exE r nn (3 + dcn r nn 6 + 5 * ne) ne = 5) with _ | _
              · rw [hx5] at hl
                have hl : lv_has ls 4 [(3, .int 0), (0, .ref q), (1, .int (nI f)), (2, .int (nI nn))] := hl
                have hx6 := of_decide_eq_false hx5
                refine lv_goto (tgt := 133) hx hb dX2_readsDuchy_159 (by decide) ?_
                refine lv_iload_n hx hb dX2_readsDuchy_133 rfl (lv_at hl 0 rfl) ?_
                refine lv_if_eq (tgt := 162) hx hb dX2_readsDuchy_134 (by decide) (fun c0 => ?_) (fun c0 => absurd (by decide) c0)
                refine lv_iload_n hx hb dX2_readsDuchy_162 rfl (lv_at hl 0 rfl) ?_
                exact rU_z hx hb hr hlk hu dX2_readsDuchy_163 (Nat.le_of_ble_eq_true rfl) (Nat.le_of_ble_eq_true rfl) (by rw [(show prs r nn = _ from by rw [hpe, hn1, eLp_no (Or.inr c5) hx6])]; rfl) (⟨_, rfl, rfl, mPq_no (by rw [if_neg hx6] at hp3; exact hp3) (show prs r nn = _ from by rw [hpe, hn1, eLp_no (Or.inr c5) hx6])⟩)
              · rw [hx5] at hl
                have hl : lv_has ls 4 [(3, .int 1), (0, .ref q), (1, .int (nI f)), (2, .int (nI nn))] := hl
                have hx6 := of_decide_eq_true hx5
                refine lv_goto (tgt := 133) hx hb dX2_readsDuchy_159 (by decide) ?_
                have hgo := eLp_go (f := n133 - 1) (Or.inr c5) hx6
                exact ih133 (n133 - 1) (ne + 1, τ3) _ _ ls (by omega) (⟨by omega, by rw [hx6, if_pos rfl] at hp3; simp only [Nat.mul_add, Nat.mul_one, ← Nat.add_assoc]; exact hp3, hpe.trans (hn1.trans hgo.1), by omega⟩) hu (hl)
