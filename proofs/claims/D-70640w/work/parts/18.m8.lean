/-! the Model: a duchy comes -/
set_option maxHeartbeats 4000000 in
set_option maxRecDepth 100000 in
theorem cM_cellsBarred (l : Launch) (D : va_G) (d : Nat → ClassId) (H00 : Heap) (q : Nat) (Aq : Nat → Nat) (τ : Nat → Nat → Int32) (σ : ASt) (jk jx : Nat) (i n : Int32) (hm : mRep σ τ) (hk : jk < 4) (hjx : jx < 3) : cU l (KM D d) H00 D yX2_cellsBarred cX2_cellsBarred 6 (some .int) (rc 1 0 0) [.ref q, .int (nI jk), .int (nI jx), .int i, .long n.toInt64] (mw d q Aq τ) (fun r0 ws => r0 = some (.int (if bar σ jk jx i n = 0 then 0 else (-10) - nI (bar σ jk jx i n))) ∧ ws = mw d q Aq (if bar σ jk jx i n = 0 then τ else put2 τ 0 0 (nI (bar σ jk jx i n)))) := by
  refine cU_start RX2 rfl (by decide) (Nat.le_of_ble_eq_true rfl) ?_
  intro p e s m below meth c A hx hb hml hown hts hr hlk hnm hK hA hAN hZ hu ls hl
  have hl : lv_has ls 6 [(0, .ref q), (1, .int (nI jk)), (2, .int (nI jx)), (3, .int i), (4, .long n.toInt64)] := hl
  have hok := hm.ok
  have hD6 : aD σ ≤ 6 := hok.1
  have hE4 : aE σ ≤ 4 := hok.2.1
  have h64 := pow6 hD6
  have hd := hm.day
  have he := hm.eat
  rcases mSh_at hm.sh (k := jk) (by omega) with ⟨hs, h24⟩ | ⟨ct, hs, h24, h25, h26⟩
  · skip
    refine lv_aload_n hx hb dX2_cellsBarred_0 rfl (lv_at hl 0 rfl) ?_
    refine mg24 hx hb hts hown hK hu.1 dX2_cellsBarred_1 ?_
    refine lv_iload_n hx hb dX2_cellsBarred_4 rfl (lv_at hl 1 rfl) ?_
    refine ma24 hx hb hK hu.1 (hk) dX2_cellsBarred_5 ?_
    refine top_i (y := (-1)) (h24) ?_
    refine lv_if_lt (tgt := 25) hx hb dX2_cellsBarred_6 (by decide) (fun c0 => ?_) (fun c0 => absurd (by decide) c0)
    refine lv_aload_n hx hb dX2_cellsBarred_25 rfl (lv_at hl 0 rfl) ?_
    refine mg24 hx hb hts hown hK hu.1 dX2_cellsBarred_26 ?_
    refine lv_iload_n hx hb dX2_cellsBarred_29 rfl (lv_at hl 1 rfl) ?_
    refine ma24 hx hb hK hu.1 (hk) dX2_cellsBarred_30 ?_
    refine top_i (y := (-1)) (h24) ?_
    refine lv_if_ge (tgt := 40) hx hb dX2_cellsBarred_31 (by decide) (fun c0 => absurd c0 (by decide)) (fun c0 => ?_)
    refine lv_aload_n hx hb dX2_cellsBarred_34 rfl (lv_at hl 0 rfl) ?_
    refine lv_iconst (v := 1) hx hb dX2_cellsBarred_35 (by decide) ?_
    refine callU_V (rest := []) hx hb hml hown hts KM_st hK hA hAN hZ (cM_failed l D d H00 q Aq τ 1) (wX2_failed hts ⟨Nat.le_of_ble_eq_true rfl, Nat.le_of_ble_eq_true rfl⟩) (m_recv hK hu.1) hu rfl hl.1 rfl (Nat.le_of_ble_eq_true rfl) dX2_cellsBarred_36 ⟨Nat.le_of_ble_eq_true rfl, Nat.le_of_ble_eq_true rfl⟩ (fun r ws H locs hpo hu => ?_)
    obtain ⟨rfl, rfl⟩ := hpo
    show W _ _ _ _ _ _ _ _ _ _ _ _ _ _ _ (F0 _ 39 _ [.int ((-10) - 1)])
    exact rU_i hx hb hr hlk hu dX2_cellsBarred_39 (Nat.le_of_ble_eq_true rfl) (Nat.le_of_ble_eq_true rfl) (by rw [show bar σ jk jx i n = 1 from by rw [bar, hs]]; exact ⟨rfl, rfl⟩)
  · have hc := hok.2.2.2.2.2.2 jk ct hs
    refine lv_aload_n hx hb dX2_cellsBarred_0 rfl (lv_at hl 0 rfl) ?_
    refine mg24 hx hb hts hown hK hu.1 dX2_cellsBarred_1 ?_
    refine lv_iload_n hx hb dX2_cellsBarred_4 rfl (lv_at hl 1 rfl) ?_
    refine ma24 hx hb hK hu.1 (hk) dX2_cellsBarred_5 ?_
    refine top_i (y := nI ct.2.1) (h24) ?_
    refine lv_if_lt (tgt := 25) hx hb dX2_cellsBarred_6 (by decide) (fun c0 => absurd c0 (nI_pos (by omega))) (fun c0 => ?_)
    refine lv_aload_n hx hb dX2_cellsBarred_9 rfl (lv_at hl 0 rfl) ?_
    refine mg25 hx hb hts hown hK hu.1 dX2_cellsBarred_10 ?_
    refine lv_iload_n hx hb dX2_cellsBarred_13 rfl (lv_at hl 1 rfl) ?_
    refine ma25 hx hb hK hu.1 (hk) dX2_cellsBarred_14 ?_
    refine top_i (y := nI ct.1) (h25) ?_
    refine lv_iload_n hx hb dX2_cellsBarred_15 rfl (lv_at hl 2 rfl) ?_
    refine nc_eq (tgt := 25) hx hb dX2_cellsBarred_16 (by decide) (by omega) (by omega) (fun c1 => ?_) (fun c1 => ?_)
    · refine lv_aload_n hx hb dX2_cellsBarred_25 rfl (lv_at hl 0 rfl) ?_
      refine mg24 hx hb hts hown hK hu.1 dX2_cellsBarred_26 ?_
      refine lv_iload_n hx hb dX2_cellsBarred_29 rfl (lv_at hl 1 rfl) ?_
      refine ma24 hx hb hK hu.1 (hk) dX2_cellsBarred_30 ?_
      refine top_i (y := nI ct.2.1) (h24) ?_
      refine lv_if_ge (tgt := 40) hx hb dX2_cellsBarred_31 (by decide) (fun c0 => ?_) (fun c0 => absurd (nI_pos' (by omega)) c0)
      refine lv_lload hx hb dX2_cellsBarred_40 (lv_at hl 4 rfl) ?_
      refine lv_lconst (v := 0) hx hb dX2_cellsBarred_42 (by decide) ?_
      refine lc_ge (tgt := 53) hx hb dX2_cellsBarred_43 dX2_cellsBarred_44 (by decide) (fun c2 => ?_) (fun c2 => ?_)
      · refine lv_iload_n hx hb dX2_cellsBarred_53 rfl (lv_at hl 3 rfl) ?_
        refine lv_lload hx hb dX2_cellsBarred_54 (lv_at hl 4 rfl) ?_
        refine lv_aload_n hx hb dX2_cellsBarred_56 rfl (lv_at hl 0 rfl) ?_
        refine mg24 hx hb hts hown hK hu.1 dX2_cellsBarred_57 ?_
        refine lv_iload_n hx hb dX2_cellsBarred_60 rfl (lv_at hl 1 rfl) ?_
        refine ma24 hx hb hK hu.1 (hk) dX2_cellsBarred_61 ?_
        refine top_i (y := nI ct.2.1) (h24) ?_
        refine callR_S (rest := []) hx hb hml hown hts KM_st hK (cM_isBeyond l D d i n.toInt64 (nI ct.2.1)) (wX2_isBeyond hts ⟨Nat.le_of_ble_eq_true rfl, Nat.le_of_ble_eq_true rfl⟩) trivial rfl hl.1 rfl (Nat.le_of_ble_eq_true rfl) dX2_cellsBarred_62 ⟨Nat.le_of_ble_eq_true rfl, Nat.le_of_ble_eq_true rfl⟩ ?_
        refine bz_eq (tgt := 76) hx hb dX2_cellsBarred_65 (by decide) (fun c3 => ?_) (fun c3 => ?_)
        · refine lv_iconst (v := 0) hx hb dX2_cellsBarred_76 (by decide) ?_
          exact rU_i hx hb hr hlk hu dX2_cellsBarred_77 (Nat.le_of_ble_eq_true rfl) (Nat.le_of_ble_eq_true rfl) (by rw [show bar σ jk jx i n = 0 from by rw [bar, hs]; simp only []; rw [if_neg (fun hh => hh c1), if_neg (i64_nlt c2), if_neg (bf_nt c3)]]; exact ⟨rfl, rfl⟩)
        · refine lv_aload_n hx hb dX2_cellsBarred_68 rfl (lv_at hl 0 rfl) ?_
          refine lv_iconst (v := 3) hx hb dX2_cellsBarred_69 (by decide) ?_
          refine callU_V (rest := []) hx hb hml hown hts KM_st hK hA hAN hZ (cM_failed l D d H00 q Aq τ 3) (wX2_failed hts ⟨Nat.le_of_ble_eq_true rfl, Nat.le_of_ble_eq_true rfl⟩) (m_recv hK hu.1) hu rfl hl.1 rfl (Nat.le_of_ble_eq_true rfl) dX2_cellsBarred_70 ⟨Nat.le_of_ble_eq_true rfl, Nat.le_of_ble_eq_true rfl⟩ (fun r ws H locs hpo hu => ?_)
          obtain ⟨rfl, rfl⟩ := hpo
          show W _ _ _ _ _ _ _ _ _ _ _ _ _ _ _ (F0 _ 73 _ [.int ((-10) - 3)])
          refine lv_goto (tgt := 77) hx hb dX2_cellsBarred_73 (by decide) ?_
          exact rU_i hx hb hr hlk hu dX2_cellsBarred_77 (Nat.le_of_ble_eq_true rfl) (Nat.le_of_ble_eq_true rfl) (by rw [show bar σ jk jx i n = 3 from by rw [bar, hs]; simp only []; rw [if_neg (fun hh => hh c1), if_neg (i64_nlt c2), if_pos c3]]; exact ⟨rfl, rfl⟩)
      · refine lv_aload_n hx hb dX2_cellsBarred_47 rfl (lv_at hl 0 rfl) ?_
        refine lv_iconst (v := 4) hx hb dX2_cellsBarred_48 (by decide) ?_
        refine callU_V (rest := []) hx hb hml hown hts KM_st hK hA hAN hZ (cM_failed l D d H00 q Aq τ 4) (wX2_failed hts ⟨Nat.le_of_ble_eq_true rfl, Nat.le_of_ble_eq_true rfl⟩) (m_recv hK hu.1) hu rfl hl.1 rfl (Nat.le_of_ble_eq_true rfl) dX2_cellsBarred_49 ⟨Nat.le_of_ble_eq_true rfl, Nat.le_of_ble_eq_true rfl⟩ (fun r ws H locs hpo hu => ?_)
        obtain ⟨rfl, rfl⟩ := hpo
        show W _ _ _ _ _ _ _ _ _ _ _ _ _ _ _ (F0 _ 52 _ [.int ((-10) - 4)])
        exact rU_i hx hb hr hlk hu dX2_cellsBarred_52 (Nat.le_of_ble_eq_true rfl) (Nat.le_of_ble_eq_true rfl) (by rw [show bar σ jk jx i n = 4 from by rw [bar, hs]; simp only []; rw [if_neg (fun hh => hh c1), if_pos (i64_nle c2)]]; exact ⟨rfl, rfl⟩)
    · refine lv_aload_n hx hb dX2_cellsBarred_19 rfl (lv_at hl 0 rfl) ?_
      refine lv_iconst (v := 2) hx hb dX2_cellsBarred_20 (by decide) ?_
      refine callU_V (rest := []) hx hb hml hown hts KM_st hK hA hAN hZ (cM_failed l D d H00 q Aq τ 2) (wX2_failed hts ⟨Nat.le_of_ble_eq_true rfl, Nat.le_of_ble_eq_true rfl⟩) (m_recv hK hu.1) hu rfl hl.1 rfl (Nat.le_of_ble_eq_true rfl) dX2_cellsBarred_21 ⟨Nat.le_of_ble_eq_true rfl, Nat.le_of_ble_eq_true rfl⟩ (fun r ws H locs hpo hu => ?_)
      obtain ⟨rfl, rfl⟩ := hpo
      show W _ _ _ _ _ _ _ _ _ _ _ _ _ _ _ (F0 _ 24 _ [.int ((-10) - 2)])
      exact rU_i hx hb hr hlk hu dX2_cellsBarred_24 (Nat.le_of_ble_eq_true rfl) (Nat.le_of_ble_eq_true rfl) (by rw [show bar σ jk jx i n = 2 from by rw [bar, hs]; simp only []; rw [if_pos c1]]; exact ⟨rfl, rfl⟩)

set_option maxHeartbeats 4000000 in
set_option maxRecDepth 100000 in
theorem cM_duchy (l : Launch) (D : va_G) (d : Nat → ClassId) (H00 : Heap) (q : Nat) (Aq : Nat → Nat) (τ : Nat → Nat → Int32) (σ : ASt) (k x i n : Int32) (hm : mRep σ τ)  : cU l (KM D d) H00 D yX2_duchy cX2_duchy 7 (some .int) (rc 4 0 0) [.ref q, .int k, .int x, .int i, .int n] (mw d q Aq τ) (mPost d q Aq (some (.int (f_duchy σ k x i n).1)) (f_duchy σ k x i n).2) := by
  refine cU_start RX2 rfl (by decide) (Nat.le_of_ble_eq_true rfl) ?_
  intro p e s m below meth c A hx hb hml hown hts hr hlk hnm hK hA hAN hZ hu ls hl
  have hl : lv_has ls 7 [(0, .ref q), (1, .int k), (2, .int x), (3, .int i), (4, .int n)] := hl
  have hok := hm.ok
  have hD6 : aD σ ≤ 6 := hok.1
  have hE4 : aE σ ≤ 4 := hok.2.1
  have h64 := pow6 hD6
  have hd := hm.day
  have he := hm.eat
  refine lv_iload_n hx hb dX2_duchy_0 rfl (lv_at hl 1 rfl) ?_
  refine callR_S (rest := []) hx hb hml hown hts KM_st hK (cM_noSheet l D d k) (wX2_noSheet hts ⟨Nat.le_of_ble_eq_true rfl, Nat.le_of_ble_eq_true rfl⟩) trivial rfl hl.1 rfl (Nat.le_of_ble_eq_true rfl) dX2_duchy_1 ⟨Nat.le_of_ble_eq_true rfl, Nat.le_of_ble_eq_true rfl⟩ ?_
  refine bzn_eq (tgt := 13) hx hb dX2_duchy_4 (by decide) (fun c1 => ?_) (fun c1 => ?_)
  · obtain ⟨jk, hjk, ej⟩ := pIn_k (k := 3) (by decide) (by decide) c1
    subst ej
    have ejk : ix (nI jk) = jk := nI_clamp (by omega)
    refine lv_iload_n hx hb dX2_duchy_13 rfl (lv_at hl 2 rfl) ?_
    refine lv_i2l (v := x.toInt64) hx hb dX2_duchy_14 rfl ?_
    refine lv_lconst (v := 0) hx hb dX2_duchy_15 (by decide) ?_
    refine lv_ldc2 (v := 2) hx hb hown (hts _ q1007) dX2_duchy_16 ?_
    refine callR_S (rest := []) hx hb hml hown hts KM_st hK (cM_in l D d x.toInt64 0 2) (wX2_in hts ⟨Nat.le_of_ble_eq_true rfl, Nat.le_of_ble_eq_true rfl⟩) trivial rfl hl.1 rfl (Nat.le_of_ble_eq_true rfl) dX2_duchy_19 ⟨Nat.le_of_ble_eq_true rfl, Nat.le_of_ble_eq_true rfl⟩ ?_
    refine bz_ne (tgt := 32) hx hb dX2_duchy_22 (by decide) (fun c2 => ?_) (fun c2 => ?_)
    · obtain ⟨jx, hjx, ej⟩ := pIn_k (k := 2) (by decide) (by decide) c2
      subst ej
      have ejx : ix (nI jx) = jx := nI_clamp (by omega)
      refine lv_aload_n hx hb dX2_duchy_32 rfl (lv_at hl 0 rfl) ?_
      refine lv_iload_n hx hb dX2_duchy_33 rfl (lv_at hl 1 rfl) ?_
      refine lv_iload_n hx hb dX2_duchy_34 rfl (lv_at hl 2 rfl) ?_
      refine lv_iload_n hx hb dX2_duchy_35 rfl (lv_at hl 3 rfl) ?_
      refine lv_iload hx hb dX2_duchy_36 (lv_at hl 4 rfl) ?_
      refine lv_i2l (v := n.toInt64) hx hb dX2_duchy_38 rfl ?_
      refine callU_V (rest := []) hx hb hml hown hts KM_st hK hA hAN hZ (cM_cellsBarred l D d H00 q Aq τ σ jk jx i n hm (by omega) (by omega)) (wX2_cellsBarred hts ⟨Nat.le_of_ble_eq_true rfl, Nat.le_of_ble_eq_true rfl⟩) (m_recv hK hu.1) hu rfl hl.1 rfl (Nat.le_of_ble_eq_true rfl) dX2_duchy_39 ⟨Nat.le_of_ble_eq_true rfl, Nat.le_of_ble_eq_true rfl⟩ (fun r ws H locs hpo hu => ?_)
      obtain ⟨rfl, rfl⟩ := hpo
      show W _ _ _ _ _ _ _ _ _ _ _ _ _ _ _ (F0 _ 42 _ [.int (if bar σ jk jx i n = 0 then 0 else (-10) - nI (bar σ jk jx i n))])
      rcases Decidable.em (bar σ jk jx i n = 0) with hbr | hbr
      · rw [if_pos hbr] at hu
        refine top_i (y := 0) (if_pos hbr) ?_
        obtain ⟨ct, ji, jn, hs, hla, h60, ei, en, hle, htt⟩ := bar_ok hok hbr
        subst ei
        subst en
        have eji : ix (nI ji) = ji := nI_clamp (by omega)
        have ejn : ix (nI jn) = jn := nI_clamp (by omega)
        have h26 := hm.sh jk (by omega)
        rw [hs] at h26
        refine lv_istore (lv' := [(5, .int 0), (0, .ref q), (1, .int (nI jk)), (2, .int (nI jx)), (3, .int (nI ji)), (4, .int (nI jn))]) hx hb dX2_duchy_42 hl (by decide) rfl (fun ls hl => ?_)
        refine lv_iload hx hb dX2_duchy_44 (lv_at hl 0 rfl) ?_
        refine lv_if_ge (tgt := 52) hx hb dX2_duchy_46 (by decide) (fun c0 => ?_) (fun c0 => absurd (by decide) c0)
        refine lv_aload_n hx hb dX2_duchy_52 rfl (lv_at hl 1 rfl) ?_
        refine lv_bipush (v := nI 60) hx hb dX2_duchy_53 (by decide) ?_
        refine lv_iload_n hx hb dX2_duchy_55 rfl (lv_at hl 2 rfl) ?_
        refine lv_imul hx hb dX2_duchy_56 ?_
        refine lv_iload_n hx hb dX2_duchy_57 rfl (lv_at hl 4 rfl) ?_
        refine lv_iadd hx hb dX2_duchy_58 ?_
        refine top_i (y := nI (60 * jk + ji)) (by rw [pk_mul, nI_add]) ?_
        refine lv_iload hx hb dX2_duchy_59 (lv_at hl 5 rfl) ?_
        refine callU_V (rest := []) hx hb hml hown hts KM_st hK hA hAN hZ (cM_readsDuchy l D d H00 q Aq τ (60 * jk + ji) jn (txt σ jk ji) (fun j hj => by rw [htt, Nat.add_assoc]; exact h26.2.2 (ji + j) (by omega)) (by omega) (by omega)) (wX2_readsDuchy hts ⟨Nat.le_of_ble_eq_true rfl, Nat.le_of_ble_eq_true rfl⟩) (m_recv hK hu.1) hu rfl hl.1 rfl (Nat.le_of_ble_eq_true rfl) dX2_duchy_61 ⟨Nat.le_of_ble_eq_true rfl, Nat.le_of_ble_eq_true rfl⟩ (fun r ws H locs hpo hu => ?_)
        obtain ⟨τ2, rfl, rfl, hq⟩ := hpo
        show W _ _ _ _ _ _ _ _ _ _ _ _ _ _ _ (F0 _ 64 _ [.int (bI (prs (txt σ jk ji) jn).1)])
        obtain ⟨hq1, hq2, hq3⟩ := hq
        generalize hpr : prs (txt σ jk ji) jn = pr at hq2 hq3 ⊢
        refine bz_ne (tgt := 79) hx hb dX2_duchy_64 (by decide) (fun c3 => ?_) (fun c3 => ?_)
        · have hp := hq3 c3
          obtain ⟨p1, p2, p3, p4, p5⟩ := prs_ok (r := (txt σ jk ji)) (nn := jn) (by rw [hpr]; exact c3)
          rw [hpr] at p2 p3 p5
          have hd6 := dcn_le (txt σ jk ji) jn 6
          generalize hdn : dcn (txt σ jk ji) jn 6 = dd at hp p1 p5 hd6
          refine lv_aload_n hx hb dX2_duchy_79 rfl (lv_at hl 1 rfl) ?_
          refine lv_aload_n hx hb dX2_duchy_80 rfl (lv_at hl 1 rfl) ?_
          refine mg11 hx hb hts hown hK hu.1 dX2_duchy_81 ?_
          refine top_i (y := (txt σ jk ji) 1 - 48) (hp.2.2.1) ?_
          refine mp1 hx hb hts hown hK hu dX2_duchy_84 (fun H locs hu => ?_)
          refine lv_aload_n hx hb dX2_duchy_87 rfl (lv_at hl 1 rfl) ?_
          refine lv_aload_n hx hb dX2_duchy_88 rfl (lv_at hl 1 rfl) ?_
          refine mg12 hx hb hts hown hK hu.1 dX2_duchy_89 ?_
          refine top_i (y := τ2 12 0) rfl ?_
          refine top_i (y := nI dd) (hp.2.2.2.1) ?_
          refine mp2 hx hb hts hown hK hu dX2_duchy_92 (fun H locs hu => ?_)
          refine lv_aload_n hx hb dX2_duchy_95 rfl (lv_at hl 1 rfl) ?_
          refine lv_aload_n hx hb dX2_duchy_96 rfl (lv_at hl 1 rfl) ?_
          refine mg13 hx hb hts hown hK hu.1 dX2_duchy_97 ?_
          refine top_i (y := τ2 13 0) rfl ?_
          refine top_i (y := nI pr.2.1) (hp.2.2.2.2.1) ?_
          refine mp4 hx hb hts hown hK hu dX2_duchy_100 (fun H locs hu => ?_)
          obtain ⟨τb, hτb⟩ : ∃ x, x = put2 (put2 (put2 τ2 1 0 ((txt σ jk ji) 1 - 48)) 2 0 (nI dd)) 4 0 (nI pr.2.1) := ⟨_, rfl⟩
          have hu : uW D A s.heap H locs (mw d q Aq τb) := by rw [hτb]; exact hu
          refine lv_iconst (v := nI 0) hx hb dX2_duchy_103 (by decide) ?_
          refine lv_istore (lv' := [(6, .int (nI 0)), (5, .int 0), (0, .ref q), (1, .int (nI jk)), (2, .int (nI jx)), (3, .int (nI ji)), (4, .int (nI jn))]) hx hb dX2_duchy_104 hl (by decide) rfl (fun ls hl => ?_)
          refine lp_U (σ := Nat × (Nat → Nat → Int32)) (fun n106 zz => zz.1 + n106 = dd ∧ lkI τb zz.2 zz.1) (fun zz => [(6, .int (nI zz.1)), (0, .ref q), (1, .int (nI jk)), (2, .int (nI jx)), (3, .int (nI ji)), (4, .int (nI jn)), (5, .int 0)]) (fun zz => mw d q Aq zz.2) (fun n106 zz hI ih106 H locs ls hu hl => ?_) dd (0, τb) (⟨by omega, fun k hk => rfl, fun t ht => absurd ht (Nat.not_lt_zero t)⟩) (hu) (lv_sub hl [0, 2, 3, 4, 5, 6, 1] rfl)
          obtain ⟨t0, τ3⟩ := zz
          have hI : t0 + n106 = dd ∧ lkI τb τ3 t0 := hI
          obtain ⟨hi, hlo⟩ := hI
          have hl : lv_has ls 7 [(6, .int (nI t0)), (0, .ref q), (1, .int (nI jk)), (2, .int (nI jx)), (3, .int (nI ji)), (4, .int (nI jn)), (5, .int 0)] := hl
          have hu : uW D A s.heap H locs (mw d q Aq τ3) := hu
          refine lv_iload hx hb dX2_duchy_106 (lv_at hl 0 rfl) ?_
          refine lv_aload_n hx hb dX2_duchy_108 rfl (lv_at hl 1 rfl) ?_
          refine mg2 hx hb hts hown hK hu.1 dX2_duchy_109 ?_
          refine top_i (y := nI dd) (by rw [hlo.1 2 (by decide), hτb]; rfl) ?_
          refine nc_ge (tgt := 135) hx hb dX2_duchy_112 (by decide) (by omega) (by omega) (fun c4 => ?_) (fun c4 => ?_)
          · refine lv_iconst (v := nI 0) hx hb dX2_duchy_135 (by decide) ?_
            refine lv_istore (lv' := [(6, .int (nI 0)), (0, .ref q), (1, .int (nI jk)), (2, .int (nI jx)), (3, .int (nI ji)), (4, .int (nI jn)), (5, .int 0)]) hx hb dX2_duchy_136 hl (by decide) rfl (fun ls hl => ?_)
            refine lp_U (σ := Nat × (Nat → Nat → Int32)) (fun n138 zz => zz.1 + n138 = pr.2.1 ∧ ekI τ3 zz.2 zz.1) (fun zz => [(6, .int (nI zz.1)), (0, .ref q), (1, .int (nI jk)), (2, .int (nI jx)), (3, .int (nI ji)), (4, .int (nI jn)), (5, .int 0)]) (fun zz => mw d q Aq zz.2) (fun n138 zz hI ih138 H locs ls hu hl => ?_) pr.2.1 (0, τ3) (⟨by omega, fun k hk => rfl, fun t ht => absurd ht (Nat.not_lt_zero t)⟩) (hu) hl
            obtain ⟨t1, τ4⟩ := zz
            have hI : t1 + n138 = pr.2.1 ∧ ekI τ3 τ4 t1 := hI
            obtain ⟨hi2, hek⟩ := hI
            have hl : lv_has ls 7 [(6, .int (nI t1)), (0, .ref q), (1, .int (nI jk)), (2, .int (nI jx)), (3, .int (nI ji)), (4, .int (nI jn)), (5, .int 0)] := hl
            have hu : uW D A s.heap H locs (mw d q Aq τ4) := hu
            refine lv_iload hx hb dX2_duchy_138 (lv_at hl 0 rfl) ?_
            refine lv_aload_n hx hb dX2_duchy_140 rfl (lv_at hl 1 rfl) ?_
            refine mg4 hx hb hts hown hK hu.1 dX2_duchy_141 ?_
            refine top_i (y := nI pr.2.1) (by rw [hek.1 4 (by omega), hlo.1 4 (by decide), hτb]; rfl) ?_
            refine nc_ge (tgt := 209) hx hb dX2_duchy_144 (by decide) (by omega) (by omega) (fun c5 => ?_) (fun c5 => ?_)
            · refine lv_aload_n hx hb dX2_duchy_209 rfl (lv_at hl 1 rfl) ?_
              refine lv_iconst (v := nI 0) hx hb dX2_duchy_210 (by decide) ?_
              refine mp19 hx hb hts hown hK hu dX2_duchy_211 (fun H locs hu => ?_)
              refine lv_aload_n hx hb dX2_duchy_214 rfl (lv_at hl 1 rfl) ?_
              refine lv_aload_n hx hb dX2_duchy_215 rfl (lv_at hl 1 rfl) ?_
              refine mg4 hx hb hts hown hK hu.1 dX2_duchy_216 ?_
              refine top_i (y := τ4 4 0) rfl ?_
              refine top_i (y := nI pr.2.1) (by rw [hek.1 4 (by omega), hlo.1 4 (by decide), hτb]; rfl) ?_
              refine callU_V (rest := []) hx hb hml hown hts KM_st hK hA hAN hZ (cM_refused l D d H00 q Aq (put2 τ4 19 0 (nI 0)) (nI pr.2.1)) (wX2_refused hts ⟨Nat.le_of_ble_eq_true rfl, Nat.le_of_ble_eq_true rfl⟩) (m_recv hK hu.1) hu rfl hl.1 rfl (Nat.le_of_ble_eq_true rfl) dX2_duchy_219 ⟨Nat.le_of_ble_eq_true rfl, Nat.le_of_ble_eq_true rfl⟩ (fun r ws H locs hpo hu => ?_)
              obtain ⟨rfl, rfl⟩ := hpo
              show W _ _ _ _ _ _ _ _ _ _ _ _ _ _ _ (F0 _ 222 _ [.int (nI pr.2.1)])
              exact rU_i hx hb hr hlk hu dX2_duchy_222 (Nat.le_of_ble_eq_true rfl) (Nat.le_of_ble_eq_true rfl) (by rw [show f_duchy σ (nI jk) (nI jx) (nI ji) (nI jn) = (nI pr.2.1, duc σ (txt σ jk ji) dd pr.2.1) from by rw [f_duchy, if_neg (bt_nf c1), if_neg (bt_nf c2)]; simp only [ejk, ejx, eji, ejn]; rw [if_neg (fun hh => hh hbr), hpr, if_neg (bt_nf c3), hdn]]; exact ⟨rfl, _, rfl, mRep_duc2 hm hd6 p1 p2 p3 p5 hp hτb (by rw [show dd = t0 by omega]; exact hlo) (by rw [show pr.2.1 = t1 by omega]; exact hek)⟩)
            · refine lv_aload_n hx hb dX2_duchy_147 rfl (lv_at hl 1 rfl) ?_
              refine mg5 hx hb hts hown hK hu.1 dX2_duchy_148 ?_
              refine lv_iload hx hb dX2_duchy_151 (lv_at hl 0 rfl) ?_
              refine lv_aload_n hx hb dX2_duchy_153 rfl (lv_at hl 1 rfl) ?_
              refine mg15 hx hb hts hown hK hu.1 dX2_duchy_154 ?_
              refine lv_iload hx hb dX2_duchy_157 (lv_at hl 0 rfl) ?_
              refine ma15 hx hb hK hu.1 (by omega) dX2_duchy_159 ?_
              refine ms5 hx hb hK hu (by omega) dX2_duchy_160 (fun H locs hu => ?_)
              refine lv_aload_n hx hb dX2_duchy_161 rfl (lv_at hl 1 rfl) ?_
              refine mg6 hx hb hts hown hK hu.1 dX2_duchy_162 ?_
              refine lv_iload hx hb dX2_duchy_165 (lv_at hl 0 rfl) ?_
              refine lv_aload_n hx hb dX2_duchy_167 rfl (lv_at hl 1 rfl) ?_
              refine mg16 hx hb hts hown hK hu.1 dX2_duchy_168 ?_
              refine lv_iload hx hb dX2_duchy_171 (lv_at hl 0 rfl) ?_
              refine ma16 hx hb hK hu.1 (by omega) dX2_duchy_173 ?_
              refine ms6 hx hb hK hu (by omega) dX2_duchy_174 (fun H locs hu => ?_)
              refine lv_aload_n hx hb dX2_duchy_175 rfl (lv_at hl 1 rfl) ?_
              refine mg7 hx hb hts hown hK hu.1 dX2_duchy_176 ?_
              refine lv_iload hx hb dX2_duchy_179 (lv_at hl 0 rfl) ?_
              refine lv_aload_n hx hb dX2_duchy_181 rfl (lv_at hl 1 rfl) ?_
              refine mg17 hx hb hts hown hK hu.1 dX2_duchy_182 ?_
              refine lv_iload hx hb dX2_duchy_185 (lv_at hl 0 rfl) ?_
              refine ma17 hx hb hK hu.1 (by omega) dX2_duchy_187 ?_
              refine ms7 hx hb hK hu (by omega) dX2_duchy_188 (fun H locs hu => ?_)
              refine lv_aload_n hx hb dX2_duchy_189 rfl (lv_at hl 1 rfl) ?_
              refine mg8 hx hb hts hown hK hu.1 dX2_duchy_190 ?_
              refine lv_iload hx hb dX2_duchy_193 (lv_at hl 0 rfl) ?_
              refine lv_aload_n hx hb dX2_duchy_195 rfl (lv_at hl 1 rfl) ?_
              refine mg18 hx hb hts hown hK hu.1 dX2_duchy_196 ?_
              refine lv_iload hx hb dX2_duchy_199 (lv_at hl 0 rfl) ?_
              refine ma18 hx hb hK hu.1 (by omega) dX2_duchy_201 ?_
              refine ms8 hx hb hK hu (by omega) dX2_duchy_202 (fun H locs hu => ?_)
              refine lv_iinc (v := nI (t1 + 1)) (lv' := [(6, .int (nI (t1 + 1))), (0, .ref q), (1, .int (nI jk)), (2, .int (nI jx)), (3, .int (nI ji)), (4, .int (nI jn)), (5, .int 0)]) hx hb dX2_duchy_203 hl (k := 0) rfl (inc_nI _) (by decide) rfl (fun ls hl => ?_)
              refine lv_goto (tgt := 138) hx hb dX2_duchy_206 (by decide) ?_
              exact ih138 (n138 - 1) (t1 + 1, put2 (put2 (put2 (put2 τ4 5 t1 (τ4 15 t1)) 6 t1 ((put2 τ4 5 t1 (τ4 15 t1)) 16 t1)) 7 t1 ((put2 (put2 τ4 5 t1 (τ4 15 t1)) 6 t1 ((put2 τ4 5 t1 (τ4 15 t1)) 16 t1)) 17 t1)) 8 t1 ((put2 (put2 (put2 τ4 5 t1 (τ4 15 t1)) 6 t1 ((put2 τ4 5 t1 (τ4 15 t1)) 16 t1)) 7 t1 ((put2 (put2 τ4 5 t1 (τ4 15 t1)) 6 t1 ((put2 τ4 5 t1 (τ4 15 t1)) 16 t1)) 17 t1)) 18 t1)) _ _ ls (by omega) (⟨by omega, ekI_step hek rfl rfl rfl rfl⟩) hu (hl)
          · refine lv_aload_n hx hb dX2_duchy_115 rfl (lv_at hl 1 rfl) ?_
            refine mg3 hx hb hts hown hK hu.1 dX2_duchy_116 ?_
            refine lv_iload hx hb dX2_duchy_119 (lv_at hl 0 rfl) ?_
            refine lv_aload_n hx hb dX2_duchy_121 rfl (lv_at hl 1 rfl) ?_
            refine mg14 hx hb hts hown hK hu.1 dX2_duchy_122 ?_
            refine lv_iload hx hb dX2_duchy_125 (lv_at hl 0 rfl) ?_
            refine ma14 hx hb hK hu.1 (by omega) dX2_duchy_127 ?_
            refine ms3 hx hb hK hu (by omega) dX2_duchy_128 (fun H locs hu => ?_)
            refine lv_iinc (v := nI (t0 + 1)) (lv' := [(6, .int (nI (t0 + 1))), (0, .ref q), (1, .int (nI jk)), (2, .int (nI jx)), (3, .int (nI ji)), (4, .int (nI jn)), (5, .int 0)]) hx hb dX2_duchy_129 hl (k := 0) rfl (inc_nI _) (by decide) rfl (fun ls hl => ?_)
            refine lv_goto (tgt := 106) hx hb dX2_duchy_132 (by decide) ?_
            exact ih106 (n106 - 1) (t0 + 1, put2 τ3 3 t0 (τ3 14 t0)) _ _ ls (by omega) (⟨by omega, lkI_step hlo⟩) hu (hl)
        · refine lv_aload_n hx hb dX2_duchy_67 rfl (lv_at hl 1 rfl) ?_
          refine lv_bipush (v := (-100)) hx hb dX2_duchy_68 (by decide) ?_
          refine lv_aload_n hx hb dX2_duchy_70 rfl (lv_at hl 1 rfl) ?_
          refine mg10 hx hb hts hown hK hu.1 dX2_duchy_71 ?_
          refine top_i (y := nI pr.2.2) (hq2) ?_
          refine lv_isub hx hb dX2_duchy_74 ?_
          refine callU_V (rest := []) hx hb hml hown hts KM_st hK hA hAN hZ (cM_refused l D d H00 q Aq τ2 ((-100) - nI pr.2.2)) (wX2_refused hts ⟨Nat.le_of_ble_eq_true rfl, Nat.le_of_ble_eq_true rfl⟩) (m_recv hK hu.1) hu rfl hl.1 rfl (Nat.le_of_ble_eq_true rfl) dX2_duchy_75 ⟨Nat.le_of_ble_eq_true rfl, Nat.le_of_ble_eq_true rfl⟩ (fun r ws H locs hpo hu => ?_)
          obtain ⟨rfl, rfl⟩ := hpo
          show W _ _ _ _ _ _ _ _ _ _ _ _ _ _ _ (F0 _ 78 _ [.int ((-100) - nI pr.2.2)])
          exact rU_i hx hb hr hlk hu dX2_duchy_78 (Nat.le_of_ble_eq_true rfl) (Nat.le_of_ble_eq_true rfl) (by rw [show f_duchy σ (nI jk) (nI jx) (nI ji) (nI jn) = (((-100) - nI pr.2.2), uI σ 0 0) from by rw [f_duchy, if_neg (bt_nf c1), if_neg (bt_nf c2)]; simp only [ejk, ejx, eji, ejn]; rw [if_neg (fun hh => hh hbr), hpr, if_pos c3]]; exact ⟨rfl, _, rfl, mRep_fault (mRep_read hm hq1) 0⟩)
      · rw [if_neg hbr] at hu
        refine top_i (y := ((-10) - nI (bar σ jk jx i n))) (if_neg hbr) ?_
        refine lv_istore (lv' := [(5, .int ((-10) - nI (bar σ jk jx i n))), (0, .ref q), (1, .int (nI jk)), (2, .int (nI jx)), (3, .int i), (4, .int n)]) hx hb dX2_duchy_42 hl (by decide) rfl (fun ls hl => ?_)
        refine lv_iload hx hb dX2_duchy_44 (lv_at hl 0 rfl) ?_
        refine lv_if_ge (tgt := 52) hx hb dX2_duchy_46 (by decide) (fun c0 => absurd c0 (bar_neg (bar_le _ _ _ _ _))) (fun c0 => ?_)
        refine lv_iload hx hb dX2_duchy_49 (lv_at hl 0 rfl) ?_
        exact rU_i hx hb hr hlk hu dX2_duchy_51 (Nat.le_of_ble_eq_true rfl) (Nat.le_of_ble_eq_true rfl) (by rw [show f_duchy σ (nI jk) (nI jx) i n = ((-10) - nI (bar σ jk jx i n), uI σ 0 (nI (bar σ jk jx i n))) from by rw [f_duchy, if_neg (bt_nf c1), if_neg (bt_nf c2)]; simp only [ejk, ejx]; rw [if_pos hbr]]; exact ⟨rfl, _, rfl, mRep_fault hm _⟩)
    · refine lv_aload_n hx hb dX2_duchy_25 rfl (lv_at hl 0 rfl) ?_
      refine lv_bipush (v := (-2)) hx hb dX2_duchy_26 (by decide) ?_
      refine callU_V (rest := []) hx hb hml hown hts KM_st hK hA hAN hZ (cM_refused l D d H00 q Aq τ (-2)) (wX2_refused hts ⟨Nat.le_of_ble_eq_true rfl, Nat.le_of_ble_eq_true rfl⟩) (m_recv hK hu.1) hu rfl hl.1 rfl (Nat.le_of_ble_eq_true rfl) dX2_duchy_28 ⟨Nat.le_of_ble_eq_true rfl, Nat.le_of_ble_eq_true rfl⟩ (fun r ws H locs hpo hu => ?_)
      obtain ⟨rfl, rfl⟩ := hpo
      show W _ _ _ _ _ _ _ _ _ _ _ _ _ _ _ (F0 _ 31 _ [.int (-2)])
      exact rU_i hx hb hr hlk hu dX2_duchy_31 (Nat.le_of_ble_eq_true rfl) (Nat.le_of_ble_eq_true rfl) (by rw [show f_duchy σ (nI jk) x i n = ((-2), uI σ 0 0) from by rw [f_duchy, if_neg (bt_nf c1), if_pos c2]]; exact ⟨rfl, _, rfl, mRep_fault hm 0⟩)
  · refine lv_aload_n hx hb dX2_duchy_7 rfl (lv_at hl 0 rfl) ?_
    refine lv_iconst (v := (-1)) hx hb dX2_duchy_8 (by decide) ?_
    refine callU_V (rest := []) hx hb hml hown hts KM_st hK hA hAN hZ (cM_refused l D d H00 q Aq τ (-1)) (wX2_refused hts ⟨Nat.le_of_ble_eq_true rfl, Nat.le_of_ble_eq_true rfl⟩) (m_recv hK hu.1) hu rfl hl.1 rfl (Nat.le_of_ble_eq_true rfl) dX2_duchy_9 ⟨Nat.le_of_ble_eq_true rfl, Nat.le_of_ble_eq_true rfl⟩ (fun r ws H locs hpo hu => ?_)
    obtain ⟨rfl, rfl⟩ := hpo
    show W _ _ _ _ _ _ _ _ _ _ _ _ _ _ _ (F0 _ 12 _ [.int (-1)])
    exact rU_i hx hb hr hlk hu dX2_duchy_12 (Nat.le_of_ble_eq_true rfl) (Nat.le_of_ble_eq_true rfl) (by rw [show f_duchy σ k x i n = ((-1), uI σ 0 0) from by rw [f_duchy, if_pos c1]]; exact ⟨rfl, _, rfl, mRep_fault hm 0⟩)
