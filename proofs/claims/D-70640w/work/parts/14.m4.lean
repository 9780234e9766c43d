/-! the Model: stays, kinds, sours, smile -/
set_option maxHeartbeats 4000000 in
set_option maxRecDepth 100000 in
theorem cM_stays (l : Launch) (D : va_G) (d : Nat → ClassId) (H00 : Heap) (q : Nat) (Aq : Nat → Nat) (τ : Nat → Nat → Int32) (σ : ASt) (x : Int32) (hm : mRep σ τ)  : cU l (KM D d) H00 D yX2_stays cX2_stays 5 (some .int) (rc 4 0 0) [.ref q, .int x] (mw d q Aq τ) (mPost d q Aq (some (.int (f_stays σ x))) σ) := by
  refine cU_start RX2 rfl (by decide) (Nat.le_of_ble_eq_true rfl) ?_
  intro p e s m below meth c A hx hb hml hown hts hr hlk hnm hK hA hAN hZ hu ls hl
  have hl : lv_has ls 5 [(0, .ref q), (1, .int x)] := hl
  have hok := hm.ok
  have hD6 : aD σ ≤ 6 := hok.1
  have hE4 : aE σ ≤ 4 := hok.2.1
  have h64 := pow6 hD6
  have hd := hm.day
  have he := hm.eat
  have hR8 : aR σ ≤ 8 := hok.2.2.2.1
  refine lv_aload_n hx hb dX2_stays_0 rfl (lv_at hl 0 rfl) ?_
  refine lv_iload_n hx hb dX2_stays_1 rfl (lv_at hl 1 rfl) ?_
  refine callR_V (rest := []) hx hb hml hown hts KM_st hK (cM_noEater l D d q Aq τ x) (wX2_noEater hts ⟨Nat.le_of_ble_eq_true rfl, Nat.le_of_ble_eq_true rfl⟩) (m_recv hK hu.1) hu.1 rfl hl.1 rfl (Nat.le_of_ble_eq_true rfl) dX2_stays_2 ⟨Nat.le_of_ble_eq_true rfl, Nat.le_of_ble_eq_true rfl⟩ ?_
  refine top_i (hm.isE x) ?_
  refine bzn_eq (tgt := 10) hx hb dX2_stays_5 (by decide) (fun c1 => ?_) (fun c1 => ?_)
  · obtain ⟨jx, hjx, ej⟩ := isE_ix hok c1
    subst ej
    have ejx : ix (nI jx) = jx := nI_clamp (by omega)
    refine lv_aload_n hx hb dX2_stays_10 rfl (lv_at hl 0 rfl) ?_
    refine mg6 hx hb hts hown hK hu.1 dX2_stays_11 ?_
    refine lv_iload_n hx hb dX2_stays_14 rfl (lv_at hl 1 rfl) ?_
    refine ma6 hx hb hK hu.1 (by omega) dX2_stays_15 ?_
    refine top_i (y := nI (aN σ 1 jx)) ((he.2.2 jx hjx).2.1.1) ?_
    refine lv_istore_n (lv' := [(2, .int (nI (aN σ 1 jx))), (0, .ref q), (1, .int (nI jx))]) hx hb dX2_stays_16 rfl hl (by decide) rfl (fun ls hl => ?_)
    refine lv_iconst (v := nI 0) hx hb dX2_stays_17 (by decide) ?_
    refine lv_istore_n (lv' := [(3, .int (nI 0)), (2, .int (nI (aN σ 1 jx))), (0, .ref q), (1, .int (nI jx))]) hx hb dX2_stays_18 rfl hl (by decide) rfl (fun ls hl => ?_)
    refine lv_iconst (v := nI 0) hx hb dX2_stays_19 (by decide) ?_
    refine lv_istore (lv' := [(4, .int (nI 0)), (3, .int (nI 0)), (2, .int (nI (aN σ 1 jx))), (0, .ref q), (1, .int (nI jx))]) hx hb dX2_stays_20 hl (by decide) rfl (fun ls hl => ?_)
    refine lp_U (σ := Nat × Int32) (fun n22 zz => zz.1 + n22 = 6) (fun zz => [(4, .int (nI zz.1)), (3, .int (nI (setN (fun v => soN (upN (aN σ) 1 jx v) (aN σ) (aB σ) (aD σ) (aF σ) (aR σ)) zz.1))), (2, .int (nI (aN σ 1 jx))), (0, .ref q), (1, .int (nI jx))]) (fun zz => mw d q Aq (put2 τ 6 jx zz.2)) (fun n22 zz hI ih22 H locs ls hu hl => ?_) 6 (0, τ 6 jx) (by omega) (by rw [put2_self]; exact hu) hl
    obtain ⟨i, w0⟩ := zz
    have hI : i + n22 = 6 := hI
    obtain hi := hI
    have hl : lv_has ls 5 [(4, .int (nI i)), (3, .int (nI (setN (fun v => soN (upN (aN σ) 1 jx v) (aN σ) (aB σ) (aD σ) (aF σ) (aR σ)) i))), (2, .int (nI (aN σ 1 jx))), (0, .ref q), (1, .int (nI jx))] := hl
    have hu : uW D A s.heap H locs (mw d q Aq (put2 τ 6 jx w0)) := hu
    refine lv_iload hx hb dX2_stays_22 (lv_at hl 0 rfl) ?_
    refine lv_bipush (v := nI 6) hx hb dX2_stays_24 (by decide) ?_
    refine nc_ge (tgt := 61) hx hb dX2_stays_26 (by decide) (by omega) (by omega) (fun c2 => ?_) (fun c2 => ?_)
    · refine lv_aload_n hx hb dX2_stays_61 rfl (lv_at hl 3 rfl) ?_
      refine mg6 hx hb hts hown hK hu.1 dX2_stays_62 ?_
      refine lv_iload_n hx hb dX2_stays_65 rfl (lv_at hl 4 rfl) ?_
      refine lv_iload_n hx hb dX2_stays_66 rfl (lv_at hl 2 rfl) ?_
      refine ms6 hx hb hK hu (by omega) dX2_stays_67 (fun H locs hu => ?_)
      rw [put2_put2, ← (he.2.2 jx hjx).2.1.1, put2_self] at hu
      refine lv_iload_n hx hb dX2_stays_68 rfl (lv_at hl 1 rfl) ?_
      exact rU_i hx hb hr hlk hu dX2_stays_69 (Nat.le_of_ble_eq_true rfl) (Nat.le_of_ble_eq_true rfl) (⟨by rw [f_stays, if_neg (bt_nf c1)]; simp only [ejx]; rw [show i = 6 by omega], τ, rfl, hm⟩)
    · refine lv_aload_n hx hb dX2_stays_29 rfl (lv_at hl 3 rfl) ?_
      refine mg6 hx hb hts hown hK hu.1 dX2_stays_30 ?_
      refine lv_iload_n hx hb dX2_stays_33 rfl (lv_at hl 4 rfl) ?_
      refine lv_iload hx hb dX2_stays_34 (lv_at hl 0 rfl) ?_
      refine ms6 hx hb hK hu (by omega) dX2_stays_36 (fun H locs hu => ?_)
      rw [put2_put2] at hu
      refine lv_iload_n hx hb dX2_stays_37 rfl (lv_at hl 1 rfl) ?_
      refine lv_aload_n hx hb dX2_stays_38 rfl (lv_at hl 3 rfl) ?_
      refine callR_V (rest := [.int (nI (setN (fun v => soN (upN (aN σ) 1 jx v) (aN σ) (aB σ) (aD σ) (aF σ) (aR σ)) i))]) hx hb hml hown hts KM_st hK (cM_areSo l D d q Aq (put2 τ 6 jx (nI i)) (aD σ) (aE σ) (aR σ) (upN (aN σ) 1 jx i) (aN σ) (aB σ) hd (mEat_stay he jx (by omega)) hm.rd hR8 hok.2.2.2.2.2.1) (wX2_areSo hts ⟨Nat.le_of_ble_eq_true rfl, Nat.le_of_ble_eq_true rfl⟩) (m_recv hK hu.1) hu.1 rfl hl.1 rfl (Nat.le_of_ble_eq_true rfl) dX2_stays_39 ⟨Nat.le_of_ble_eq_true rfl, Nat.le_of_ble_eq_true rfl⟩ ?_
      refine top_i (y := bI (soN (upN (aN σ) 1 jx i) (aN σ) (aB σ) (aD σ) (aF σ) (aR σ))) (by rw [← hm.fast]; rfl) ?_
      refine jn_i (ls := ls) (P := fun v => v = (if (soN (upN (aN σ) 1 jx i) (aN σ) (aB σ) (aD σ) (aF σ) (aR σ)) = false then (0 : Int32) else ((1 : Int32) <<< (nI i &&& 31)))) 53 [.int (nI (setN (fun v => soN (upN (aN σ) 1 jx v) (aN σ) (aB σ) (aD σ) (aF σ) (aR σ)) i))] (fun v ev => ?_) (fun kj3 => ?_)
      · refine lv_ior hx hb dX2_stays_53 ?_
        refine top_i (y := nI (setN (fun v => soN (upN (aN σ) 1 jx v) (aN σ) (aB σ) (aD σ) (aF σ) (aR σ)) (i + 1))) (by rw [ev]; exact set_step (p := (fun v => soN (upN (aN σ) 1 jx v) (aN σ) (aB σ) (aD σ) (aF σ) (aR σ))) (by omega)) ?_
        refine lv_istore_n (lv' := [(3, .int (nI (setN (fun v => soN (upN (aN σ) 1 jx v) (aN σ) (aB σ) (aD σ) (aF σ) (aR σ)) (i + 1)))), (4, .int (nI i)), (2, .int (nI (aN σ 1 jx))), (0, .ref q), (1, .int (nI jx))]) hx hb dX2_stays_54 rfl hl (by decide) rfl (fun ls hl => ?_)
        refine lv_iinc (v := nI (i + 1)) (lv' := [(4, .int (nI (i + 1))), (3, .int (nI (setN (fun v => soN (upN (aN σ) 1 jx v) (aN σ) (aB σ) (aD σ) (aF σ) (aR σ)) (i + 1)))), (2, .int (nI (aN σ 1 jx))), (0, .ref q), (1, .int (nI jx))]) hx hb dX2_stays_55 hl (k := 1) rfl (inc_nI _) (by decide) rfl (fun ls hl => ?_)
        refine lv_goto (tgt := 22) hx hb dX2_stays_58 (by decide) ?_
        exact ih22 (n22 - 1) (i + 1, nI i) _ _ ls (by omega) (by omega) hu (hl)
      · refine bz_eq (tgt := 52) hx hb dX2_stays_42 (by decide) (fun c4 => ?_) (fun c4 => ?_)
        · refine lv_iconst (v := 0) hx hb dX2_stays_52 (by decide) ?_
          exact kj3 _ (by rw [if_pos c4])
        · refine lv_iconst (v := 1) hx hb dX2_stays_45 (by decide) ?_
          refine lv_iload hx hb dX2_stays_46 (lv_at hl 0 rfl) ?_
          refine lv_ishl hx hb dX2_stays_48 ?_
          refine lv_goto (tgt := 53) hx hb dX2_stays_49 (by decide) ?_
          exact kj3 _ (by rw [if_neg (bt_nf c4)])
  · refine lv_iconst (v := (-1)) hx hb dX2_stays_8 (by decide) ?_
    exact rU_i hx hb hr hlk hu dX2_stays_9 (Nat.le_of_ble_eq_true rfl) (Nat.le_of_ble_eq_true rfl) (⟨by rw [f_stays, if_pos c1], τ, rfl, hm⟩)

set_option maxHeartbeats 4000000 in
set_option maxRecDepth 100000 in
theorem cM_kinds (l : Launch) (D : va_G) (d : Nat → ClassId) (H00 : Heap) (q : Nat) (Aq : Nat → Nat) (τ : Nat → Nat → Int32) (σ : ASt) (x : Int32) (hm : mRep σ τ)  : cU l (KM D d) H00 D yX2_kinds cX2_kinds 5 (some .int) (rc 4 0 0) [.ref q, .int x] (mw d q Aq τ) (mPost d q Aq (some (.int (f_kinds σ x))) σ) := by
  refine cU_start RX2 rfl (by decide) (Nat.le_of_ble_eq_true rfl) ?_
  intro p e s m below meth c A hx hb hml hown hts hr hlk hnm hK hA hAN hZ hu ls hl
  have hl : lv_has ls 5 [(0, .ref q), (1, .int x)] := hl
  have hok := hm.ok
  have hD6 : aD σ ≤ 6 := hok.1
  have hE4 : aE σ ≤ 4 := hok.2.1
  have h64 := pow6 hD6
  have hd := hm.day
  have he := hm.eat
  have hR8 : aR σ ≤ 8 := hok.2.2.2.1
  refine lv_aload_n hx hb dX2_kinds_0 rfl (lv_at hl 0 rfl) ?_
  refine lv_iload_n hx hb dX2_kinds_1 rfl (lv_at hl 1 rfl) ?_
  refine callR_V (rest := []) hx hb hml hown hts KM_st hK (cM_noEater l D d q Aq τ x) (wX2_noEater hts ⟨Nat.le_of_ble_eq_true rfl, Nat.le_of_ble_eq_true rfl⟩) (m_recv hK hu.1) hu.1 rfl hl.1 rfl (Nat.le_of_ble_eq_true rfl) dX2_kinds_2 ⟨Nat.le_of_ble_eq_true rfl, Nat.le_of_ble_eq_true rfl⟩ ?_
  refine top_i (hm.isE x) ?_
  refine bzn_eq (tgt := 10) hx hb dX2_kinds_5 (by decide) (fun c1 => ?_) (fun c1 => ?_)
  · obtain ⟨jx, hjx, ej⟩ := isE_ix hok c1
    subst ej
    have ejx : ix (nI jx) = jx := nI_clamp (by omega)
    refine lv_aload_n hx hb dX2_kinds_10 rfl (lv_at hl 0 rfl) ?_
    refine mg5 hx hb hts hown hK hu.1 dX2_kinds_11 ?_
    refine lv_iload_n hx hb dX2_kinds_14 rfl (lv_at hl 1 rfl) ?_
    refine ma5 hx hb hK hu.1 (by omega) dX2_kinds_15 ?_
    refine top_i (y := nI (aN σ 0 jx)) ((he.2.2 jx hjx).1.1) ?_
    refine lv_istore_n (lv' := [(2, .int (nI (aN σ 0 jx))), (0, .ref q), (1, .int (nI jx))]) hx hb dX2_kinds_16 rfl hl (by decide) rfl (fun ls hl => ?_)
    refine lv_iconst (v := nI 0) hx hb dX2_kinds_17 (by decide) ?_
    refine lv_istore_n (lv' := [(3, .int (nI 0)), (2, .int (nI (aN σ 0 jx))), (0, .ref q), (1, .int (nI jx))]) hx hb dX2_kinds_18 rfl hl (by decide) rfl (fun ls hl => ?_)
    refine lv_iconst (v := nI 0) hx hb dX2_kinds_19 (by decide) ?_
    refine lv_istore (lv' := [(4, .int (nI 0)), (3, .int (nI 0)), (2, .int (nI (aN σ 0 jx))), (0, .ref q), (1, .int (nI jx))]) hx hb dX2_kinds_20 hl (by decide) rfl (fun ls hl => ?_)
    refine lp_U (σ := Nat × Int32) (fun n22 zz => zz.1 + n22 = 3) (fun zz => [(4, .int (nI zz.1)), (3, .int (nI (setN (fun v => soN (upN (aN σ) 0 jx v) (aN σ) (aB σ) (aD σ) (aF σ) (aR σ)) zz.1))), (2, .int (nI (aN σ 0 jx))), (0, .ref q), (1, .int (nI jx))]) (fun zz => mw d q Aq (put2 τ 5 jx zz.2)) (fun n22 zz hI ih22 H locs ls hu hl => ?_) 3 (0, τ 5 jx) (by omega) (by rw [put2_self]; exact hu) hl
    obtain ⟨i, w0⟩ := zz
    have hI : i + n22 = 3 := hI
    obtain hi := hI
    have hl : lv_has ls 5 [(4, .int (nI i)), (3, .int (nI (setN (fun v => soN (upN (aN σ) 0 jx v) (aN σ) (aB σ) (aD σ) (aF σ) (aR σ)) i))), (2, .int (nI (aN σ 0 jx))), (0, .ref q), (1, .int (nI jx))] := hl
    have hu : uW D A s.heap H locs (mw d q Aq (put2 τ 5 jx w0)) := hu
    refine lv_iload hx hb dX2_kinds_22 (lv_at hl 0 rfl) ?_
    refine lv_iconst (v := nI 3) hx hb dX2_kinds_24 (by decide) ?_
    refine nc_ge (tgt := 60) hx hb dX2_kinds_25 (by decide) (by omega) (by omega) (fun c2 => ?_) (fun c2 => ?_)
    · refine lv_aload_n hx hb dX2_kinds_60 rfl (lv_at hl 3 rfl) ?_
      refine mg5 hx hb hts hown hK hu.1 dX2_kinds_61 ?_
      refine lv_iload_n hx hb dX2_kinds_64 rfl (lv_at hl 4 rfl) ?_
      refine lv_iload_n hx hb dX2_kinds_65 rfl (lv_at hl 2 rfl) ?_
      refine ms5 hx hb hK hu (by omega) dX2_kinds_66 (fun H locs hu => ?_)
      rw [put2_put2, ← (he.2.2 jx hjx).1.1, put2_self] at hu
      refine lv_iload_n hx hb dX2_kinds_67 rfl (lv_at hl 1 rfl) ?_
      exact rU_i hx hb hr hlk hu dX2_kinds_68 (Nat.le_of_ble_eq_true rfl) (Nat.le_of_ble_eq_true rfl) (⟨by rw [f_kinds, if_neg (bt_nf c1)]; simp only [ejx]; rw [show i = 3 by omega], τ, rfl, hm⟩)
    · refine lv_aload_n hx hb dX2_kinds_28 rfl (lv_at hl 3 rfl) ?_
      refine mg5 hx hb hts hown hK hu.1 dX2_kinds_29 ?_
      refine lv_iload_n hx hb dX2_kinds_32 rfl (lv_at hl 4 rfl) ?_
      refine lv_iload hx hb dX2_kinds_33 (lv_at hl 0 rfl) ?_
      refine ms5 hx hb hK hu (by omega) dX2_kinds_35 (fun H locs hu => ?_)
      rw [put2_put2] at hu
      refine lv_iload_n hx hb dX2_kinds_36 rfl (lv_at hl 1 rfl) ?_
      refine lv_aload_n hx hb dX2_kinds_37 rfl (lv_at hl 3 rfl) ?_
      refine callR_V (rest := [.int (nI (setN (fun v => soN (upN (aN σ) 0 jx v) (aN σ) (aB σ) (aD σ) (aF σ) (aR σ)) i))]) hx hb hml hown hts KM_st hK (cM_areSo l D d q Aq (put2 τ 5 jx (nI i)) (aD σ) (aE σ) (aR σ) (upN (aN σ) 0 jx i) (aN σ) (aB σ) hd (mEat_kind he jx (by omega)) hm.rd hR8 hok.2.2.2.2.2.1) (wX2_areSo hts ⟨Nat.le_of_ble_eq_true rfl, Nat.le_of_ble_eq_true rfl⟩) (m_recv hK hu.1) hu.1 rfl hl.1 rfl (Nat.le_of_ble_eq_true rfl) dX2_kinds_38 ⟨Nat.le_of_ble_eq_true rfl, Nat.le_of_ble_eq_true rfl⟩ ?_
      refine top_i (y := bI (soN (upN (aN σ) 0 jx i) (aN σ) (aB σ) (aD σ) (aF σ) (aR σ))) (by rw [← hm.fast]; rfl) ?_
      refine jn_i (ls := ls) (P := fun v => v = (if (soN (upN (aN σ) 0 jx i) (aN σ) (aB σ) (aD σ) (aF σ) (aR σ)) = false then (0 : Int32) else ((1 : Int32) <<< (nI i &&& 31)))) 52 [.int (nI (setN (fun v => soN (upN (aN σ) 0 jx v) (aN σ) (aB σ) (aD σ) (aF σ) (aR σ)) i))] (fun v ev => ?_) (fun kj3 => ?_)
      · refine lv_ior hx hb dX2_kinds_52 ?_
        refine top_i (y := nI (setN (fun v => soN (upN (aN σ) 0 jx v) (aN σ) (aB σ) (aD σ) (aF σ) (aR σ)) (i + 1))) (by rw [ev]; exact set_step (p := (fun v => soN (upN (aN σ) 0 jx v) (aN σ) (aB σ) (aD σ) (aF σ) (aR σ))) (by omega)) ?_
        refine lv_istore_n (lv' := [(3, .int (nI (setN (fun v => soN (upN (aN σ) 0 jx v) (aN σ) (aB σ) (aD σ) (aF σ) (aR σ)) (i + 1)))), (4, .int (nI i)), (2, .int (nI (aN σ 0 jx))), (0, .ref q), (1, .int (nI jx))]) hx hb dX2_kinds_53 rfl hl (by decide) rfl (fun ls hl => ?_)
        refine lv_iinc (v := nI (i + 1)) (lv' := [(4, .int (nI (i + 1))), (3, .int (nI (setN (fun v => soN (upN (aN σ) 0 jx v) (aN σ) (aB σ) (aD σ) (aF σ) (aR σ)) (i + 1)))), (2, .int (nI (aN σ 0 jx))), (0, .ref q), (1, .int (nI jx))]) hx hb dX2_kinds_54 hl (k := 1) rfl (inc_nI _) (by decide) rfl (fun ls hl => ?_)
        refine lv_goto (tgt := 22) hx hb dX2_kinds_57 (by decide) ?_
        exact ih22 (n22 - 1) (i + 1, nI i) _ _ ls (by omega) (by omega) hu (hl)
      · refine bz_eq (tgt := 51) hx hb dX2_kinds_41 (by decide) (fun c4 => ?_) (fun c4 => ?_)
        · refine lv_iconst (v := 0) hx hb dX2_kinds_51 (by decide) ?_
          exact kj3 _ (by rw [if_pos c4])
        · refine lv_iconst (v := 1) hx hb dX2_kinds_44 (by decide) ?_
          refine lv_iload hx hb dX2_kinds_45 (lv_at hl 0 rfl) ?_
          refine lv_ishl hx hb dX2_kinds_47 ?_
          refine lv_goto (tgt := 52) hx hb dX2_kinds_48 (by decide) ?_
          exact kj3 _ (by rw [if_neg (bt_nf c4)])
  · refine lv_iconst (v := (-1)) hx hb dX2_kinds_8 (by decide) ?_
    exact rU_i hx hb hr hlk hu dX2_kinds_9 (Nat.le_of_ble_eq_true rfl) (Nat.le_of_ble_eq_true rfl) (⟨by rw [f_kinds, if_pos c1], τ, rfl, hm⟩)

set_option maxHeartbeats 4000000 in
set_option maxRecDepth 100000 in
theorem cM_sours (l : Launch) (D : va_G) (d : Nat → ClassId) (H00 : Heap) (q : Nat) (Aq : Nat → Nat) (τ : Nat → Nat → Int32) (σ : ASt)  (hm : mRep σ τ)  : cU l (KM D d) H00 D yX2_sours cX2_sours 4 (some .int) (rc 4 0 0) [.ref q] (mw d q Aq τ) (mPost d q Aq (some (.int (f_sours σ))) σ) := by
  refine cU_start RX2 rfl (by decide) (Nat.le_of_ble_eq_true rfl) ?_
  intro p e s m below meth c A hx hb hml hown hts hr hlk hnm hK hA hAN hZ hu ls hl
  have hl : lv_has ls 4 [(0, .ref q)] := hl
  have hok := hm.ok
  have hD6 : aD σ ≤ 6 := hok.1
  have hE4 : aE σ ≤ 4 := hok.2.1
  have h64 := pow6 hD6
  have hd := hm.day
  have he := hm.eat
  have hR8 : aR σ ≤ 8 := hok.2.2.2.1
  refine lv_aload_n hx hb dX2_sours_0 rfl (lv_at hl 0 rfl) ?_
  refine mg4 hx hb hts hown hK hu.1 dX2_sours_1 ?_
  refine top_i (y := nI (aE σ)) (hm.eat.2.1) ?_
  refine nz_ne (tgt := 10) hx hb dX2_sours_4 (by decide) (by omega) (fun c1 => ?_) (fun c1 => ?_)
  · refine lv_aload_n hx hb dX2_sours_10 rfl (lv_at hl 0 rfl) ?_
    refine mg1 hx hb hts hown hK hu.1 dX2_sours_11 ?_
    refine top_i (y := aI σ 2) (hm.sour) ?_
    refine lv_istore_n (lv' := [(1, .int (aI σ 2)), (0, .ref q)]) hx hb dX2_sours_14 rfl hl (by decide) rfl (fun ls hl => ?_)
    refine lv_iconst (v := nI 0) hx hb dX2_sours_15 (by decide) ?_
    refine lv_istore_n (lv' := [(2, .int (nI 0)), (1, .int (aI σ 2)), (0, .ref q)]) hx hb dX2_sours_16 rfl hl (by decide) rfl (fun ls hl => ?_)
    refine lv_iconst (v := nI 0) hx hb dX2_sours_17 (by decide) ?_
    refine lv_istore_n (lv' := [(3, .int (nI 0)), (2, .int (nI 0)), (1, .int (aI σ 2)), (0, .ref q)]) hx hb dX2_sours_18 rfl hl (by decide) rfl (fun ls hl => ?_)
    refine lp_U (σ := Nat × Int32) (fun n19 zz => zz.1 + n19 = 10) (fun zz => [(3, .int (nI zz.1)), (2, .int (nI (setN (fun v => soN (aN σ) (aN σ) (aB σ) (aD σ) (fN (aL σ) (nI v) (-9) (aD σ)) (aR σ)) zz.1))), (1, .int (aI σ 2)), (0, .ref q)]) (fun zz => mw d q Aq (put2 τ 1 0 zz.2)) (fun n19 zz hI ih19 H locs ls hu hl => ?_) 10 (0, τ 1 0) (by omega) (by rw [put2_self]; exact hu) hl
    obtain ⟨i, w0⟩ := zz
    have hI : i + n19 = 10 := hI
    obtain hi := hI
    have hl : lv_has ls 4 [(3, .int (nI i)), (2, .int (nI (setN (fun v => soN (aN σ) (aN σ) (aB σ) (aD σ) (fN (aL σ) (nI v) (-9) (aD σ)) (aR σ)) i))), (1, .int (aI σ 2)), (0, .ref q)] := hl
    have hu : uW D A s.heap H locs (mw d q Aq (put2 τ 1 0 w0)) := hu
    refine lv_iload_n hx hb dX2_sours_19 rfl (lv_at hl 0 rfl) ?_
    refine lv_bipush (v := nI 10) hx hb dX2_sours_20 (by decide) ?_
    refine nc_ge (tgt := 53) hx hb dX2_sours_22 (by decide) (by omega) (by omega) (fun c2 => ?_) (fun c2 => ?_)
    · refine lv_aload_n hx hb dX2_sours_53 rfl (lv_at hl 3 rfl) ?_
      refine lv_iload_n hx hb dX2_sours_54 rfl (lv_at hl 2 rfl) ?_
      refine mp1 hx hb hts hown hK hu dX2_sours_55 (fun H locs hu => ?_)
      rw [put2_put2, ← hm.sour, put2_self] at hu
      refine lv_iload_n hx hb dX2_sours_58 rfl (lv_at hl 1 rfl) ?_
      exact rU_i hx hb hr hlk hu dX2_sours_59 (Nat.le_of_ble_eq_true rfl) (Nat.le_of_ble_eq_true rfl) (⟨by rw [f_sours, if_neg c1, show i = 10 by omega], τ, rfl, hm⟩)
    · refine lv_aload_n hx hb dX2_sours_25 rfl (lv_at hl 3 rfl) ?_
      refine lv_iload_n hx hb dX2_sours_26 rfl (lv_at hl 0 rfl) ?_
      refine mp1 hx hb hts hown hK hu dX2_sours_27 (fun H locs hu => ?_)
      rw [put2_put2] at hu
      refine lv_iload_n hx hb dX2_sours_30 rfl (lv_at hl 1 rfl) ?_
      refine lv_aload_n hx hb dX2_sours_31 rfl (lv_at hl 3 rfl) ?_
      refine callR_V (rest := [.int (nI (setN (fun v => soN (aN σ) (aN σ) (aB σ) (aD σ) (fN (aL σ) (nI v) (-9) (aD σ)) (aR σ)) i))]) hx hb hml hown hts KM_st hK (cM_areSo l D d q Aq (put2 τ 1 0 (nI i)) (aD σ) (aE σ) (aR σ) (aN σ) (aN σ) (aB σ) hd he hm.rd hR8 hok.2.2.2.2.2.1) (wX2_areSo hts ⟨Nat.le_of_ble_eq_true rfl, Nat.le_of_ble_eq_true rfl⟩) (m_recv hK hu.1) hu.1 rfl hl.1 rfl (Nat.le_of_ble_eq_true rfl) dX2_sours_32 ⟨Nat.le_of_ble_eq_true rfl, Nat.le_of_ble_eq_true rfl⟩ ?_
      refine top_i (y := bI (soN (aN σ) (aN σ) (aB σ) (aD σ) (fN (aL σ) (nI i) (-9) (aD σ)) (aR σ))) (by rw [← fN_congr hm.look, ← hm.no]; rfl) ?_
      refine jn_i (ls := ls) (P := fun v => v = (if (soN (aN σ) (aN σ) (aB σ) (aD σ) (fN (aL σ) (nI i) (-9) (aD σ)) (aR σ)) = false then (0 : Int32) else ((1 : Int32) <<< (nI i &&& 31)))) 45 [.int (nI (setN (fun v => soN (aN σ) (aN σ) (aB σ) (aD σ) (fN (aL σ) (nI v) (-9) (aD σ)) (aR σ)) i))] (fun v ev => ?_) (fun kj3 => ?_)
      · refine lv_ior hx hb dX2_sours_45 ?_
        refine top_i (y := nI (setN (fun v => soN (aN σ) (aN σ) (aB σ) (aD σ) (fN (aL σ) (nI v) (-9) (aD σ)) (aR σ)) (i + 1))) (by rw [ev]; exact set_step (p := (fun v => soN (aN σ) (aN σ) (aB σ) (aD σ) (fN (aL σ) (nI v) (-9) (aD σ)) (aR σ))) (by omega)) ?_
        refine lv_istore_n (lv' := [(2, .int (nI (setN (fun v => soN (aN σ) (aN σ) (aB σ) (aD σ) (fN (aL σ) (nI v) (-9) (aD σ)) (aR σ)) (i + 1)))), (3, .int (nI i)), (1, .int (aI σ 2)), (0, .ref q)]) hx hb dX2_sours_46 rfl hl (by decide) rfl (fun ls hl => ?_)
        refine lv_iinc (v := nI (i + 1)) (lv' := [(3, .int (nI (i + 1))), (2, .int (nI (setN (fun v => soN (aN σ) (aN σ) (aB σ) (aD σ) (fN (aL σ) (nI v) (-9) (aD σ)) (aR σ)) (i + 1)))), (1, .int (aI σ 2)), (0, .ref q)]) hx hb dX2_sours_47 hl (k := 1) rfl (inc_nI _) (by decide) rfl (fun ls hl => ?_)
        refine lv_goto (tgt := 19) hx hb dX2_sours_50 (by decide) ?_
        exact ih19 (n19 - 1) (i + 1, nI i) _ _ ls (by omega) (by omega) hu (hl)
      · refine bz_eq (tgt := 44) hx hb dX2_sours_35 (by decide) (fun c4 => ?_) (fun c4 => ?_)
        · refine lv_iconst (v := 0) hx hb dX2_sours_44 (by decide) ?_
          exact kj3 _ (by rw [if_pos c4])
        · refine lv_iconst (v := 1) hx hb dX2_sours_38 (by decide) ?_
          refine lv_iload_n hx hb dX2_sours_39 rfl (lv_at hl 0 rfl) ?_
          refine lv_ishl hx hb dX2_sours_40 ?_
          refine lv_goto (tgt := 45) hx hb dX2_sours_41 (by decide) ?_
          exact kj3 _ (by rw [if_neg (bt_nf c4)])
  · refine lv_bipush (v := (-3)) hx hb dX2_sours_7 (by decide) ?_
    exact rU_i hx hb hr hlk hu dX2_sours_9 (Nat.le_of_ble_eq_true rfl) (Nat.le_of_ble_eq_true rfl) (⟨by rw [f_sours, if_pos c1], τ, rfl, hm⟩)

set_option maxHeartbeats 4000000 in
set_option maxRecDepth 100000 in
theorem cM_smile (l : Launch) (D : va_G) (d : Nat → ClassId) (H00 : Heap) (q : Nat) (Aq : Nat → Nat) (τ : Nat → Nat → Int32) (σ : ASt) (w : Int32) (hm : mRep σ τ)  : cU l (KM D d) H00 D yX2_smile cX2_smile 8 (some .int) (rc 6 0 0) [.ref q, .int w] (mw d q Aq τ) (mPost d q Aq (some (.int (f_smile σ w))) σ) := by
  refine cU_start RX2 rfl (by decide) (Nat.le_of_ble_eq_true rfl) ?_
  intro p e s m below meth c A hx hb hml hown hts hr hlk hnm hK hA hAN hZ hu ls hl
  have hl : lv_has ls 8 [(0, .ref q), (1, .int w)] := hl
  have hok := hm.ok
  have hD6 : aD σ ≤ 6 := hok.1
  have hE4 : aE σ ≤ 4 := hok.2.1
  have h64 := pow6 hD6
  have hd := hm.day
  have he := hm.eat
  have hsp : ∀ a, a < aE σ → aN σ 2 a < 10 := fun a h => (he.2.2 a h).2.2.1.2
  refine lv_iload_n hx hb dX2_smile_0 rfl (lv_at hl 1 rfl) ?_
  refine lv_i2l (v := w.toInt64) hx hb dX2_smile_1 rfl ?_
  refine lv_lconst (v := 0) hx hb dX2_smile_2 (by decide) ?_
  refine lv_lconst (v := 1) hx hb dX2_smile_3 (by decide) ?_
  refine callR_S (rest := []) hx hb hml hown hts KM_st hK (cM_in l D d w.toInt64 0 1) (wX2_in hts ⟨Nat.le_of_ble_eq_true rfl, Nat.le_of_ble_eq_true rfl⟩) trivial rfl hl.1 rfl (Nat.le_of_ble_eq_true rfl) dX2_smile_4 ⟨Nat.le_of_ble_eq_true rfl, Nat.le_of_ble_eq_true rfl⟩ ?_
  refine bz_ne (tgt := 13) hx hb dX2_smile_7 (by decide) (fun c1 => ?_) (fun c1 => ?_)
  · refine lv_aload_n hx hb dX2_smile_13 rfl (lv_at hl 0 rfl) ?_
    refine mg4 hx hb hts hown hK hu.1 dX2_smile_14 ?_
    refine top_i (y := nI (aE σ)) (hm.eat.2.1) ?_
    refine nz_ne (tgt := 23) hx hb dX2_smile_17 (by decide) (by omega) (fun c2 => ?_) (fun c2 => ?_)
    · refine lv_aload_n hx hb dX2_smile_23 rfl (lv_at hl 0 rfl) ?_
      refine callR_V (rest := []) hx hb hml hown hts KM_st hK (cM_fastsNow l D d q Aq τ (aD σ) hd) (wX2_fastsNow hts ⟨Nat.le_of_ble_eq_true rfl, Nat.le_of_ble_eq_true rfl⟩) (m_recv hK hu.1) hu.1 rfl hl.1 rfl (Nat.le_of_ble_eq_true rfl) dX2_smile_24 ⟨Nat.le_of_ble_eq_true rfl, Nat.le_of_ble_eq_true rfl⟩ ?_
      refine top_i (y := nI (aF σ)) (by rw [hm.fast]) ?_
      refine lv_istore_n (lv' := [(2, .int (nI (aF σ))), (0, .ref q), (1, .int w)]) hx hb dX2_smile_27 rfl hl (by decide) rfl (fun ls hl => ?_)
      refine lv_bipush (v := (-9)) hx hb dX2_smile_28 (by decide) ?_
      refine lv_istore_n (lv' := [(3, .int (-9)), (2, .int (nI (aF σ))), (0, .ref q), (1, .int w)]) hx hb dX2_smile_30 rfl hl (by decide) rfl (fun ls hl => ?_)
      refine lv_bipush (v := (-9)) hx hb dX2_smile_31 (by decide) ?_
      refine lv_istore (lv' := [(4, .int (-9)), (3, .int (-9)), (2, .int (nI (aF σ))), (0, .ref q), (1, .int w)]) hx hb dX2_smile_33 hl (by decide) rfl (fun ls hl => ?_)
      refine lv_iconst (v := nI 0) hx hb dX2_smile_35 (by decide) ?_
      refine lv_istore (lv' := [(5, .int (nI 0)), (4, .int (-9)), (3, .int (-9)), (2, .int (nI (aF σ))), (0, .ref q), (1, .int w)]) hx hb dX2_smile_36 hl (by decide) rfl (fun ls hl => ?_)
      refine lp_U (σ := Nat × Int32) (fun n38 zz => zz.1 + n38 = aD σ) (fun zz => [(5, .int (nI zz.1)), (4, .int (oB (smi (aN σ) (aD σ) (aE σ) (aF σ) zz.1))), (3, .int (oA (smi (aN σ) (aD σ) (aE σ) (aF σ) zz.1))), (2, .int (nI (aF σ))), (0, .ref q), (1, .int w)]) (fun zz => mw d q Aq (put2 τ 9 0 zz.2)) (fun n38 zz hI ih38 H locs ls hu hl => ?_) (aD σ) (0, τ 9 0) (by omega) (by rw [put2_self]; exact hu) hl
      obtain ⟨i, w0⟩ := zz
      have hI : i + n38 = aD σ := hI
      obtain hi := hI
      have hl : lv_has ls 8 [(5, .int (nI i)), (4, .int (oB (smi (aN σ) (aD σ) (aE σ) (aF σ) i))), (3, .int (oA (smi (aN σ) (aD σ) (aE σ) (aF σ) i))), (2, .int (nI (aF σ))), (0, .ref q), (1, .int w)] := hl
      have hu : uW D A s.heap H locs (mw d q Aq (put2 τ 9 0 w0)) := hu
      refine lv_iload hx hb dX2_smile_38 (lv_at hl 0 rfl) ?_
      refine lv_aload_n hx hb dX2_smile_40 rfl (lv_at hl 4 rfl) ?_
      refine mg2 hx hb hts hown hK hu.1 dX2_smile_41 ?_
      refine top_i (y := nI (aD σ)) (hm.day.2) ?_
      refine nc_ge (tgt := 123) hx hb dX2_smile_44 (by decide) (by omega) (by omega) (fun c3 => ?_) (fun c3 => ?_)
      · refine lv_aload_n hx hb dX2_smile_123 rfl (lv_at hl 4 rfl) ?_
        refine lv_bipush (v := (-9)) hx hb dX2_smile_124 (by decide) ?_
        refine mp9 hx hb hts hown hK hu dX2_smile_126 (fun H locs hu => ?_)
        rw [put2_put2, ← hm.no, put2_self] at hu
        refine lv_iload_n hx hb dX2_smile_129 rfl (lv_at hl 5 rfl) ?_
        refine lv_if_ne (tgt := 137) hx hb dX2_smile_130 (by decide) (fun c4 => ?_) (fun c4 => ?_)
        · refine lv_iload hx hb dX2_smile_137 (lv_at hl 1 rfl) ?_
          exact rU_i hx hb hr hlk hu dX2_smile_139 (Nat.le_of_ble_eq_true rfl) (Nat.le_of_ble_eq_true rfl) (⟨by rw [f_smile, if_neg (bt_nf c1), if_neg c2, if_neg c4, show i = aD σ by omega], τ, rfl, hm⟩)
        · refine lv_iload_n hx hb dX2_smile_133 rfl (lv_at hl 2 rfl) ?_
          refine lv_goto (tgt := 139) hx hb dX2_smile_134 (by decide) ?_
          exact rU_i hx hb hr hlk hu dX2_smile_139 (Nat.le_of_ble_eq_true rfl) (Nat.le_of_ble_eq_true rfl) (⟨by rw [f_smile, if_neg (bt_nf c1), if_neg c2, if_pos c4, show i = aD σ by omega], τ, rfl, hm⟩)
      · refine lv_iload_n hx hb dX2_smile_47 rfl (lv_at hl 3 rfl) ?_
        refine lv_iload hx hb dX2_smile_48 (lv_at hl 0 rfl) ?_
        refine callR_S (rest := []) hx hb hml hown hts KM_st hK (cM_isIn l D d (nI (aF σ)) (nI i)) (wX2_isIn hts ⟨Nat.le_of_ble_eq_true rfl, Nat.le_of_ble_eq_true rfl⟩) trivial rfl hl.1 rfl (Nat.le_of_ble_eq_true rfl) dX2_smile_50 ⟨Nat.le_of_ble_eq_true rfl, Nat.le_of_ble_eq_true rfl⟩ ?_
        have hF : aF σ < 64 := Nat.lt_of_lt_of_le (fN_lt _ _ _ _) h64
        refine top_i (y := bI ((aF σ).testBit i)) (by rw [pBit_nI _ hF _ (by omega)]) ?_
        refine bz_eq (tgt := 117) hx hb dX2_smile_53 (by decide) (fun c5 => ?_) (fun c5 => ?_)
        · refine lv_iinc (v := nI (i + 1)) (lv' := [(5, .int (nI (i + 1))), (4, .int (oB (smi (aN σ) (aD σ) (aE σ) (aF σ) i))), (3, .int (oA (smi (aN σ) (aD σ) (aE σ) (aF σ) i))), (2, .int (nI (aF σ))), (0, .ref q), (1, .int w)]) hx hb dX2_smile_117 hl (k := 0) rfl (inc_nI _) (by decide) rfl (fun ls hl => ?_)
          refine lv_goto (tgt := 38) hx hb dX2_smile_120 (by decide) ?_
          have es : (smi (aN σ) (aD σ) (aE σ) (aF σ) (i + 1)) = (smi (aN σ) (aD σ) (aE σ) (aF σ) i) := smi_0 c5
          exact ih38 (n38 - 1) (i + 1, w0) _ _ ls (by omega) (by omega) hu ((by rw [es]; exact hl))
        · refine lv_aload_n hx hb dX2_smile_56 rfl (lv_at hl 4 rfl) ?_
          refine lv_iload hx hb dX2_smile_57 (lv_at hl 0 rfl) ?_
          refine mp9 hx hb hts hown hK hu dX2_smile_59 (fun H locs hu => ?_)
          rw [put2_put2] at hu
          refine lv_aload_n hx hb dX2_smile_62 rfl (lv_at hl 4 rfl) ?_
          refine callR_V (rest := []) hx hb hml hown hts KM_st hK (cM_villageNow l D d q Aq (put2 τ 9 0 (nI i)) (aD σ) (aE σ) (aN σ) hd he) (wX2_villageNow hts ⟨Nat.le_of_ble_eq_true rfl, Nat.le_of_ble_eq_true rfl⟩) (m_recv hK hu.1) hu.1 rfl hl.1 rfl (Nat.le_of_ble_eq_true rfl) dX2_smile_63 ⟨Nat.le_of_ble_eq_true rfl, Nat.le_of_ble_eq_true rfl⟩ ?_
          refine top_i (y := oI (vil (aN σ) (aD σ) (clr (aF σ) i) (aE σ))) (by rw [show clr (aF σ) i = fN (aL σ) (aI σ 2) (nI i) (aD σ) from (fN_clr hD6 (by omega)).symm, ← fN_congr hm.look, ← hm.sour]; rfl) ?_
          refine lv_istore (lv' := [(6, .int (oI (vil (aN σ) (aD σ) (clr (aF σ) i) (aE σ)))), (5, .int (nI i)), (4, .int (oB (smi (aN σ) (aD σ) (aE σ) (aF σ) i))), (3, .int (oA (smi (aN σ) (aD σ) (aE σ) (aF σ) i))), (2, .int (nI (aF σ))), (0, .ref q), (1, .int w)]) hx hb dX2_smile_66 hl (by decide) rfl (fun ls hl => ?_)
          rcases hv : vil (aN σ) (aD σ) (clr (aF σ) i) (aE σ) with _ | x
          · rw [hv] at hl
            have hl : lv_has ls 8 [(6, .int (-9)), (5, .int (nI i)), (4, .int (oB (smi (aN σ) (aD σ) (aE σ) (aF σ) i))), (3, .int (oA (smi (aN σ) (aD σ) (aE σ) (aF σ) i))), (2, .int (nI (aF σ))), (0, .ref q), (1, .int w)] := hl
            refine lv_iload hx hb dX2_smile_68 (lv_at hl 0 rfl) ?_
            refine lv_if_lt (tgt := 88) hx hb dX2_smile_70 (by decide) (fun c0 => ?_) (fun c0 => absurd (by decide) c0)
            refine lv_iconst (v := 0) hx hb dX2_smile_88 (by decide) ?_
            refine lv_istore (lv' := [(7, .int 0), (6, .int (-9)), (5, .int (nI i)), (4, .int (oB (smi (aN σ) (aD σ) (aE σ) (aF σ) i))), (3, .int (oA (smi (aN σ) (aD σ) (aE σ) (aF σ) i))), (2, .int (nI (aF σ))), (0, .ref q), (1, .int w)]) hx hb dX2_smile_89 hl (by decide) rfl (fun ls hl => ?_)
            refine lv_iload hx hb dX2_smile_91 (lv_at hl 0 rfl) ?_
            refine lv_if_eq (tgt := 101) hx hb dX2_smile_93 (by decide) (fun c0 => ?_) (fun c0 => absurd (by decide) c0)
            refine lv_iload_n hx hb dX2_smile_101 rfl (lv_at hl 4 rfl) ?_
            refine lv_istore_n (lv' := [(3, .int (oA (smi (aN σ) (aD σ) (aE σ) (aF σ) i))), (7, .int 0), (6, .int (-9)), (5, .int (nI i)), (4, .int (oB (smi (aN σ) (aD σ) (aE σ) (aF σ) i))), (2, .int (nI (aF σ))), (0, .ref q), (1, .int w)]) hx hb dX2_smile_102 rfl hl (by decide) rfl (fun ls hl => ?_)
            refine lv_iload hx hb dX2_smile_103 (lv_at hl 1 rfl) ?_
            refine lv_if_eq (tgt := 113) hx hb dX2_smile_105 (by decide) (fun c0 => ?_) (fun c0 => absurd (by decide) c0)
            refine lv_iload hx hb dX2_smile_113 (lv_at hl 4 rfl) ?_
            refine lv_istore (lv' := [(4, .int (oB (smi (aN σ) (aD σ) (aE σ) (aF σ) i))), (3, .int (oA (smi (aN σ) (aD σ) (aE σ) (aF σ) i))), (7, .int 0), (6, .int (-9)), (5, .int (nI i)), (2, .int (nI (aF σ))), (0, .ref q), (1, .int w)]) hx hb dX2_smile_115 hl (by decide) rfl (fun ls hl => ?_)
            refine lv_iinc (v := nI (i + 1)) (lv' := [(5, .int (nI (i + 1))), (4, .int (oB (smi (aN σ) (aD σ) (aE σ) (aF σ) i))), (3, .int (oA (smi (aN σ) (aD σ) (aE σ) (aF σ) i))), (7, .int 0), (6, .int (-9)), (2, .int (nI (aF σ))), (0, .ref q), (1, .int w)]) hx hb dX2_smile_117 hl (k := 4) rfl (inc_nI _) (by decide) rfl (fun ls hl => ?_)
            refine lv_goto (tgt := 38) hx hb dX2_smile_120 (by decide) ?_
            have es : (smi (aN σ) (aD σ) (aE σ) (aF σ) (i + 1)) = (smi (aN σ) (aD σ) (aE σ) (aF σ) i) := smi_1 c5 hv
            exact ih38 (n38 - 1) (i + 1, nI i) _ _ ls (by omega) (by omega) hu ((by rw [es]; exact (lv_sub hl [0, 1, 2, 5, 6, 7] rfl)))
          · have hx1 := vil_le hsp x hv
            rcases hs : smi (aN σ) (aD σ) (aE σ) (aF σ) i with _ | b
            · rw [hv, hs] at hl
              have hl : lv_has ls 8 [(6, .int (nI x)), (5, .int (nI i)), (4, .int (-9)), (3, .int (-9)), (2, .int (nI (aF σ))), (0, .ref q), (1, .int w)] := hl
              refine lv_iload hx hb dX2_smile_68 (lv_at hl 0 rfl) ?_
              refine lv_if_lt (tgt := 88) hx hb dX2_smile_70 (by decide) (fun c0 => absurd c0 (nI_pos (by omega))) (fun c0 => ?_)
              refine lv_iload_n hx hb dX2_smile_73 rfl (lv_at hl 3 rfl) ?_
              refine lv_if_lt (tgt := 84) hx hb dX2_smile_74 (by decide) (fun c0 => ?_) (fun c0 => absurd (by decide) c0)
              refine lv_iconst (v := 1) hx hb dX2_smile_84 (by decide) ?_
              refine lv_goto (tgt := 89) hx hb dX2_smile_85 (by decide) ?_
              refine lv_istore (lv' := [(7, .int 1), (6, .int (nI x)), (5, .int (nI i)), (4, .int (-9)), (3, .int (-9)), (2, .int (nI (aF σ))), (0, .ref q), (1, .int w)]) hx hb dX2_smile_89 hl (by decide) rfl (fun ls hl => ?_)
              refine lv_iload hx hb dX2_smile_91 (lv_at hl 0 rfl) ?_
              refine lv_if_eq (tgt := 101) hx hb dX2_smile_93 (by decide) (fun c0 => absurd c0 (by decide)) (fun c0 => ?_)
              refine lv_iload hx hb dX2_smile_96 (lv_at hl 2 rfl) ?_
              refine lv_goto (tgt := 102) hx hb dX2_smile_98 (by decide) ?_
              refine lv_istore_n (lv' := [(3, .int (nI i)), (7, .int 1), (6, .int (nI x)), (5, .int (nI i)), (4, .int (-9)), (2, .int (nI (aF σ))), (0, .ref q), (1, .int w)]) hx hb dX2_smile_102 rfl hl (by decide) rfl (fun ls hl => ?_)
              refine lv_iload hx hb dX2_smile_103 (lv_at hl 1 rfl) ?_
              refine lv_if_eq (tgt := 113) hx hb dX2_smile_105 (by decide) (fun c0 => absurd c0 (by decide)) (fun c0 => ?_)
              refine lv_iload hx hb dX2_smile_108 (lv_at hl 2 rfl) ?_
              refine lv_goto (tgt := 115) hx hb dX2_smile_110 (by decide) ?_
              refine lv_istore (lv' := [(4, .int (nI x)), (3, .int (nI i)), (7, .int 1), (6, .int (nI x)), (5, .int (nI i)), (2, .int (nI (aF σ))), (0, .ref q), (1, .int w)]) hx hb dX2_smile_115 hl (by decide) rfl (fun ls hl => ?_)
              refine lv_iinc (v := nI (i + 1)) (lv' := [(5, .int (nI (i + 1))), (4, .int (nI x)), (3, .int (nI i)), (7, .int 1), (6, .int (nI x)), (2, .int (nI (aF σ))), (0, .ref q), (1, .int w)]) hx hb dX2_smile_117 hl (k := 4) rfl (inc_nI _) (by decide) rfl (fun ls hl => ?_)
              refine lv_goto (tgt := 38) hx hb dX2_smile_120 (by decide) ?_
              have es : (smi (aN σ) (aD σ) (aE σ) (aF σ) (i + 1)) = some (i, x) := smi_2 c5 hv hs
              exact ih38 (n38 - 1) (i + 1, nI i) _ _ ls (by omega) (by omega) hu ((by rw [es]; exact (lv_sub hl [0, 1, 2, 5, 6, 7] rfl)))
            · rw [hv, hs] at hl
              have hl : lv_has ls 8 [(6, .int (nI x)), (5, .int (nI i)), (4, .int (nI b.2)), (3, .int (nI b.1)), (2, .int (nI (aF σ))), (0, .ref q), (1, .int w)] := hl
              have hb1 := smi_lt hsp i b hs
              refine lv_iload hx hb dX2_smile_68 (lv_at hl 0 rfl) ?_
              refine lv_if_lt (tgt := 88) hx hb dX2_smile_70 (by decide) (fun c0 => absurd c0 (nI_pos (by omega))) (fun c0 => ?_)
              refine lv_iload_n hx hb dX2_smile_73 rfl (lv_at hl 3 rfl) ?_
              refine lv_if_lt (tgt := 84) hx hb dX2_smile_74 (by decide) (fun c0 => absurd c0 (nI_pos (by omega))) (fun c0 => ?_)
              refine lv_iload hx hb dX2_smile_77 (lv_at hl 0 rfl) ?_
              refine lv_iload hx hb dX2_smile_79 (lv_at hl 2 rfl) ?_
              refine nc_ge (tgt := 88) hx hb dX2_smile_81 (by decide) (by omega) (by omega) (fun c6 => ?_) (fun c6 => ?_)
              · refine lv_iconst (v := 0) hx hb dX2_smile_88 (by decide) ?_
                refine lv_istore (lv' := [(7, .int 0), (6, .int (nI x)), (5, .int (nI i)), (4, .int (nI b.2)), (3, .int (nI b.1)), (2, .int (nI (aF σ))), (0, .ref q), (1, .int w)]) hx hb dX2_smile_89 hl (by decide) rfl (fun ls hl => ?_)
                refine lv_iload hx hb dX2_smile_91 (lv_at hl 0 rfl) ?_
                refine lv_if_eq (tgt := 101) hx hb dX2_smile_93 (by decide) (fun c0 => ?_) (fun c0 => absurd (by decide) c0)
                refine lv_iload_n hx hb dX2_smile_101 rfl (lv_at hl 4 rfl) ?_
                refine lv_istore_n (lv' := [(3, .int (nI b.1)), (7, .int 0), (6, .int (nI x)), (5, .int (nI i)), (4, .int (nI b.2)), (2, .int (nI (aF σ))), (0, .ref q), (1, .int w)]) hx hb dX2_smile_102 rfl hl (by decide) rfl (fun ls hl => ?_)
                refine lv_iload hx hb dX2_smile_103 (lv_at hl 1 rfl) ?_
                refine lv_if_eq (tgt := 113) hx hb dX2_smile_105 (by decide) (fun c0 => ?_) (fun c0 => absurd (by decide) c0)
                refine lv_iload hx hb dX2_smile_113 (lv_at hl 4 rfl) ?_
                refine lv_istore (lv' := [(4, .int (nI b.2)), (3, .int (nI b.1)), (7, .int 0), (6, .int (nI x)), (5, .int (nI i)), (2, .int (nI (aF σ))), (0, .ref q), (1, .int w)]) hx hb dX2_smile_115 hl (by decide) rfl (fun ls hl => ?_)
                refine lv_iinc (v := nI (i + 1)) (lv' := [(5, .int (nI (i + 1))), (4, .int (nI b.2)), (3, .int (nI b.1)), (7, .int 0), (6, .int (nI x)), (2, .int (nI (aF σ))), (0, .ref q), (1, .int w)]) hx hb dX2_smile_117 hl (k := 4) rfl (inc_nI _) (by decide) rfl (fun ls hl => ?_)
                refine lv_goto (tgt := 38) hx hb dX2_smile_120 (by decide) ?_
                have es : (smi (aN σ) (aD σ) (aE σ) (aF σ) (i + 1)) = some b := smi_4 c5 hv hs c6
                exact ih38 (n38 - 1) (i + 1, nI i) _ _ ls (by omega) (by omega) hu ((by rw [es]; exact (lv_sub hl [0, 1, 2, 5, 6, 7] rfl)))
              · refine lv_iconst (v := 1) hx hb dX2_smile_84 (by decide) ?_
                refine lv_goto (tgt := 89) hx hb dX2_smile_85 (by decide) ?_
                refine lv_istore (lv' := [(7, .int 1), (6, .int (nI x)), (5, .int (nI i)), (4, .int (nI b.2)), (3, .int (nI b.1)), (2, .int (nI (aF σ))), (0, .ref q), (1, .int w)]) hx hb dX2_smile_89 hl (by decide) rfl (fun ls hl => ?_)
                refine lv_iload hx hb dX2_smile_91 (lv_at hl 0 rfl) ?_
                refine lv_if_eq (tgt := 101) hx hb dX2_smile_93 (by decide) (fun c0 => absurd c0 (by decide)) (fun c0 => ?_)
                refine lv_iload hx hb dX2_smile_96 (lv_at hl 2 rfl) ?_
                refine lv_goto (tgt := 102) hx hb dX2_smile_98 (by decide) ?_
                refine lv_istore_n (lv' := [(3, .int (nI i)), (7, .int 1), (6, .int (nI x)), (5, .int (nI i)), (4, .int (nI b.2)), (2, .int (nI (aF σ))), (0, .ref q), (1, .int w)]) hx hb dX2_smile_102 rfl hl (by decide) rfl (fun ls hl => ?_)
                refine lv_iload hx hb dX2_smile_103 (lv_at hl 1 rfl) ?_
                refine lv_if_eq (tgt := 113) hx hb dX2_smile_105 (by decide) (fun c0 => absurd c0 (by decide)) (fun c0 => ?_)
                refine lv_iload hx hb dX2_smile_108 (lv_at hl 2 rfl) ?_
                refine lv_goto (tgt := 115) hx hb dX2_smile_110 (by decide) ?_
                refine lv_istore (lv' := [(4, .int (nI x)), (3, .int (nI i)), (7, .int 1), (6, .int (nI x)), (5, .int (nI i)), (2, .int (nI (aF σ))), (0, .ref q), (1, .int w)]) hx hb dX2_smile_115 hl (by decide) rfl (fun ls hl => ?_)
                refine lv_iinc (v := nI (i + 1)) (lv' := [(5, .int (nI (i + 1))), (4, .int (nI x)), (3, .int (nI i)), (7, .int 1), (6, .int (nI x)), (2, .int (nI (aF σ))), (0, .ref q), (1, .int w)]) hx hb dX2_smile_117 hl (k := 4) rfl (inc_nI _) (by decide) rfl (fun ls hl => ?_)
                refine lv_goto (tgt := 38) hx hb dX2_smile_120 (by decide) ?_
                have es : (smi (aN σ) (aD σ) (aE σ) (aF σ) (i + 1)) = some (i, x) := smi_3 c5 hv hs c6
                exact ih38 (n38 - 1) (i + 1, nI i) _ _ ls (by omega) (by omega) hu ((by rw [es]; exact (lv_sub hl [0, 1, 2, 5, 6, 7] rfl)))
    · refine lv_bipush (v := (-3)) hx hb dX2_smile_20 (by decide) ?_
      exact rU_i hx hb hr hlk hu dX2_smile_22 (Nat.le_of_ble_eq_true rfl) (Nat.le_of_ble_eq_true rfl) (⟨by rw [f_smile, if_neg (bt_nf c1), if_pos c2], τ, rfl, hm⟩)
  · refine lv_bipush (v := (-2)) hx hb dX2_smile_10 (by decide) ?_
    exact rU_i hx hb hr hlk hu dX2_smile_12 (Nat.le_of_ble_eq_true rfl) (Nat.le_of_ble_eq_true rfl) (⟨by rw [f_smile, if_pos c1], τ, rfl, hm⟩)
