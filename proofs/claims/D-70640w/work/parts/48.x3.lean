/-! X: its internal methods over the eaters -/
set_option maxHeartbeats 4000000 in
set_option maxRecDepth 100000 in
theorem cX_isEater (l : Launch) (D : va_G) (d : Nat → ClassId) (B : Nat → Nat) (τ : Nat → Nat → Int32) (ea : Nat) (hs : Nat → Option Nat) (ρ : va_W) (e0 : Nat) (F : Nat → Nat) (n dd : Nat) (E : Nat → Nat → Nat) (x : Int32) (hE : xEat ρ (B 0) τ n E F) (hL : xLst d ρ τ ea e0 n F) (hd : τ 4 0 = nI dd) (hd6 : dd ≤ 6)  : cR l (KX D d) yX0_isEater cX0_isEater 2 (some .boolean) (rk 1) [.ref (B 0), .int x] (va_P D vwCl (xw d B τ ea hs ρ)) (.int (bI (pIn x.toInt64 0 ((nI n).toInt64 - 1)))) := by
  refine cR_start RX0 rfl (by decide) (Nat.le_of_ble_eq_true rfl) ?_
  intro p e s m below meth c hx hb hml hown hts hr hlk hK hP ls hl
  have hl : lv_has ls 2 [(0, .ref (B 0)), (1, .int x)] := hl
  have hn4 := hE.1
  have h64 := pow6 hd6
  refine lv_iload_n hx hb dX0_isEater_0 rfl (lv_at hl 1 rfl) ?_
  refine lv_i2l (v := x.toInt64) hx hb dX0_isEater_1 rfl ?_
  refine lv_lconst (v := 0) hx hb dX0_isEater_2 (by decide) ?_
  refine lv_aload_n hx hb dX0_isEater_3 rfl (lv_at hl 0 rfl) ?_
  refine xg2 hx hb hts hown hK hP dX0_isEater_4 ?_
  refine xr_size (rest := [.long 0, .long x.toInt64]) hx hb hml hown hts hK hP hL ⟨Nat.le_of_ble_eq_true rfl, Nat.le_of_ble_eq_true rfl⟩ ⟨Nat.zero_le _, Nat.zero_le _⟩ hl.1 (Nat.le_of_ble_eq_true rfl) dX0_isEater_7 ?_
  refine lv_i2l (v := (nI n).toInt64) hx hb dX0_isEater_12 rfl ?_
  refine lv_lconst (v := 1) hx hb dX0_isEater_13 (by decide) ?_
  refine lv_lsub hx hb dX0_isEater_14 ?_
  refine callR_S (rest := []) hx hb hml hown hts KX_st hK (cX_isIn l D d x.toInt64 0 ((nI n).toInt64 - 1)) (wX0_isIn hts ⟨Nat.le_of_ble_eq_true rfl, Nat.le_of_ble_eq_true rfl⟩) trivial rfl hl.1 rfl (Nat.le_of_ble_eq_true rfl) dX0_isEater_15 ⟨Nat.zero_le _, Nat.zero_le _⟩ ?_
  exact rR_z hx hb hr hlk dX0_isEater_18 (rfl)

set_option maxHeartbeats 4000000 in
set_option maxRecDepth 100000 in
theorem cX_villageBy (l : Launch) (D : va_G) (d : Nat → ClassId) (B : Nat → Nat) (τ : Nat → Nat → Int32) (ea : Nat) (hs : Nat → Option Nat) (ρ : va_W) (e0 : Nat) (F : Nat → Nat) (n dd : Nat) (E : Nat → Nat → Nat) (G : Nat) (hE : xEat ρ (B 0) τ n E F) (hL : xLst d ρ τ ea e0 n F) (hd : τ 4 0 = nI dd) (hd6 : dd ≤ 6)  : cR l (KX D d) yX0_villageBy cX0_villageBy 6 (some .int) (rk 9) [.ref (B 0), .int (nI G)] (va_P D vwCl (xw d B τ ea hs ρ)) (.int (oI (vil E dd G n))) := by
  refine cR_start RX0 rfl (by decide) (Nat.le_of_ble_eq_true rfl) ?_
  intro p e s m below meth c hx hb hml hown hts hr hlk hK hP ls hl
  have hl : lv_has ls 6 [(0, .ref (B 0)), (1, .int (nI G))] := hl
  have hn4 := hE.1
  have h64 := pow6 hd6
  refine lv_iconst (v := nI 0) hx hb dX0_villageBy_0 (by decide) ?_
  refine lv_istore_n (lv' := [(2, .int (nI 0)), (0, .ref (B 0)), (1, .int (nI G))]) hx hb dX0_villageBy_1 rfl hl (by decide) rfl (fun ls hl => ?_)
  refine lv_iconst (v := nI 0) hx hb dX0_villageBy_2 (by decide) ?_
  refine lv_istore_n (lv' := [(3, .int (nI 0)), (2, .int (nI 0)), (0, .ref (B 0)), (1, .int (nI G))]) hx hb dX0_villageBy_3 rfl hl (by decide) rfl (fun ls hl => ?_)
  refine lp_R (σ := Nat × Nat) (fun n4 zz => zz.1 + n4 = n ∧ vil E dd G zz.1 = some zz.2) (fun zz => [(3, .int (nI zz.1)), (2, .int (nI zz.2)), (0, .ref (B 0)), (1, .int (nI G))]) (fun n4 zz hI ih4 ls hl => ?_) n (0, 0) (⟨by omega, rfl⟩) hl
  obtain ⟨i, x⟩ := zz
  have hI : i + n4 = n ∧ vil E dd G i = some x := hI
  obtain ⟨hi, hv⟩ := hI
  have hl : lv_has ls 6 [(3, .int (nI i)), (2, .int (nI x)), (0, .ref (B 0)), (1, .int (nI G))] := hl
  refine lv_iload_n hx hb dX0_villageBy_4 rfl (lv_at hl 0 rfl) ?_
  refine lv_aload_n hx hb dX0_villageBy_5 rfl (lv_at hl 2 rfl) ?_
  refine xg2 hx hb hts hown hK hP dX0_villageBy_6 ?_
  refine xr_size (rest := [.int (nI i)]) hx hb hml hown hts hK hP hL ⟨Nat.le_of_ble_eq_true rfl, Nat.le_of_ble_eq_true rfl⟩ ⟨Nat.zero_le _, Nat.zero_le _⟩ hl.1 (Nat.le_of_ble_eq_true rfl) dX0_villageBy_9 ?_
  refine nc_ge (tgt := 67) hx hb dX0_villageBy_14 (by decide) (by omega) (by omega) (fun c1 => ?_) (fun c1 => ?_)
  · refine lv_iload_n hx hb dX0_villageBy_67 rfl (lv_at hl 1 rfl) ?_
    exact rR_i hx hb hr hlk dX0_villageBy_68 (by rw [← show i = n by omega, hv]; rfl)
  · refine lv_aload_n hx hb dX0_villageBy_17 rfl (lv_at hl 2 rfl) ?_
    refine xg2 hx hb hts hown hK hP dX0_villageBy_18 ?_
    refine lv_iload_n hx hb dX0_villageBy_21 rfl (lv_at hl 0 rfl) ?_
    refine xr_get (rest := []) hx hb hml hown hts hK hP hE hL (by omega) ⟨Nat.le_of_ble_eq_true rfl, Nat.le_of_ble_eq_true rfl⟩ ⟨Nat.zero_le _, Nat.zero_le _⟩ hl.1 (Nat.le_of_ble_eq_true rfl) dX0_villageBy_22 dX0_villageBy_27 ?_
    refine lv_astore (lv' := [(4, .ref (F i)), (3, .int (nI i)), (2, .int (nI x)), (0, .ref (B 0)), (1, .int (nI G))]) hx hb dX0_villageBy_30 hl (by decide) rfl (fun ls hl => ?_)
    refine lv_aload hx hb dX0_villageBy_32 (lv_at hl 0 rfl) ?_
    refine lv_iload_n hx hb dX0_villageBy_34 rfl (lv_at hl 4 rfl) ?_
    refine xr_best (rest := []) hx hb hml hown hts hK hP hE (by omega) hd hd6 ⟨Nat.le_of_ble_eq_true rfl, Nat.le_of_ble_eq_true rfl⟩ ⟨Nat.zero_le _, Nat.zero_le _⟩ hl.1 (Nat.le_of_ble_eq_true rfl) dX0_villageBy_35 ?_
    refine lv_istore (lv' := [(5, .int (oI (bst E dd G i (2 ^ dd)))), (4, .ref (F i)), (3, .int (nI i)), (2, .int (nI x)), (0, .ref (B 0)), (1, .int (nI G))]) hx hb dX0_villageBy_38 hl (by decide) rfl (fun ls hl => ?_)
    rcases hb0 : bst E dd G i (2 ^ dd) with _ | b
    · rw [hb0] at hl
      have hl : lv_has ls 6 [(5, .int (-9)), (4, .ref (F i)), (3, .int (nI i)), (2, .int (nI x)), (0, .ref (B 0)), (1, .int (nI G))] := hl
      refine lv_iload hx hb dX0_villageBy_40 (lv_at hl 0 rfl) ?_
      refine lv_bipush (v := (-9)) hx hb dX0_villageBy_42 (by decide) ?_
      refine lv_icmp_ne (tgt := 50) hx hb dX0_villageBy_44 (by decide) (fun c0 => absurd (by decide) c0) (fun c0 => ?_)
      refine lv_bipush (v := (-9)) hx hb dX0_villageBy_47 (by decide) ?_
      exact rR_i hx hb hr hlk dX0_villageBy_49 (by rw [vil_none (i := i + 1) (vil_no hv hb0) (by omega)]; rfl)
    · rw [hb0] at hl
      have hl : lv_has ls 6 [(5, .int (nI b)), (4, .ref (F i)), (3, .int (nI i)), (2, .int (nI x)), (0, .ref (B 0)), (1, .int (nI G))] := hl
      have hb1 : b < 2 ^ dd := bst_lt _ b hb0
      refine lv_iload hx hb dX0_villageBy_40 (lv_at hl 0 rfl) ?_
      refine lv_bipush (v := (-9)) hx hb dX0_villageBy_42 (by decide) ?_
      refine lv_icmp_ne (tgt := 50) hx hb dX0_villageBy_44 (by decide) (fun c0 => ?_) (fun c0 => absurd c0 (n64 b (by omega)))
      refine lv_iload_n hx hb dX0_villageBy_50 rfl (lv_at hl 3 rfl) ?_
      refine lv_aload hx hb dX0_villageBy_51 (lv_at hl 1 rfl) ?_
      refine lv_iload hx hb dX0_villageBy_53 (lv_at hl 0 rfl) ?_
      refine lv_iload_n hx hb dX0_villageBy_55 rfl (lv_at hl 5 rfl) ?_
      refine xr_fine (rest := [.int (nI x)]) hx hb hml hown hts hK hP hE (by omega) hd hd6 hb1 ⟨Nat.le_of_ble_eq_true rfl, Nat.le_of_ble_eq_true rfl⟩ ⟨Nat.zero_le _, Nat.zero_le _⟩ hl.1 (Nat.le_of_ble_eq_true rfl) dX0_villageBy_56 ?_
      refine lv_iadd hx hb dX0_villageBy_59 ?_
      refine top_i (y := nI (x + fin E dd G i b)) (nI_add _ _) ?_
      refine lv_istore_n (lv' := [(2, .int (nI (x + fin E dd G i b))), (5, .int (nI b)), (4, .ref (F i)), (3, .int (nI i)), (0, .ref (B 0)), (1, .int (nI G))]) hx hb dX0_villageBy_60 rfl hl (by decide) rfl (fun ls hl => ?_)
      refine lv_iinc (v := nI (i + 1)) (lv' := [(3, .int (nI (i + 1))), (2, .int (nI (x + fin E dd G i b))), (5, .int (nI b)), (4, .ref (F i)), (0, .ref (B 0)), (1, .int (nI G))]) hx hb dX0_villageBy_61 hl (k := 3) rfl (inc_nI _) (by decide) rfl (fun ls hl => ?_)
      refine lv_goto (tgt := 4) hx hb dX0_villageBy_64 (by decide) ?_
      exact ih4 (n4 - 1) (i + 1, x + fin E dd G i b) ls (by omega) (⟨by omega, vil_some hv hb0⟩) ((lv_sub hl [0, 1, 4, 5] rfl))

theorem so_stepX {E V : Nat → Nat → Nat} {B : Nat → Bool} {dd F i : Nat} (hf : fou E dd F (V 4 i) (V 5 i) < 64) (h6 : V 6 i < 16) : (bI (soN E V B dd F i) &&& (if ¬ bI (pBit (nI (fou E dd F (V 4 i) (V 5 i))) (nI (V 6 i))) = bI (B i) then (0 : Int32) else (1 : Int32))) = bI (soN E V B dd F (i + 1)) := by
  rw [pBit_nI _ hf _ h6]
  simp only [soN]
  cases soN E V B dd F i <;> cases (fou E dd F (V 4 i) (V 5 i)).testBit (V 6 i) <;> cases B i <;> decide
set_option maxHeartbeats 4000000 in
set_option maxRecDepth 100000 in
theorem cX_areSo (l : Launch) (D : va_G) (d : Nat → ClassId) (B : Nat → Nat) (τ : Nat → Nat → Int32) (ea : Nat) (hs : Nat → Option Nat) (ρ : va_W) (e0 : Nat) (F : Nat → Nat) (n dd : Nat) (E : Nat → Nat → Nat) (v : Int32) (r : Nat) (V : Nat → Nat → Nat) (Bv : Nat → Bool) (hE : xEat ρ (B 0) τ n E F) (hL : xLst d ρ τ ea e0 n F) (hd : τ 4 0 = nI dd) (hd6 : dd ≤ 6) (hv : xRd τ r V Bv) (hr8 : r ≤ 8) (hv2 : ∀ x, x < r → V 4 x < n ∧ V 5 x < 2 ^ dd ∧ V 6 x < dd) : cR l (KX D d) yX0_areSo cX0_areSo 4 (some .boolean) (rk 7) [.ref (B 0), .int v] (va_P D vwCl (xw d B τ ea hs ρ)) (.int (bI (soN E V Bv dd (fN (τ 5) v (-9) dd) r))) := by
  refine cR_start RX0 rfl (by decide) (Nat.le_of_ble_eq_true rfl) ?_
  intro p e s m below meth c hx hb hml hown hts hr hlk hK hP ls hl
  have hl : lv_has ls 4 [(0, .ref (B 0)), (1, .int v)] := hl
  have hn4 := hE.1
  have h64 := pow6 hd6
  refine lv_iconst (v := 1) hx hb dX0_areSo_0 (by decide) ?_
  refine top_i (y := bI (soN E V Bv dd (fN (τ 5) v (-9) dd) 0)) (rfl) ?_
  refine lv_istore_n (lv' := [(2, .int (bI (soN E V Bv dd (fN (τ 5) v (-9) dd) 0))), (0, .ref (B 0)), (1, .int v)]) hx hb dX0_areSo_1 rfl hl (by decide) rfl (fun ls hl => ?_)
  refine lv_iconst (v := nI 0) hx hb dX0_areSo_2 (by decide) ?_
  refine lv_istore_n (lv' := [(3, .int (nI 0)), (2, .int (bI (soN E V Bv dd (fN (τ 5) v (-9) dd) 0))), (0, .ref (B 0)), (1, .int v)]) hx hb dX0_areSo_3 rfl hl (by decide) rfl (fun ls hl => ?_)
  refine lp_R (σ := Nat) (fun n4 zz => zz + n4 = r) (fun zz => [(3, .int (nI zz)), (2, .int (bI (soN E V Bv dd (fN (τ 5) v (-9) dd) zz))), (0, .ref (B 0)), (1, .int v)]) (fun n4 zz hI ih4 ls hl => ?_) r 0 (by omega) hl
  obtain ⟨i, rfl⟩ : ∃ y, y = zz := ⟨_, rfl⟩
  have hI : i + n4 = r := hI
  obtain hi := hI
  have hl : lv_has ls 4 [(3, .int (nI i)), (2, .int (bI (soN E V Bv dd (fN (τ 5) v (-9) dd) i))), (0, .ref (B 0)), (1, .int v)] := hl
  refine lv_iload_n hx hb dX0_areSo_4 rfl (lv_at hl 0 rfl) ?_
  refine lv_aload_n hx hb dX0_areSo_5 rfl (lv_at hl 2 rfl) ?_
  refine xg14 hx hb hts hown hK hP dX0_areSo_6 ?_
  refine top_i (y := nI r) (hv.1) ?_
  refine nc_ge (tgt := 76) hx hb dX0_areSo_9 (by decide) (by omega) (by omega) (fun c1 => ?_) (fun c1 => ?_)
  · refine lv_iload_n hx hb dX0_areSo_76 rfl (lv_at hl 1 rfl) ?_
    exact rR_z hx hb hr hlk dX0_areSo_77 (by rw [show i = r by omega])
  · have hir : i < r := by omega
    refine lv_iload_n hx hb dX0_areSo_12 rfl (lv_at hl 1 rfl) ?_
    refine lv_aload_n hx hb dX0_areSo_13 rfl (lv_at hl 2 rfl) ?_
    refine xg2 hx hb hts hown hK hP dX0_areSo_14 ?_
    refine lv_aload_n hx hb dX0_areSo_17 rfl (lv_at hl 2 rfl) ?_
    refine xg15 hx hb hts hown hK hP dX0_areSo_18 ?_
    refine lv_iload_n hx hb dX0_areSo_21 rfl (lv_at hl 0 rfl) ?_
    refine xa15 hx hb hK hP (by omega) dX0_areSo_22 ?_
    refine top_i (y := nI (V 4 i)) ((hv.2 i hir).1) ?_
    refine xr_get (rest := [.int (bI (soN E V Bv dd (fN (τ 5) v (-9) dd) i))]) hx hb hml hown hts hK hP hE hL (hv2 i hir).1 ⟨Nat.le_of_ble_eq_true rfl, Nat.le_of_ble_eq_true rfl⟩ ⟨Nat.zero_le _, Nat.zero_le _⟩ hl.1 (Nat.le_of_ble_eq_true rfl) dX0_areSo_23 dX0_areSo_28 ?_
    refine lv_aload_n hx hb dX0_areSo_31 rfl (lv_at hl 2 rfl) ?_
    refine xg16 hx hb hts hown hK hP dX0_areSo_32 ?_
    refine lv_iload_n hx hb dX0_areSo_35 rfl (lv_at hl 0 rfl) ?_
    refine xa16 hx hb hK hP (by omega) dX0_areSo_36 ?_
    refine top_i (y := nI (V 5 i)) ((hv.2 i hir).2.1) ?_
    refine lv_aload_n hx hb dX0_areSo_37 rfl (lv_at hl 2 rfl) ?_
    refine lv_iload_n hx hb dX0_areSo_38 rfl (lv_at hl 3 rfl) ?_
    refine callR_V (rest := [.int (nI (V 5 i)), .ref (F (V 4 i)), .int (bI (soN E V Bv dd (fN (τ 5) v (-9) dd) i))]) hx hb hml hown hts KX_st hK (cX_fastsBy l D d B τ ea hs ρ dd v hd hd6) (wX0_fastsBy hts ⟨Nat.le_of_ble_eq_true rfl, Nat.le_of_ble_eq_true rfl⟩) (x_recv hK hP) hP rfl hl.1 rfl (Nat.le_of_ble_eq_true rfl) dX0_areSo_39 ⟨Nat.zero_le _, Nat.zero_le _⟩ ?_
    refine xr_found (rest := [.int (bI (soN E V Bv dd (fN (τ 5) v (-9) dd) i))]) hx hb hml hown hts hK hP hE (hv2 i hir).1 hd hd6 (hv2 i hir).2.1 ⟨Nat.le_of_ble_eq_true rfl, Nat.le_of_ble_eq_true rfl⟩ ⟨Nat.zero_le _, Nat.zero_le _⟩ hl.1 (Nat.le_of_ble_eq_true rfl) dX0_areSo_42 ?_
    refine lv_aload_n hx hb dX0_areSo_45 rfl (lv_at hl 2 rfl) ?_
    refine xg17 hx hb hts hown hK hP dX0_areSo_46 ?_
    refine lv_iload_n hx hb dX0_areSo_49 rfl (lv_at hl 0 rfl) ?_
    refine xa17 hx hb hK hP (by omega) dX0_areSo_50 ?_
    refine top_i (y := nI (V 6 i)) ((hv.2 i hir).2.2.1) ?_
    refine callR_S (rest := [.int (bI (soN E V Bv dd (fN (τ 5) v (-9) dd) i))]) hx hb hml hown hts KX_st hK (cX_isOf l D d (nI (fou E dd (fN (τ 5) v (-9) dd) (V 4 i) (V 5 i))) (nI (V 6 i))) (wX0_isOf hts ⟨Nat.le_of_ble_eq_true rfl, Nat.le_of_ble_eq_true rfl⟩) trivial rfl hl.1 rfl (Nat.le_of_ble_eq_true rfl) dX0_areSo_51 ⟨Nat.zero_le _, Nat.zero_le _⟩ ?_
    refine lv_aload_n hx hb dX0_areSo_54 rfl (lv_at hl 2 rfl) ?_
    refine xg18 hx hb hts hown hK hP dX0_areSo_55 ?_
    refine lv_iload_n hx hb dX0_areSo_58 rfl (lv_at hl 0 rfl) ?_
    refine xa18 hx hb hK hP (by omega) dX0_areSo_59 ?_
    refine top_i (y := bI (Bv i)) ((hv.2 i hir).2.2.2) ?_
    refine jn_i (ls := ls) (P := fun v0 => v0 = (if ¬ bI (pBit (nI (fou E dd (fN (τ 5) v (-9) dd) (V 4 i) (V 5 i))) (nI (V 6 i))) = bI (Bv i) then (0 : Int32) else (1 : Int32))) 68 [.int (bI (soN E V Bv dd (fN (τ 5) v (-9) dd) i))] (fun v0 ev0 => ?_) (fun kj2 => ?_)
    · refine lv_iand hx hb dX0_areSo_68 ?_
      refine top_i (y := bI (soN E V Bv dd (fN (τ 5) v (-9) dd) (i + 1))) (by rw [ev0, so_stepX (fou_lt hd6 (hv2 i hir).2.1) (by have := (hv2 i hir).2.2; omega)]) ?_
      refine lv_istore_n (lv' := [(2, .int (bI (soN E V Bv dd (fN (τ 5) v (-9) dd) (i + 1)))), (3, .int (nI i)), (0, .ref (B 0)), (1, .int v)]) hx hb dX0_areSo_69 rfl hl (by decide) rfl (fun ls hl => ?_)
      refine lv_iinc (v := nI (i + 1)) (lv' := [(3, .int (nI (i + 1))), (2, .int (bI (soN E V Bv dd (fN (τ 5) v (-9) dd) (i + 1)))), (0, .ref (B 0)), (1, .int v)]) hx hb dX0_areSo_70 hl (k := 1) rfl (inc_nI _) (by decide) rfl (fun ls hl => ?_)
      refine lv_goto (tgt := 4) hx hb dX0_areSo_73 (by decide) ?_
      exact ih4 (n4 - 1) (i + 1) ls (by omega) (by omega) (hl)
    · refine lv_icmp_ne (tgt := 67) hx hb dX0_areSo_60 (by decide) (fun c3 => ?_) (fun c3 => ?_)
      · refine lv_iconst (v := 0) hx hb dX0_areSo_67 (by decide) ?_
        exact kj2 _ (by rw [if_pos c3])
      · refine lv_iconst (v := 1) hx hb dX0_areSo_63 (by decide) ?_
        refine lv_goto (tgt := 68) hx hb dX0_areSo_64 (by decide) ?_
        exact kj2 _ (by rw [if_neg (fun hh => hh c3)])
