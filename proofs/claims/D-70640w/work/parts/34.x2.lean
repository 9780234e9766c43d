/-! X: kinds and fasts -/
theorem mx_nI : ∀ st, st < 7 → (if (0 : Int32) < nI st - 1 then nI st - 1 else 0) = nI (st - 1) := by decide +kernel
theorem dv_nI : ∀ st, st < 7 → nI st / 2 = nI (st / 2) := by decide +kernel
set_option maxHeartbeats 4000000 in
set_option maxRecDepth 100000 in
theorem cX_asKind (l : Launch) (D : va_G) (d : Nat → ClassId) (st k : Nat) (hst : st < 7) (hk : k < 3) : cR l (KX D d) yX0_asKind cX0_asKind 3 (some .int) (rk 1) [.int (nI st), .int (nI k)] (fun _ => True) (.int (nI (laN k st))) := by
  refine cR_start RX0 rfl (by decide) (Nat.le_of_ble_eq_true rfl) ?_
  intro p e s m below meth c hx hb hml hown hts hr hlk hK hP ls hl
  have hl : lv_has ls 3 [(0, .int (nI st)), (1, .int (nI k))] := hl
  refine lv_iconst (v := 0) hx hb dX0_asKind_0 (by decide) ?_
  refine lv_iload_n hx hb dX0_asKind_1 rfl (lv_at hl 0 rfl) ?_
  refine lv_iconst (v := 1) hx hb dX0_asKind_2 (by decide) ?_
  refine lv_isub hx hb dX0_asKind_3 ?_
  refine va_mmax hx hb (by rw [hml]; exact hl.1.symm) hown (hts _ q667) (hts _ q497) (hts _ q66) (hts _ q498) (Nat.le_of_ble_eq_true rfl) (Nat.le_of_ble_eq_true rfl) (Nat.le_of_ble_eq_true rfl) (Nat.le_of_ble_eq_true rfl) dX0_asKind_4 ?_
  refine top_i (y := nI (st - 1)) (mx_nI _ hst) ?_
  refine lv_istore_n (lv' := [(2, .int (nI (st - 1))), (0, .int (nI st)), (1, .int (nI k))]) hx hb dX0_asKind_7 rfl hl (by decide) rfl (fun ls hl => ?_)
  refine lv_iload_n hx hb dX0_asKind_8 rfl (lv_at hl 2 rfl) ?_
  refine nz_ne (tgt := 16) hx hb dX0_asKind_9 (by decide) (by omega) (fun c1 => ?_) (fun c1 => ?_)
  · refine lv_iload_n hx hb dX0_asKind_16 rfl (lv_at hl 2 rfl) ?_
    refine lv_iconst (v := nI 1) hx hb dX0_asKind_17 (by decide) ?_
    refine nc_ne (tgt := 25) hx hb dX0_asKind_18 (by decide) (by omega) (by omega) (fun c2 => ?_) (fun c2 => ?_)
    · refine lv_iload_n hx hb dX0_asKind_25 rfl (lv_at hl 0 rfl) ?_
      refine lv_iconst (v := 2) hx hb dX0_asKind_26 (by decide) ?_
      refine lv_idiv hx hb dX0_asKind_27 (by decide) ?_
      exact rR_i hx hb hr hlk dX0_asKind_28 (by rw [laN, if_neg c1, if_neg c2, dv_nI _ (by omega)])
    · refine lv_iload_n hx hb dX0_asKind_21 rfl (lv_at hl 0 rfl) ?_
      refine lv_goto (tgt := 28) hx hb dX0_asKind_22 (by decide) ?_
      exact rR_i hx hb hr hlk dX0_asKind_28 (by rw [laN, if_neg c1, if_pos c2])
  · refine lv_iload_n hx hb dX0_asKind_12 rfl (lv_at hl 1 rfl) ?_
    refine lv_goto (tgt := 28) hx hb dX0_asKind_13 (by decide) ?_
    exact rR_i hx hb hr hlk dX0_asKind_28 (by rw [laN, if_pos c1])

theorem n6 : ∀ i, i < 6 → ¬ nI i = -9 := by decide
theorem fX_step {looks : Nat → Int32} {v : Int32} {i : Nat} (hi : i < 6) : nI (fN looks v (-9) i) ||| (if looks i < v then (0 : Int32) else (1 : Int32) <<< (nI i &&& 31)) = nI (fN looks v (-9) (i + 1)) := by
  rw [← fN_step hi, if_neg (n6 i hi)]
set_option maxHeartbeats 4000000 in
set_option maxRecDepth 100000 in
theorem cX_fastsBy (l : Launch) (D : va_G) (d : Nat → ClassId) (B : Nat → Nat) (τ : Nat → Nat → Int32) (ea : Nat) (hs : Nat → Option Nat) (ρ : va_W) (dd : Nat) (v : Int32) (hd : τ 4 0 = nI dd) (hd6 : dd ≤ 6) : cR l (KX D d) yX0_fastsBy cX0_fastsBy 4 (some .int) (rk 0) [.ref (B 0), .int v] (va_P D vwCl (xw d B τ ea hs ρ)) (.int (nI (fN (τ 5) v (-9) dd))) := by
  refine cR_start RX0 rfl (by decide) (Nat.le_of_ble_eq_true rfl) ?_
  intro p e s m below meth c hx hb hml hown hts hr hlk hK hP ls hl
  have hl : lv_has ls 4 [(0, .ref (B 0)), (1, .int v)] := hl
  refine lv_iconst (v := nI 0) hx hb dX0_fastsBy_0 (by decide) ?_
  refine lv_istore_n (lv' := [(2, .int (nI 0)), (0, .ref (B 0)), (1, .int v)]) hx hb dX0_fastsBy_1 rfl hl (by decide) rfl (fun ls hl => ?_)
  refine lv_iconst (v := nI 0) hx hb dX0_fastsBy_2 (by decide) ?_
  refine lv_istore_n (lv' := [(3, .int (nI 0)), (2, .int (nI 0)), (0, .ref (B 0)), (1, .int v)]) hx hb dX0_fastsBy_3 rfl hl (by decide) rfl (fun ls hl => ?_)
  refine lp_R (σ := Nat) (fun n4 zz => zz + n4 = dd) (fun zz => [(3, .int (nI zz)), (2, .int (nI (fN (τ 5) v (-9) zz))), (0, .ref (B 0)), (1, .int v)]) (fun n4 zz hI ih4 ls hl => ?_) dd 0 (by omega) hl
  obtain ⟨i, rfl⟩ : ∃ y, y = zz := ⟨_, rfl⟩
  have hI : i + n4 = dd := hI
  obtain hi := hI
  have hl : lv_has ls 4 [(3, .int (nI i)), (2, .int (nI (fN (τ 5) v (-9) i))), (0, .ref (B 0)), (1, .int v)] := hl
  refine lv_iload_n hx hb dX0_fastsBy_4 rfl (lv_at hl 0 rfl) ?_
  refine lv_aload_n hx hb dX0_fastsBy_5 rfl (lv_at hl 2 rfl) ?_
  refine xg4 hx hb hts hown hK hP dX0_fastsBy_6 ?_
  refine top_i (y := nI dd) (hd) ?_
  refine nc_ge (tgt := 38) hx hb dX0_fastsBy_9 (by decide) (by omega) (by omega) (fun c1 => ?_) (fun c1 => ?_)
  · refine lv_iload_n hx hb dX0_fastsBy_38 rfl (lv_at hl 1 rfl) ?_
    exact rR_i hx hb hr hlk dX0_fastsBy_39 (by rw [show i = dd by omega])
  · have hi6 : i < 6 := by omega
    refine lv_iload_n hx hb dX0_fastsBy_12 rfl (lv_at hl 1 rfl) ?_
    refine lv_aload_n hx hb dX0_fastsBy_13 rfl (lv_at hl 2 rfl) ?_
    refine xg5 hx hb hts hown hK hP dX0_fastsBy_14 ?_
    refine lv_iload_n hx hb dX0_fastsBy_17 rfl (lv_at hl 0 rfl) ?_
    refine xa5 hx hb hK hP (hi6) dX0_fastsBy_18 ?_
    refine lv_iload_n hx hb dX0_fastsBy_19 rfl (lv_at hl 3 rfl) ?_
    refine jn_i (ls := ls) (P := fun v0 => v0 = (if τ 5 i < v then (0 : Int32) else ((1 : Int32) <<< (nI i &&& 31)))) 30 [.int (nI (fN (τ 5) v (-9) i))] (fun v0 ev0 => ?_) (fun kj2 => ?_)
    · refine lv_ior hx hb dX0_fastsBy_30 ?_
      refine top_i (y := nI (fN (τ 5) v (-9) (i + 1))) (by rw [ev0, fX_step hi6]) ?_
      refine lv_istore_n (lv' := [(2, .int (nI (fN (τ 5) v (-9) (i + 1)))), (3, .int (nI i)), (0, .ref (B 0)), (1, .int v)]) hx hb dX0_fastsBy_31 rfl hl (by decide) rfl (fun ls hl => ?_)
      refine lv_iinc (v := nI (i + 1)) (lv' := [(3, .int (nI (i + 1))), (2, .int (nI (fN (τ 5) v (-9) (i + 1)))), (0, .ref (B 0)), (1, .int v)]) hx hb dX0_fastsBy_32 hl (k := 1) rfl (inc_nI _) (by decide) rfl (fun ls hl => ?_)
      refine lv_goto (tgt := 4) hx hb dX0_fastsBy_35 (by decide) ?_
      exact ih4 (n4 - 1) (i + 1) ls (by omega) (by omega) (hl)
    · refine lv_icmp_lt (tgt := 29) hx hb dX0_fastsBy_20 (by decide) (fun c3 => ?_) (fun c3 => ?_)
      · refine lv_iconst (v := 0) hx hb dX0_fastsBy_29 (by decide) ?_
        exact kj2 _ (by rw [if_pos c3])
      · refine lv_iconst (v := 1) hx hb dX0_fastsBy_23 (by decide) ?_
        refine lv_iload_n hx hb dX0_fastsBy_24 rfl (lv_at hl 0 rfl) ?_
        refine lv_ishl hx hb dX0_fastsBy_25 ?_
        refine lv_goto (tgt := 30) hx hb dX0_fastsBy_26 (by decide) ?_
        exact kj2 _ (by rw [if_neg c3])

set_option maxHeartbeats 4000000 in
set_option maxRecDepth 100000 in
theorem cX_fastsNow (l : Launch) (D : va_G) (d : Nat → ClassId) (B : Nat → Nat) (τ : Nat → Nat → Int32) (ea : Nat) (hs : Nat → Option Nat) (ρ : va_W) (dd : Nat) (hd : τ 4 0 = nI dd) (hd6 : dd ≤ 6) : cR l (KX D d) yX0_fastsNow cX0_fastsNow 1 (some .int) (rk 1) [.ref (B 0)] (va_P D vwCl (xw d B τ ea hs ρ)) (.int (nI (fN (τ 5) (τ 3 0) (-9) dd))) := by
  refine cR_start RX0 rfl (by decide) (Nat.le_of_ble_eq_true rfl) ?_
  intro p e s m below meth c hx hb hml hown hts hr hlk hK hP ls hl
  have hl : lv_has ls 1 [(0, .ref (B 0))] := hl
  refine lv_aload_n hx hb dX0_fastsNow_0 rfl (lv_at hl 0 rfl) ?_
  refine lv_aload_n hx hb dX0_fastsNow_1 rfl (lv_at hl 0 rfl) ?_
  refine xg3 hx hb hts hown hK hP dX0_fastsNow_2 ?_
  refine callR_V (rest := []) hx hb hml hown hts KX_st hK (cX_fastsBy l D d B τ ea hs ρ dd (τ 3 0) hd hd6) (wX0_fastsBy hts ⟨Nat.le_of_ble_eq_true rfl, Nat.le_of_ble_eq_true rfl⟩) (x_recv hK hP) hP rfl hl.1 rfl (Nat.le_of_ble_eq_true rfl) dX0_fastsNow_5 ⟨Nat.zero_le _, Nat.zero_le _⟩ ?_
  exact rR_i hx hb hr hlk dX0_fastsNow_8 (rfl)
