/-! a row out of a sheet: new int[], cell by cell -/
theorem min_neg {n : Int32} (h : n < 0) : (if (61 : Int32) < n then 61 else n) = n := by
  rw [if_neg]
  intro h2
  rw [Int32.lt_iff_toInt_lt] at h h2
  have e1 : (61 : Int32).toInt = 61 := rfl
  have e2 : (0 : Int32).toInt = 0 := rfl
  omega
theorem min_pos {n : Int32} (h : ¬ n < 0) : ∃ N, N ≤ 61 ∧ (if (61 : Int32) < n then 61 else n) = nI N := by
  obtain ⟨j, hj, rfl⟩ := nI_of h
  by_cases h2 : (61 : Int32) < nI j
  · exact ⟨61, Nat.le_refl _, by rw [if_pos h2]; rfl⟩
  · refine ⟨j, ?_, by rw [if_neg h2]⟩
    have h3 : ¬ 61 < j := fun q => h2 ((nI_ltI (a := 61) (by decide) hj).mpr q)
    omega
theorem min_ok {j : Nat} (h : j ≤ 60) : (if (61 : Int32) < nI j then 61 else nI j) = nI j := by
  rw [if_neg]
  intro h2
  have := (nI_ltI (a := 61) (b := j) (by decide) (by omega)).mp h2
  omega
theorem app_at {ws : va_W} {x : Nat × va_E} {q0 : Nat} {y : Nat × va_E} (h : ws[q0]? = some y) : (ws ++ [x])[q0]? = some y := by
  rw [List.getElem?_append_left (List.getElem?_eq_some_iff.mp h).1]; exact h
theorem app_last {ws : va_W} {x : Nat × va_E} : (ws ++ [x])[ws.length]? = some x := by simp
theorem app_set {ws : va_W} {x y : Nat × va_E} : (ws ++ [x]).set ws.length y = ws ++ [y] := by simp
set_option maxHeartbeats 4000000 in
set_option maxRecDepth 100000 in
theorem cY_rowN (l : Launch) (D : va_G) (d : Nat → ClassId) (e0 : Nat) (H00 : Heap) (htr : ∀ e, l.admits e → e.platform.stackTraces = false) (ws : va_W) (i n : Int32) : cX l (KE D d e0 H00) H00 D yX0_rowOf cX0_rowOf 6 (some (.array .int)) [] (rx 1 4 1061) [.null, .int i, .int n] ws (fun _ _ => False) (fun x => x = nmN) := by
  intro p e s m below meth c A hx had hb hml htb hown hts hr hlk hK hA hAN hZ hnS hu ls hl
  have hl : lv_has ls 6 [(0, .null), (1, .int i), (2, .int n)] := hl
  refine lv_aload_nN hx hb dX0_rowOf_0 rfl (lv_at hl 0 rfl) ?_
  obtain ⟨mk, hc⟩ := xCode.of (hts _ q360)
  refine callX_S (own := RX0) (rest := []) hx hb hml hown hts KE_st hK hA hAN hZ (cY_lengthN l D d e0 H00 htr ws) hc q358 q359 q51 ⟨by decide, by decide, by decide, by decide +kernel⟩ (Nat.le_of_ble_eq_true rfl) hu hl.1 rfl (Nat.le_of_ble_eq_true rfl) dX0_rowOf_1 ⟨Nat.le_of_ble_eq_true rfl, Nat.le_of_ble_eq_true rfl, Nat.le_of_ble_eq_true rfl, Nat.le_of_ble_eq_true rfl⟩ (fun r w H1 l1 hp _ => absurd hp id) (fun cls he => ?_)
  subst he
  exact kT_leave0 hlk htb (Nat.le_of_ble_eq_true rfl) (Nat.le_of_ble_eq_true rfl) rfl
set_option maxHeartbeats 4000000 in
set_option maxRecDepth 100000 in
theorem cY_rowS (l : Launch) (D : va_G) (d : Nat → ClassId) (e0 : Nat) (H00 : Heap) (htr : ∀ e, l.admits e → e.platform.stackTraces = false) (ws : va_W) (fa q0 la L : Nat) (f : Nat → Int32) (hq : ws[q0]? = some (fa, .inl (lnC d la, L, .inl f))) (hla : la < 3) (i n : Int32) (hn : n < 0) : cX l (KE D d e0 H00) H00 D yX0_rowOf cX0_rowOf 6 (some (.array .int)) [] (rx 1 4 1061) [.ref fa, .int i, .int n] ws (fun _ _ => False) (fun x => x = nmS) := by
  intro p e s m below meth c A hx had hb hml htb hown hts hr hlk hK hA hAN hZ hnS hu ls hl
  have hv : XV D d e0 H00 A e s [.ref fa, .int i, .int n].toArray := ⟨htr e had, hts, hK, hZ, hnS, hA⟩
  have hl : lv_has ls 6 [(0, .ref fa), (1, .int i), (2, .int n)] := hl
  refine lv_aload_n hx hb dX0_rowOf_0 rfl (lv_at hl 0 rfl) ?_
  refine callR_S (rest := []) hx hb hml hown hts KX_st hK.1 (cY_length l D d ws fa q0 la L f hq hla) (wX0_lengthOf hts ⟨Nat.le_of_ble_eq_true rfl, Nat.le_of_ble_eq_true rfl⟩) hu.1 rfl hl.1 rfl (Nat.le_of_ble_eq_true rfl) dX0_rowOf_1 ⟨Nat.le_of_ble_eq_true rfl, Nat.le_of_ble_eq_true rfl⟩ ?_
  refine lv_istore_n (lv' := [(3, .int (nI L)), (0, .ref fa), (1, .int i), (2, .int n)]) hx hb dX0_rowOf_4 rfl hl (by decide) rfl (fun ls hl => ?_)
  refine lv_iload_n hx hb dX0_rowOf_5 rfl (lv_at hl 3 rfl) ?_
  refine lv_bipush (v := 61) hx hb dX0_rowOf_6 (by decide) ?_
  refine va_mmin hx hb (by rw [hml]; exact hl.1.symm) hown (hts _ q361) (hts _ q362) (hts _ q66) (hts _ q363) (Nat.le_of_ble_eq_true rfl) (Nat.le_of_ble_eq_true rfl) (Nat.le_of_ble_eq_true rfl) (Nat.le_of_ble_eq_true rfl) dX0_rowOf_8 ?_
  refine top_i (min_neg hn) ?_
  exact tS_newarray hx hb hv hml hl hu ⟨Nat.le_of_ble_eq_true rfl, Nat.le_of_ble_eq_true rfl, Nat.le_of_ble_eq_true rfl, Nat.le_of_ble_eq_true rfl⟩ hn dX0_rowOf_11 (kT_leave0 hlk htb (Nat.le_of_ble_eq_true rfl) (Nat.le_of_ble_eq_true rfl) rfl)
set_option maxHeartbeats 4000000 in
set_option maxRecDepth 100000 in
theorem cY_rowO (l : Launch) (D : va_G) (d : Nat → ClassId) (e0 : Nat) (H00 : Heap) (htr : ∀ e, l.admits e → e.platform.stackTraces = false) (ws : va_W) (fa q0 la L : Nat) (f : Nat → Int32) (hq : ws[q0]? = some (fa, .inl (lnC d la, L, .inl f))) (hla : la < 3) (i n : Int32) (hn : ¬ n < 0) (ho : i < 0 ∨ nI L - n < i) : cX l (KE D d e0 H00) H00 D yX0_rowOf cX0_rowOf 6 (some (.array .int)) [] (rx 1 4 1061) [.ref fa, .int i, .int n] ws (fun _ _ => False) (fun x => x = nmA) := by
  intro p e s m below meth c A hx had hb hml htb hown hts hr hlk hK hA hAN hZ hnS hu ls hl
  have hv : XV D d e0 H00 A e s [.ref fa, .int i, .int n].toArray := ⟨htr e had, hts, hK, hZ, hnS, hA⟩
  have hl : lv_has ls 6 [(0, .ref fa), (1, .int i), (2, .int n)] := hl
  obtain ⟨N, hN, hmin⟩ := min_pos hn
  refine lv_aload_n hx hb dX0_rowOf_0 rfl (lv_at hl 0 rfl) ?_
  refine callR_S (rest := []) hx hb hml hown hts KX_st hK.1 (cY_length l D d ws fa q0 la L f hq hla) (wX0_lengthOf hts ⟨Nat.le_of_ble_eq_true rfl, Nat.le_of_ble_eq_true rfl⟩) hu.1 rfl hl.1 rfl (Nat.le_of_ble_eq_true rfl) dX0_rowOf_1 ⟨Nat.le_of_ble_eq_true rfl, Nat.le_of_ble_eq_true rfl⟩ ?_
  refine lv_istore_n (lv' := [(3, .int (nI L)), (0, .ref fa), (1, .int i), (2, .int n)]) hx hb dX0_rowOf_4 rfl hl (by decide) rfl (fun ls hl => ?_)
  refine lv_iload_n hx hb dX0_rowOf_5 rfl (lv_at hl 3 rfl) ?_
  refine lv_bipush (v := 61) hx hb dX0_rowOf_6 (by decide) ?_
  refine va_mmin hx hb (by rw [hml]; exact hl.1.symm) hown (hts _ q361) (hts _ q362) (hts _ q66) (hts _ q363) (Nat.le_of_ble_eq_true rfl) (Nat.le_of_ble_eq_true rfl) (Nat.le_of_ble_eq_true rfl) (Nat.le_of_ble_eq_true rfl) dX0_rowOf_8 ?_
  refine top_i hmin ?_
  refine nw_i hx hb hts hK.1.1 hA hu (N := N) (nI_pos (by omega)) (nI_clamp (by omega)) (by omega) (Nat.le_of_ble_eq_true rfl) (by show 0 + N ≤ 1061; omega) dX0_rowOf_11 (fun q H hu => ?_)
  refine lv_astore (lv' := [(4, .ref q), (3, .int (nI L)), (0, .ref fa), (1, .int i), (2, .int n)]) hx hb dX0_rowOf_13 hl (by decide) rfl (fun ls hl => ?_)
  have hR : rT (rx 1 4 1061) [] (0 + 1) (0 + N) := ⟨Nat.le_of_ble_eq_true rfl, Nat.le_of_ble_eq_true rfl, Nat.le_of_ble_eq_true rfl, by show 0 + N + 1000 ≤ 1061; omega⟩
  refine lv_iload_n hx hb dX0_rowOf_15 rfl (lv_at hl 3 rfl) ?_
  refine lv_if_lt (tgt := 26) hx hb dX0_rowOf_16 (by decide) (fun c1 => ?_) (fun c1 => ?_)
  · exact tO_new hx hb hv hml hl hu hR hown dX0_rowOf_26 dX0_rowOf_29 dX0_rowOf_30 dX0_rowOf_33 (kT_leave hlk htb (Nat.le_of_ble_eq_true rfl) (by show 0 + N + 1000 ≤ 1061; omega) rfl)
  · refine lv_iload_n hx hb dX0_rowOf_19 rfl (lv_at hl 3 rfl) ?_
    refine lv_iload_n hx hb dX0_rowOf_20 rfl (lv_at hl 1 rfl) ?_
    refine lv_iload_n hx hb dX0_rowOf_21 rfl (lv_at hl 4 rfl) ?_
    refine lv_isub hx hb dX0_rowOf_22 ?_
    refine lv_icmp_le (tgt := 34) hx hb dX0_rowOf_23 (by decide) (fun c2 => ?_) (fun c2 => ?_)
    · exfalso
      rcases ho with h | h
      · exact c1 h
      · exact Int32.not_le.mpr h c2
    · exact tO_new hx hb hv hml hl hu hR hown dX0_rowOf_26 dX0_rowOf_29 dX0_rowOf_30 dX0_rowOf_33 (kT_leave hlk htb (Nat.le_of_ble_eq_true rfl) (by show 0 + N + 1000 ≤ 1061; omega) rfl)
set_option maxHeartbeats 4000000 in
set_option maxRecDepth 100000 in
theorem cY_row (l : Launch) (D : va_G) (d : Nat → ClassId) (H00 : Heap) (ws : va_W) (fa q0 la L : Nat) (f : Nat → Int32) (hq : ws[q0]? = some (fa, .inl (lnC d la, L, .inl f))) (hla : la < 3) (hL : L ≤ 60) (i n : Nat) (hin : i + n ≤ L) : cU l (KX D d) H00 D yX0_rowOf cX0_rowOf 6 (some (.array .int)) (rc 1 1 60) [.ref fa, .int (nI i), .int (nI n)] ws (fun r ws' => ∃ (q : Nat) (g : Nat → Int32), r = some (.ref q) ∧ ws' = ws ++ [(q, .inl (d 0, n, .inl g))] ∧ ∀ k, k < n → g k = f (i + k)) := by
  refine cU_start RX0 rfl (by decide) (Nat.le_of_ble_eq_true rfl) ?_
  intro p e s m below meth c A hx hb hml hown hts hr hlk hnm hK hA hAN hZ hu ls hl
  have hl : lv_has ls 6 [(0, .ref fa), (1, .int (nI i)), (2, .int (nI n))] := hl
  refine lv_aload_n hx hb dX0_rowOf_0 rfl (lv_at hl 0 rfl) ?_
  refine callR_S (rest := []) hx hb hml hown hts KX_st hK (cY_length l D d ws fa q0 la L f hq hla) (wX0_lengthOf hts ⟨Nat.le_of_ble_eq_true rfl, Nat.le_of_ble_eq_true rfl⟩) hu.1 rfl hl.1 rfl (Nat.le_of_ble_eq_true rfl) dX0_rowOf_1 ⟨Nat.le_of_ble_eq_true rfl, Nat.le_of_ble_eq_true rfl⟩ ?_
  refine lv_istore_n (lv' := [(3, .int (nI L)), (0, .ref fa), (1, .int (nI i)), (2, .int (nI n))]) hx hb dX0_rowOf_4 rfl hl (by decide) rfl (fun ls hl => ?_)
  refine lv_iload_n hx hb dX0_rowOf_5 rfl (lv_at hl 3 rfl) ?_
  refine lv_bipush (v := 61) hx hb dX0_rowOf_6 (by decide) ?_
  refine va_mmin hx hb (by rw [hml]; exact hl.1.symm) hown (hts _ q361) (hts _ q362) (hts _ q66) (hts _ q363) (Nat.le_of_ble_eq_true rfl) (Nat.le_of_ble_eq_true rfl) (Nat.le_of_ble_eq_true rfl) (Nat.le_of_ble_eq_true rfl) dX0_rowOf_8 ?_
  refine top_i (min_ok (by omega)) ?_
  refine nw_i hx hb hts hK.1 hA hu (N := n) (nI_pos (by omega)) (nI_clamp (by omega)) (by omega) (Nat.le_of_ble_eq_true rfl) (by show 0 + n ≤ 60; omega) dX0_rowOf_11 (fun q H hu => ?_)
  refine lv_astore (lv' := [(4, .ref q), (3, .int (nI L)), (0, .ref fa), (1, .int (nI i)), (2, .int (nI n))]) hx hb dX0_rowOf_13 hl (by decide) rfl (fun ls hl => ?_)
  refine lv_iload_n hx hb dX0_rowOf_15 rfl (lv_at hl 3 rfl) ?_
  refine lv_if_lt (tgt := 26) hx hb dX0_rowOf_16 (by decide) (fun c1 => absurd c1 (nI_pos (by omega))) (fun c1 => ?_)
  refine lv_iload_n hx hb dX0_rowOf_19 rfl (lv_at hl 3 rfl) ?_
  refine lv_iload_n hx hb dX0_rowOf_20 rfl (lv_at hl 1 rfl) ?_
  refine lv_iload_n hx hb dX0_rowOf_21 rfl (lv_at hl 4 rfl) ?_
  refine lv_isub hx hb dX0_rowOf_22 ?_
  refine top_i (pk_sub (by omega)) ?_
  refine nc_le (tgt := 34) hx hb dX0_rowOf_23 (by decide) (by omega) (by omega) (fun _ => ?_) (fun c2 => by omega)
  refine lv_iconst (v := nI 0) hx hb dX0_rowOf_34 (by decide) ?_
  refine lv_istore (lv' := [(5, .int (nI 0)), (4, .ref q), (3, .int (nI L)), (0, .ref fa), (1, .int (nI i)), (2, .int (nI n))]) hx hb dX0_rowOf_35 hl (by decide) rfl (fun ls hl => ?_)
  refine lp_U (σ := Nat × (Nat → Int32)) (fun N x => x.1 + N = n ∧ ∀ k, k < x.1 → x.2 k = f (i + k)) (fun x => [(5, .int (nI x.1)), (4, .ref q), (3, .int (nI L)), (0, .ref fa), (1, .int (nI i)), (2, .int (nI n))]) (fun x => ws ++ [(q, .inl (d 0, n, .inl x.2))]) ?_ n (0, fun _ => 0) ⟨by omega, fun k hk => absurd hk (Nat.not_lt_zero k)⟩ hu hl
  intro N ⟨k, g⟩ ⟨hk, hg⟩ ih H locs ls hu hl
  have hk : k + N = n := hk
  have hl : lv_has ls 6 [(5, .int (nI k)), (4, .ref q), (3, .int (nI L)), (0, .ref fa), (1, .int (nI i)), (2, .int (nI n))] := hl
  have hu : uW D A s.heap H locs (ws ++ [(q, .inl (d 0, n, .inl g))]) := hu
  refine lv_iload hx hb dX0_rowOf_37 (lv_at hl 0 rfl) ?_
  refine lv_iload_n hx hb dX0_rowOf_39 rfl (lv_at hl 5 rfl) ?_
  refine nc_ge (tgt := 62) hx hb dX0_rowOf_40 (by decide) (by omega) (by omega) (fun c3 => ?_) (fun c3 => ?_)
  · refine lv_aload hx hb dX0_rowOf_62 (lv_at hl 1 rfl) ?_
    exact rU_a hx hb hr (Or.inr ⟨_, rfl⟩) hlk hu dX0_rowOf_64 (Nat.le_of_ble_eq_true rfl) (by show 0 + n ≤ 60; omega) ⟨q, g, rfl, rfl, fun j hj => hg j (show j < k by omega)⟩
  · refine lv_aload hx hb dX0_rowOf_43 (lv_at hl 1 rfl) ?_
    refine lv_iload hx hb dX0_rowOf_45 (lv_at hl 0 rfl) ?_
    refine lv_aload_n hx hb dX0_rowOf_47 rfl (lv_at hl 3 rfl) ?_
    refine lv_iload_n hx hb dX0_rowOf_48 rfl (lv_at hl 4 rfl) ?_
    refine lv_iload hx hb dX0_rowOf_49 (lv_at hl 0 rfl) ?_
    refine lv_iadd hx hb dX0_rowOf_51 ?_
    refine top_i (nI_add i k) ?_
    refine callR_S (rest := [.int (nI k), .ref q]) hx hb hml hown hts KX_st hK (cY_cell l D d (ws ++ [(q, .inl (d 0, n, .inl g))]) fa q0 la L f (app_at hq) hla (i + k) (by omega) hL) (wX0_cellOf hts ⟨Nat.le_of_ble_eq_true rfl, Nat.le_of_ble_eq_true rfl⟩) hu.1 rfl hl.1 rfl (Nat.le_of_ble_eq_true rfl) dX0_rowOf_52 ⟨Nat.le_of_ble_eq_true rfl, by show 0 + n ≤ 60; omega⟩ ?_
    refine va_iast hx hb hK.1.1 hu.1 hu.2.1 hu.2.2 ws.length 0 app_last rfl (vp_in_nI c3 (by omega)) dX0_rowOf_55 (fun H locs h1 h2 h3 => ?_)
    rw [app_set, nI_clamp (by omega)] at h1 h2
    refine lv_iinc (v := nI (k + 1)) (lv' := [(5, .int (nI (k + 1))), (4, .ref q), (3, .int (nI L)), (0, .ref fa), (1, .int (nI i)), (2, .int (nI n))]) hx hb dX0_rowOf_56 hl (k := 0) rfl (inc_nI _) (by decide) rfl (fun ls hl => ?_)
    refine lv_goto (tgt := 37) hx hb dX0_rowOf_59 (by decide) ?_
    refine ih (N - 1) (k + 1, upd g k (f (i + k))) H locs ls (by omega) ⟨by show k + 1 + (N - 1) = n; omega, fun j hj => ?_⟩ ⟨h1, h2, h3⟩ hl
    show upd g k (f (i + k)) j = _
    unfold upd
    by_cases e1 : j = k
    · rw [if_pos e1, e1]
    · rw [if_neg e1]; exact hg j (by have : j < k + 1 := hj; omega)
