/-! cell -/
theorem pd_cellOf : (parseMethodDescriptor yX0_cellOf.desc).map (fun d => d.parameters.length) = some 2 := by decide +kernel
theorem pd_asLane : (parseMethodDescriptor yX0_asLane.desc).map (fun d => d.parameters.length) = some 2 := by decide +kernel
theorem pd_rowOf : (parseMethodDescriptor yX0_rowOf.desc).map (fun d => d.parameters.length) = some 3 := by decide +kernel
theorem pd_of : (parseMethodDescriptor yX0_of.desc).map (fun d => d.parameters.length) = some 2 := by decide +kernel
set_option maxHeartbeats 4000000 in
set_option maxRecDepth 100000 in
theorem cX_cell (l : Launch) (D : va_G) (d : Nat → ClassId) (H00 : Heap) (B : Nat → Nat) (τ : Nat → Nat → Int32) (ea : Nat) (hs : Nat → Option Nat) (ρ : va_W) (e0 : Nat) (F : Nat → Nat) (σ : ASt) (k i la : Int32) (htr : ∀ e, l.admits e → e.platform.stackTraces = false) (hm : xRep d B e0 σ τ ea hs ρ F) : cX l (KE D d e0 H00) H00 D yX0_cell cX0_cell 5 (some .long) [(23, 41, 42, 176), (23, 41, 50, 182), (23, 41, 58, 186)] (rx 1 3 1000) [.ref (B 0), .int k, .int i, .int la] (xw d B τ ea hs ρ) (xPost d B e0 (some (.long (f_cell σ k i la).1)) (f_cell σ k i la).2) (fun _ => False) := by
  intro p e s m below meth c A hx had hb hml htb hown hts hr hlk hK hA hAN hZ hnS hu ls hl
  have hl : lv_has ls 5 [(0, .ref (B 0)), (1, .int k), (2, .int i), (3, .int la)] := hl
  have hm0 := xRep_fault hm 0
  refine lv_aload_n hx hb dX0_cell_0 rfl (lv_at hl 0 rfl) ?_
  refine lv_iconst (v := 0) hx hb dX0_cell_1 (by decide) ?_
  refine xp0 hx hb hts hown hK.1 hu dX0_cell_2 (fun H locs hu => ?_)
  refine lv_iload_n hx hb dX0_cell_5 rfl (lv_at hl 1 rfl) ?_
  refine callR_S (rest := []) hx hb hml hown hts KX_st hK.1 (cX_isSheet l D d k) (wX0_isSheet hts ⟨Nat.le_of_ble_eq_true rfl, Nat.le_of_ble_eq_true rfl⟩) trivial rfl hl.1 rfl (Nat.le_of_ble_eq_true rfl) dX0_cell_6 ⟨Nat.le_of_ble_eq_true rfl, Nat.le_of_ble_eq_true rfl⟩ ?_
  refine bz_eq (tgt := 19) hx hb dX0_cell_9 (by decide) (fun c1 => ?_) (fun c1 => ?_)
  · refine lv_ldc2 (v := -9223372036854775808) hx hb hown (hts _ q767) dX0_cell_19 ?_
    refine rX_l hx hb hr hlk hu dX0_cell_22 (Nat.le_of_ble_eq_true rfl) (Nat.le_of_ble_eq_true rfl) ?_
    unfold f_cell
    rw [if_pos c1]
    exact ⟨rfl, _, _, _, _, F, rfl, hm0⟩
  · obtain ⟨j, hj, ej⟩ := sh_ix c1
    subst ej
    have ejx : ix (nI j) = j := nI_clamp (by omega)
    refine lv_iload_n hx hb dX0_cell_12 rfl (lv_at hl 3 rfl) ?_
    refine callR_S (rest := []) hx hb hml hown hts KX_st hK.1 (cX_isLane l D d la) (wX0_isLane hts ⟨Nat.le_of_ble_eq_true rfl, Nat.le_of_ble_eq_true rfl⟩) trivial rfl hl.1 rfl (Nat.le_of_ble_eq_true rfl) dX0_cell_13 ⟨Nat.le_of_ble_eq_true rfl, Nat.le_of_ble_eq_true rfl⟩ ?_
    refine bz_ne (tgt := 23) hx hb dX0_cell_16 (by decide) (fun c2 => ?_) (fun c2 => ?_)
    · obtain ⟨lx, hlx, elx⟩ := ln_ix c2
      subst elx
      have elxx : ix (nI lx) = lx := nI_clamp (by omega)
      have hH : ∀ (jh : Nat) (cls : String) (w : Int32) (pc : Nat) (rest : List Value) (ls : Array Slot), 23 ≤ pc → pc < 41 → (jh = 0 ∧ cls = nmC ∧ w = 2) ∨ (jh = 1 ∧ cls = nmN ∧ w = 1) ∨ (jh = 2 ∧ cls = nmA ∧ w = 3) → lv_has ls 5 [(0, .ref (B 0)), (1, .int (nI j)), (2, .int i), (3, .int (nI lx))] → f_cell σ (nI j) i (nI lx) = (LOSTv, uI σ 0 w) → kT p l e (rx 1 3 1000) s m [.ref (B 0), .int (nI j), .int i, .int (nI lx)].toArray below meth c 3 1000 (MQX below (qX D A (xw d B τ ea hs ρ) (xPost d B e0 (some (.long (f_cell σ (nI j) i (nI lx)).1)) (f_cell σ (nI j) i (nI lx)).2) (fun _ => False)) s 3 1000 A) D A (xw d B (put2 τ 0 0 0) ea hs ρ) cls (F0 m pc ls rest) := by
        intro jh cls w pc rest ls hp1 hp2 hcase hl hf
        have hcov : ∀ q ∈ [((23 : Nat), (41 : Nat), (42 : Nat), (176 : Nat)), (23, 41, 50, 182), (23, 41, 58, 186)], q.1 ≤ pc ∧ pc < q.2.1 ∧ q.2.2.2 ≠ 0 := by
          intro q hq
          simp only [List.mem_cons, List.not_mem_nil, or_false] at hq
          rcases hq with hq | hq | hq <;> subst hq <;> exact ⟨hp1, hp2, by decide⟩
        have hlk3 := lk_cons (own := RX0) (q0 := (23, 41, 42, 176)) (nm0 := nmC) (hts _ q194) (lk_cons (q0 := (23, 41, 50, 182)) (nm0 := nmN) (hts _ q280) (lk_cons (q0 := (23, 41, 58, 186)) (nm0 := nmA) (hts _ q319) lk_nil))
        rcases hcase with ⟨rfl, rfl, rfl⟩ | ⟨rfl, rfl, rfl⟩ | ⟨rfl, rfl, rfl⟩
        · refine kT_take hown htb [nmC, nmN, nmA] hcov hlk3 0 rfl rfl no_nil (hK.cw 2 rfl) (fun H locs a hu => ?_)
          refine lv_astore (lv' := [(4, .ref a), (0, .ref (B 0)), (1, .int (nI j)), (2, .int i), (3, .int (nI lx))]) hx hb dX0_cell_42 hl (by decide) rfl (fun ls hl => ?_)
          refine lv_aload_n hx hb dX0_cell_44 rfl (lv_at hl 1 rfl) ?_
          refine lv_iconst (v := 2) hx hb dX0_cell_45 (by decide) ?_
          refine callU_V (rest := []) hx hb hml hown hts KX_st hK.1 hA hAN hZ (cX_lost l D d H00 B (put2 τ 0 0 0) ea hs ρ 2) (wX0_lost hts ⟨Nat.le_of_ble_eq_true rfl, Nat.le_of_ble_eq_true rfl⟩) (x_recv hK.1 hu.1) hu rfl hl.1 rfl (Nat.le_of_ble_eq_true rfl) dX0_cell_46 ⟨Nat.le_of_ble_eq_true rfl, Nat.le_of_ble_eq_true rfl⟩ (fun r ws H locs hpo hu => ?_)
          obtain ⟨rfl, rfl⟩ := hpo
          refine rX_l hx hb hr hlk hu dX0_cell_49 (Nat.le_of_ble_eq_true rfl) (Nat.le_of_ble_eq_true rfl) ?_
          rw [hf]
          exact ⟨rfl, _, _, _, _, F, rfl, xRep_f2 hm 0 2⟩
        · refine kT_take hown htb [nmC, nmN, nmA] hcov hlk3 1 rfl rfl (no_cons (hK.n 0 rfl) no_nil) (hK.cw 5 rfl) (fun H locs a hu => ?_)
          refine lv_astore (lv' := [(4, .ref a), (0, .ref (B 0)), (1, .int (nI j)), (2, .int i), (3, .int (nI lx))]) hx hb dX0_cell_50 hl (by decide) rfl (fun ls hl => ?_)
          refine lv_aload_n hx hb dX0_cell_52 rfl (lv_at hl 1 rfl) ?_
          refine lv_iconst (v := 1) hx hb dX0_cell_53 (by decide) ?_
          refine callU_V (rest := []) hx hb hml hown hts KX_st hK.1 hA hAN hZ (cX_lost l D d H00 B (put2 τ 0 0 0) ea hs ρ 1) (wX0_lost hts ⟨Nat.le_of_ble_eq_true rfl, Nat.le_of_ble_eq_true rfl⟩) (x_recv hK.1 hu.1) hu rfl hl.1 rfl (Nat.le_of_ble_eq_true rfl) dX0_cell_54 ⟨Nat.le_of_ble_eq_true rfl, Nat.le_of_ble_eq_true rfl⟩ (fun r ws H locs hpo hu => ?_)
          obtain ⟨rfl, rfl⟩ := hpo
          refine rX_l hx hb hr hlk hu dX0_cell_57 (Nat.le_of_ble_eq_true rfl) (Nat.le_of_ble_eq_true rfl) ?_
          rw [hf]
          exact ⟨rfl, _, _, _, _, F, rfl, xRep_f2 hm 0 1⟩
        · refine kT_take hown htb [nmC, nmN, nmA] hcov hlk3 2 rfl rfl (no_cons (hK.n 3 rfl) (no_cons (hK.n 4 rfl) no_nil)) (hK.cw 0 rfl) (fun H locs a hu => ?_)
          refine lv_astore (lv' := [(4, .ref a), (0, .ref (B 0)), (1, .int (nI j)), (2, .int i), (3, .int (nI lx))]) hx hb dX0_cell_58 hl (by decide) rfl (fun ls hl => ?_)
          refine lv_aload_n hx hb dX0_cell_60 rfl (lv_at hl 1 rfl) ?_
          refine lv_iconst (v := 3) hx hb dX0_cell_61 (by decide) ?_
          refine callU_V (rest := []) hx hb hml hown hts KX_st hK.1 hA hAN hZ (cX_lost l D d H00 B (put2 τ 0 0 0) ea hs ρ 3) (wX0_lost hts ⟨Nat.le_of_ble_eq_true rfl, Nat.le_of_ble_eq_true rfl⟩) (x_recv hK.1 hu.1) hu rfl hl.1 rfl (Nat.le_of_ble_eq_true rfl) dX0_cell_62 ⟨Nat.le_of_ble_eq_true rfl, Nat.le_of_ble_eq_true rfl⟩ (fun r ws H locs hpo hu => ?_)
          obtain ⟨rfl, rfl⟩ := hpo
          refine rX_l hx hb hr hlk hu dX0_cell_65 (Nat.le_of_ble_eq_true rfl) (Nat.le_of_ble_eq_true rfl) ?_
          rw [hf]
          exact ⟨rfl, _, _, _, _, F, rfl, xRep_f2 hm 0 3⟩
      refine lv_aload_n hx hb dX0_cell_23 rfl (lv_at hl 0 rfl) ?_
      refine xg19 hx hb hts hown hK.1 hu.1 dX0_cell_24 ?_
      refine lv_iload_n hx hb dX0_cell_27 rfl (lv_at hl 1 rfl) ?_
      refine xh_ald hx hb hK.1 hu.1 hj dX0_cell_28 ?_
      obtain ⟨mkc, hcc⟩ := xCode.of (hts _ q373)
      obtain ⟨mkl, hcl⟩ := xCode.of (hts _ q351)
      rcases xSh_at hm.sh hj with ⟨h1, h2⟩ | ⟨z, fa, jj, f, h1, h2, h3, h4⟩
      · refine xh_get hx hb hts hown hK.1 hu.1 hj (v := .null) (by rw [h2]; rfl) dX0_cell_29 ?_
        refine lv_iload_n hx hb dX0_cell_32 rfl (lv_at hl 3 rfl) ?_
        refine callR_S (rest := []) hx hb hml hown hts KX_st hK.1 (cY_laneN l D d (xw d B (put2 τ 0 0 0) ea hs ρ) lx hlx) (wX0_asLane hts ⟨Nat.le_of_ble_eq_true rfl, Nat.le_of_ble_eq_true rfl⟩) hu.1 rfl hl.1 rfl (Nat.le_of_ble_eq_true rfl) dX0_cell_33 ⟨Nat.le_of_ble_eq_true rfl, Nat.le_of_ble_eq_true rfl⟩ ?_
        refine lv_iload_n hx hb dX0_cell_36 rfl (lv_at hl 2 rfl) ?_
        refine callX_S (own := RX0) (rest := []) hx hb hml hown hts KE_st hK hA hAN hZ (cY_cellN l D d e0 H00 htr (xw d B (put2 τ 0 0 0) ea hs ρ) i) hcc q371 q372 q51 ⟨by decide, by decide, by decide, pd_cellOf⟩ (Nat.le_of_ble_eq_true rfl) hu hl.1 rfl (Nat.le_of_ble_eq_true rfl) dX0_cell_37 ⟨Nat.le_of_ble_eq_true rfl, Nat.le_of_ble_eq_true rfl, Nat.le_of_ble_eq_true rfl, Nat.le_of_ble_eq_true rfl⟩ (fun r w H1 l1 hp _ => absurd hp id) (fun cls he => ?_)
        subst he
        exact hH 1 nmN 1 37 [] ls (by decide) (by decide) (Or.inr (Or.inl ⟨rfl, rfl, rfl⟩)) hl (by unfold f_cell; rw [if_neg (bt_nf c1), if_neg (bt_nf c2), ejx, h1])
      · have hz := hm.ok.2.2.2.2.2.2 j z h1
        obtain ⟨lz, n, g0⟩ := z
        have hlz : lz < 3 := hz.1
        have hn60 : n ≤ 60 := hz.2
        have h3x : (xw d B (put2 τ 0 0 0) ea hs ρ)[jj + 14]? = some (fa, .inl (lnC d lz, n, .inl f)) := h3
        refine xh_get hx hb hts hown hK.1 hu.1 hj (v := .ref fa) (by rw [h2]; rfl) dX0_cell_29 ?_
        refine lv_iload_n hx hb dX0_cell_32 rfl (lv_at hl 3 rfl) ?_
        by_cases hle : lz = lx
        · subst hle
          refine callR_S (rest := []) hx hb hml hown hts KX_st hK.1 (cY_lane l D d (xw d B (put2 τ 0 0 0) ea hs ρ) fa (jj + 14) lz n f h3x hlz) (wX0_asLane hts ⟨Nat.le_of_ble_eq_true rfl, Nat.le_of_ble_eq_true rfl⟩) hu.1 rfl hl.1 rfl (Nat.le_of_ble_eq_true rfl) dX0_cell_33 ⟨Nat.le_of_ble_eq_true rfl, Nat.le_of_ble_eq_true rfl⟩ ?_
          refine lv_iload_n hx hb dX0_cell_36 rfl (lv_at hl 2 rfl) ?_
          cases hq : isC (lz, n, g0) i with
          | true =>
            obtain ⟨t, ht, hi⟩ := pIn_ix (n := n) (by omega) hq
            subst hi
            refine callR_S (rest := []) hx hb hml hown hts KX_st hK.1 (cY_cell l D d (xw d B (put2 τ 0 0 0) ea hs ρ) fa (jj + 14) lz n f h3x hlz t ht hn60) (wX0_cellOf hts ⟨Nat.le_of_ble_eq_true rfl, Nat.le_of_ble_eq_true rfl⟩) hu.1 rfl hl.1 rfl (Nat.le_of_ble_eq_true rfl) dX0_cell_37 ⟨Nat.le_of_ble_eq_true rfl, Nat.le_of_ble_eq_true rfl⟩ ?_
            refine lv_i2l (v := (f t).toInt64) hx hb dX0_cell_40 rfl ?_
            refine rX_l hx hb hr hlk hu dX0_cell_41 (Nat.le_of_ble_eq_true rfl) (Nat.le_of_ble_eq_true rfl) ?_
            unfold f_cell
            rw [if_neg (bt_nf c1), if_neg (bt_nf c2), ejx, h1, elxx]
            simp only [not_true_eq_false, if_false, hq, Bool.true_eq_false]
            rw [show ix (nI t) = t from nI_clamp (by omega)]
            exact ⟨by rw [h4 t ht], _, _, _, _, F, rfl, hm0⟩
          | false =>
            have hin : ¬ vp_in i n := by
              intro hin
              obtain ⟨t, _, ht⟩ := nI_of (x := i) (fun q => hin (Or.inl q))
              rw [ht] at hin hq
              have h9 : ¬ n ≤ (nI t).toNatClampNeg := fun q => hin (Or.inr q)
              rw [nI_clamp (by omega)] at h9
              rw [show isC (lz, n, g0) (nI t) = true from pIn_nI (n := n) (show t < n by omega) (by omega)] at hq
              cases hq
            refine callX_S (own := RX0) (rest := []) hx hb hml hown hts KE_st hK hA hAN hZ (cY_cellO l D d e0 H00 htr (xw d B (put2 τ 0 0 0) ea hs ρ) fa (jj + 14) lz n f h3x hlz i hn60 hin) hcc q371 q372 q51 ⟨by decide, by decide, by decide, pd_cellOf⟩ (Nat.le_of_ble_eq_true rfl) hu hl.1 rfl (Nat.le_of_ble_eq_true rfl) dX0_cell_37 ⟨Nat.le_of_ble_eq_true rfl, Nat.le_of_ble_eq_true rfl, Nat.le_of_ble_eq_true rfl, Nat.le_of_ble_eq_true rfl⟩ (fun r w H1 l1 hp _ => absurd hp id) (fun cls he => ?_)
            subst he
            exact hH 2 nmA 3 37 [] ls (by decide) (by decide) (Or.inr (Or.inr ⟨rfl, rfl, rfl⟩)) hl (by unfold f_cell; rw [if_neg (bt_nf c1), if_neg (bt_nf c2), ejx, h1, elxx]; simp only [not_true_eq_false, if_false, hq, if_true])
        · refine callX_S (own := RX0) (rest := []) hx hb hml hown hts KE_st hK hA hAN hZ (cY_laneO l D d e0 H00 htr (xw d B (put2 τ 0 0 0) ea hs ρ) fa (jj + 14) lz n f h3x hlz lx hlx hle) hcl q349 q350 q51 ⟨by decide, by decide, by decide, pd_asLane⟩ (Nat.le_of_ble_eq_true rfl) hu hl.1 rfl (Nat.le_of_ble_eq_true rfl) dX0_cell_33 ⟨Nat.le_of_ble_eq_true rfl, Nat.le_of_ble_eq_true rfl, Nat.le_of_ble_eq_true rfl, Nat.le_of_ble_eq_true rfl⟩ (fun r w H1 l1 hp _ => absurd hp id) (fun cls he => ?_)
          subst he
          exact hH 0 nmC 2 33 [] ls (by decide) (by decide) (Or.inl ⟨rfl, rfl, rfl⟩) hl (by unfold f_cell; rw [if_neg (bt_nf c1), if_neg (bt_nf c2), ejx, h1, elxx]; simp only [hle, not_false_eq_true, if_true])
    · refine lv_ldc2 (v := -9223372036854775808) hx hb hown (hts _ q767) dX0_cell_19 ?_
      refine rX_l hx hb hr hlk hu dX0_cell_22 (Nat.le_of_ble_eq_true rfl) (Nat.le_of_ble_eq_true rfl) ?_
      unfold f_cell
      rw [if_neg (bt_nf c1), if_pos c2]
      exact ⟨rfl, _, _, _, _, F, rfl, hm0⟩
