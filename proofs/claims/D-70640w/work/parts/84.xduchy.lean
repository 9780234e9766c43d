/-! duchy -/
theorem vp_cell_eq {cA : ClassId} {n : Nat} {g g' : Nat → Int32} (h : ∀ t, t < n → g t = g' t) : vp_cell cA (n, .inl g) = vp_cell cA (n, .inl g') := by
  rw [vp_cell_i, vp_cell_i]
  unfold arrV
  have e : (Array.ofFn (n := n) fun j => (Value.int (g j.val))) = Array.ofFn (n := n) fun j => Value.int (g' j.val) := by
    congr 1
    funext j
    rw [h j.val j.isLt]
  rw [e]
/-- the last cell of a world under another function of the same numbers -/
theorem uW_last {D : va_G} {A : Nat → Prop} {H0 H : Heap} {locs : List Loc} {ws : va_W} {q n : Nat} {cA : ClassId} {g g' : Nat → Int32} (hu : uW D A H0 H locs (ws ++ [(q, .inl (cA, n, .inl g))])) (h : ∀ t, t < n → g t = g' t) : uW D A H0 H locs (ws ++ [(q, .inl (cA, n, .inl g'))]) := by
  have key : ∀ (k : Nat) (x : Nat × va_E), (ws ++ [(q, (.inl (cA, n, .inl g') : va_E))])[k]? = some x → ∃ x0 : Nat × va_E, (ws ++ [(q, (.inl (cA, n, .inl g) : va_E))])[k]? = some x0 ∧ x0.1 = x.1 ∧ (va_at D vwCl x0 H → va_at D vwCl x H) := by
    intro k x hk
    by_cases hl : k < ws.length
    · rw [List.getElem?_append_left hl] at hk
      exact ⟨x, by rw [List.getElem?_append_left hl]; exact hk, rfl, id⟩
    · have hk2 := (List.getElem?_eq_some_iff.mp hk).1
      have hke : k = ws.length := by simp at hk2; omega
      subst hke
      have hx : x = (q, (.inl (cA, n, .inl g') : va_E)) := by
        rw [List.getElem?_append_right (Nat.le_refl _)] at hk
        simp at hk
        exact hk.symm
      subst hx
      refine ⟨(q, .inl (cA, n, .inl g)), by rw [List.getElem?_append_right (Nat.le_refl _)]; simp, rfl, fun z => ?_⟩
      have z : H[q]? = some (vp_cell cA (n, .inl g)) := z
      show H[q]? = some (vp_cell cA (n, .inl g'))
      rw [z, vp_cell_eq h]
  refine ⟨fun k x hk => ?_, ⟨fun i j x y hi hj hxy => ?_, fun k x hk => ?_⟩, hu.2.2⟩
  · obtain ⟨x0, h1, -, h3⟩ := key k x hk
    exact h3 (hu.1 k x0 h1)
  · obtain ⟨x0, h1, h2, -⟩ := key i x hi
    obtain ⟨y0, h3, h4, -⟩ := key j y hj
    exact hu.2.1.1 i j x0 y0 h1 h3 (h2.trans (hxy.trans h4.symm))
  · obtain ⟨x0, h1, h2, -⟩ := key k x hk
    rw [← h2]
    exact hu.2.1.2 k x0 h1
theorem duc_u (σ : ASt) (r : Nat → Int32) (dd n : Nat) : duc (uI σ 0 0) r dd n = duc σ r dd n := by
  have e : upd (aI (uI σ 0 0)) 0 0 = upd (aI σ) 0 0 := by
    funext k
    show upd (upd (aI σ) 0 0) 0 0 k = upd (aI σ) 0 0 k
    simp only [upd]
    split <;> rfl
  unfold duc
  rw [e]
  rfl
set_option maxHeartbeats 4000000 in
set_option maxRecDepth 100000 in
theorem cX_duchy (l : Launch) (D : va_G) (d : Nat → ClassId) (H00 : Heap) (B : Nat → Nat) (τ : Nat → Nat → Int32) (ea : Nat) (hs : Nat → Option Nat) (ρ : va_W) (e0 : Nat) (F : Nat → Nat) (σ : ASt) (k la i n : Int32) (htr : ∀ e, l.admits e → e.platform.stackTraces = false) (hm : xRep d B e0 σ τ ea hs ρ F) : cX l (KE D d e0 H00) H00 D yX0_duchy cX0_duchy 6 (some .int) [(24, 47, 48, 176), (24, 47, 56, 182), (24, 47, 64, 184), (24, 47, 72, 186)] (rx 2 9 1061) [.ref (B 0), .int k, .int la, .int i, .int n] (xw d B τ ea hs ρ) (xPost d B e0 (some (.int (f_duchy σ k la i n).1)) (f_duchy σ k la i n).2) (fun _ => False) := by
  intro p e s m below meth c A hx had hb hml htb hown hts hr hlk hK hA hAN hZ hnS hu ls hl
  have hl : lv_has ls 6 [(0, .ref (B 0)), (1, .int k), (2, .int la), (3, .int i), (4, .int n)] := hl
  have hm0 := xRep_fault hm 0
  have hok := hm.ok
  refine lv_aload_n hx hb dX0_duchy_0 rfl (lv_at hl 0 rfl) ?_
  refine lv_iconst (v := 0) hx hb dX0_duchy_1 (by decide) ?_
  refine xp0 hx hb hts hown hK.1 hu dX0_duchy_2 (fun H locs hu => ?_)
  refine lv_iload_n hx hb dX0_duchy_5 rfl (lv_at hl 1 rfl) ?_
  refine callR_S (rest := []) hx hb hml hown hts KX_st hK.1 (cX_isSheet l D d k) (wX0_isSheet hts ⟨Nat.le_of_ble_eq_true rfl, Nat.le_of_ble_eq_true rfl⟩) trivial rfl hl.1 rfl (Nat.le_of_ble_eq_true rfl) dX0_duchy_6 ⟨Nat.le_of_ble_eq_true rfl, Nat.le_of_ble_eq_true rfl⟩ ?_
  refine bz_ne (tgt := 14) hx hb dX0_duchy_9 (by decide) (fun c1 => ?_) (fun c1 => ?_)
  · obtain ⟨j, hj, ej⟩ := sh_ix c1
    subst ej
    have ejx : ix (nI j) = j := nI_clamp (by omega)
    refine lv_iload_n hx hb dX0_duchy_14 rfl (lv_at hl 2 rfl) ?_
    refine callR_S (rest := []) hx hb hml hown hts KX_st hK.1 (cX_isLane l D d la) (wX0_isLane hts ⟨Nat.le_of_ble_eq_true rfl, Nat.le_of_ble_eq_true rfl⟩) trivial rfl hl.1 rfl (Nat.le_of_ble_eq_true rfl) dX0_duchy_15 ⟨Nat.le_of_ble_eq_true rfl, Nat.le_of_ble_eq_true rfl⟩ ?_
    refine bz_ne (tgt := 24) hx hb dX0_duchy_18 (by decide) (fun c2 => ?_) (fun c2 => ?_)
    · obtain ⟨lx, hlx, elx⟩ := ln_ix c2
      subst elx
      have elxx : ix (nI lx) = lx := nI_clamp (by omega)
      refine lv_aload_n hx hb dX0_duchy_24 rfl (lv_at hl 0 rfl) ?_
      refine x_row (σ := uI σ 0 0) (rest := [.ref (B 0)]) htr had hx hb hml hown hts hK hA hAN hZ hu hm0 hj hlx hl (lv_at hl 0 rfl) (lv_at hl 1 rfl) (lv_at hl 2 rfl) (lv_at hl 3 rfl) (lv_at hl 4 rfl) dX0_duchy_25 dX0_duchy_26 dX0_duchy_29 dX0_duchy_30 dX0_duchy_31 dX0_duchy_34 dX0_duchy_35 dX0_duchy_38 dX0_duchy_39 dX0_duchy_41 (Nat.le_of_ble_eq_true rfl) ⟨Nat.le_of_ble_eq_true rfl, Nat.le_of_ble_eq_true rfl, Nat.le_of_ble_eq_true rfl, Nat.le_of_ble_eq_true rfl⟩ (fun hbar q a b g H locs ea1 eb1 hb60 hg hu => ?_) (fun cls w0 hcase hbar pc' rest' hp1 hp2 => ?_)
      · subst ea1 eb1
        have hbar : bar σ j lx (nI a) (nI b) = 0 := hbar
        have hg : ∀ t, t < b → g t = txt σ j a t := hg
        have ha31 : ix (nI b) = b := nI_clamp (by omega)
        have haa31 : ix (nI a) = a := nI_clamp (by omega)
        rw [← xw_app] at hu
        have hu := uW_last hu hg
        rw [xw_app] at hu
        unfold f_duchy
        rw [if_neg (bt_nf c1), if_neg (bt_nf c2), ejx, elxx, if_neg (fun q => q hbar), ha31, haa31]
        generalize hrr : txt σ j a = r at hu
        generalize hdd : dcn r b 6 = dd
        generalize hP : prs r b = P
        have hm1 := hm0.kp (xKp.app ρ [(q, .inl (d 0, b, .inl r))])
        refine callU_V (rest := []) hx hb hml hown hts KE_st hK hA hAN hZ (cX_comesDuchy l D d H00 B (put2 τ 0 0 0) ea hs (ρ ++ [(q, .inl (d 0, b, .inl r))]) e0 F (uI σ 0 0) q ρ.length b dd r P hm1 app_last hb60.2 hdd hP rfl) (wX0_comesDuchy hts ⟨Nat.le_of_ble_eq_true rfl, Nat.le_of_ble_eq_true rfl⟩) (x_recv hK.1 hu.1) hu rfl hl.1 rfl (Nat.le_of_ble_eq_true rfl) dX0_duchy_44 ⟨Nat.le_of_ble_eq_true rfl, Nat.le_of_ble_eq_true rfl⟩ (fun r0 ws H locs hpo hu => ?_)
        obtain ⟨rfl, τ2, ea2, hs2, ρ2, F2, rfl, hm2⟩ := hpo
        refine rX_i hx hb hr hlk hu dX0_duchy_47 (Nat.le_of_ble_eq_true rfl) (Nat.le_of_ble_eq_true rfl) ?_
        rw [duc_u] at hm2
        by_cases hc : P.1 = false
        · rw [if_pos hc] at hm2
          rw [if_pos hc, if_pos hc]
          exact ⟨rfl, _, _, _, _, F2, rfl, hm2⟩
        · rw [if_neg hc] at hm2
          rw [if_neg hc, if_neg hc]
          exact ⟨rfl, _, _, _, _, F2, rfl, hm2⟩
      · have hbar : bar σ j lx i n = w0 := hbar
        have hw0 : ¬ w0 = 0 := by rcases hcase with ⟨-, h⟩ | ⟨-, h⟩ | ⟨-, h⟩ | ⟨-, h⟩ <;> omega
        have hf : f_duchy σ (nI j) (nI lx) i n = (-10 - nI w0, uI σ 0 (nI w0)) := by
          unfold f_duchy
          rw [if_neg (bt_nf c1), if_neg (bt_nf c2), ejx, elxx, hbar, if_pos hw0]
        rw [hf]
        have hcov : ∀ q ∈ [((24 : Nat), (47 : Nat), (48 : Nat), (176 : Nat)), (24, 47, 56, 182), (24, 47, 64, 184), (24, 47, 72, 186)], q.1 ≤ pc' ∧ pc' < q.2.1 ∧ q.2.2.2 ≠ 0 := by
          intro q hq
          simp only [List.mem_cons, List.not_mem_nil, or_false] at hq
          rcases hq with hq | hq | hq | hq <;> subst hq <;> exact ⟨by show 24 ≤ pc'; omega, by show pc' < 47; omega, by decide⟩
        have hlk4 := lk_cons (own := RX0) (q0 := (24, 47, 48, 176)) (nm0 := nmC) (hts _ q194) (lk_cons (q0 := (24, 47, 56, 182)) (nm0 := nmN) (hts _ q280) (lk_cons (q0 := (24, 47, 64, 184)) (nm0 := nmS) (hts _ q305) (lk_cons (q0 := (24, 47, 72, 186)) (nm0 := nmA) (hts _ q319) lk_nil)))
        rcases hcase with ⟨rfl, rfl⟩ | ⟨rfl, rfl⟩ | ⟨rfl, rfl⟩ | ⟨rfl, rfl⟩
        · refine kT_take hown htb [nmC, nmN, nmS, nmA] hcov hlk4 0 rfl rfl no_nil (hK.cw 2 rfl) (fun H locs ax hu => ?_)
          refine lv_astore (lv' := [(5, .ref ax), (0, .ref (B 0)), (1, .int (nI j)), (2, .int (nI lx)), (3, .int i), (4, .int n)]) hx hb dX0_duchy_48 hl (by decide) rfl (fun ls hl => ?_)
          refine lv_aload_n hx hb dX0_duchy_50 rfl (lv_at hl 1 rfl) ?_
          refine lv_iconst (v := 2) hx hb dX0_duchy_51 (by decide) ?_
          refine callU_V (rest := []) hx hb hml hown hts KX_st hK.1 hA hAN hZ (cX_faulty l D d H00 B (put2 τ 0 0 0) ea hs ρ 2) (wX0_faulty hts ⟨Nat.le_of_ble_eq_true rfl, Nat.le_of_ble_eq_true rfl⟩) (x_recv hK.1 hu.1) hu rfl hl.1 rfl (Nat.le_of_ble_eq_true rfl) dX0_duchy_52 ⟨Nat.le_of_ble_eq_true rfl, Nat.le_of_ble_eq_true rfl⟩ (fun r ws H locs hpo hu => ?_)
          obtain ⟨rfl, rfl⟩ := hpo
          refine rX_i hx hb hr hlk hu dX0_duchy_55 (Nat.le_of_ble_eq_true rfl) (Nat.le_of_ble_eq_true rfl) ?_
          exact ⟨rfl, _, _, _, _, F, rfl, xRep_f2 hm 0 2⟩
        · refine kT_take hown htb [nmC, nmN, nmS, nmA] hcov hlk4 1 rfl rfl (no_cons (hK.n 0 rfl) no_nil) (hK.cw 5 rfl) (fun H locs ax hu => ?_)
          refine lv_astore (lv' := [(5, .ref ax), (0, .ref (B 0)), (1, .int (nI j)), (2, .int (nI lx)), (3, .int i), (4, .int n)]) hx hb dX0_duchy_56 hl (by decide) rfl (fun ls hl => ?_)
          refine lv_aload_n hx hb dX0_duchy_58 rfl (lv_at hl 1 rfl) ?_
          refine lv_iconst (v := 1) hx hb dX0_duchy_59 (by decide) ?_
          refine callU_V (rest := []) hx hb hml hown hts KX_st hK.1 hA hAN hZ (cX_faulty l D d H00 B (put2 τ 0 0 0) ea hs ρ 1) (wX0_faulty hts ⟨Nat.le_of_ble_eq_true rfl, Nat.le_of_ble_eq_true rfl⟩) (x_recv hK.1 hu.1) hu rfl hl.1 rfl (Nat.le_of_ble_eq_true rfl) dX0_duchy_60 ⟨Nat.le_of_ble_eq_true rfl, Nat.le_of_ble_eq_true rfl⟩ (fun r ws H locs hpo hu => ?_)
          obtain ⟨rfl, rfl⟩ := hpo
          refine rX_i hx hb hr hlk hu dX0_duchy_63 (Nat.le_of_ble_eq_true rfl) (Nat.le_of_ble_eq_true rfl) ?_
          exact ⟨rfl, _, _, _, _, F, rfl, xRep_f2 hm 0 1⟩
        · refine kT_take hown htb [nmC, nmN, nmS, nmA] hcov hlk4 2 rfl rfl (no_cons (hK.n 1 rfl) (no_cons (hK.n 2 rfl) no_nil)) (hK.cw 1 rfl) (fun H locs ax hu => ?_)
          refine lv_astore (lv' := [(5, .ref ax), (0, .ref (B 0)), (1, .int (nI j)), (2, .int (nI lx)), (3, .int i), (4, .int n)]) hx hb dX0_duchy_64 hl (by decide) rfl (fun ls hl => ?_)
          refine lv_aload_n hx hb dX0_duchy_66 rfl (lv_at hl 1 rfl) ?_
          refine lv_iconst (v := 4) hx hb dX0_duchy_67 (by decide) ?_
          refine callU_V (rest := []) hx hb hml hown hts KX_st hK.1 hA hAN hZ (cX_faulty l D d H00 B (put2 τ 0 0 0) ea hs ρ 4) (wX0_faulty hts ⟨Nat.le_of_ble_eq_true rfl, Nat.le_of_ble_eq_true rfl⟩) (x_recv hK.1 hu.1) hu rfl hl.1 rfl (Nat.le_of_ble_eq_true rfl) dX0_duchy_68 ⟨Nat.le_of_ble_eq_true rfl, Nat.le_of_ble_eq_true rfl⟩ (fun r ws H locs hpo hu => ?_)
          obtain ⟨rfl, rfl⟩ := hpo
          refine rX_i hx hb hr hlk hu dX0_duchy_71 (Nat.le_of_ble_eq_true rfl) (Nat.le_of_ble_eq_true rfl) ?_
          exact ⟨rfl, _, _, _, _, F, rfl, xRep_f2 hm 0 4⟩
        · refine kT_take hown htb [nmC, nmN, nmS, nmA] hcov hlk4 3 rfl rfl (no_cons (hK.n 3 rfl) (no_cons (hK.n 4 rfl) (no_cons (hK.n 5 rfl) no_nil))) (hK.cw 0 rfl) (fun H locs ax hu => ?_)
          refine lv_astore (lv' := [(5, .ref ax), (0, .ref (B 0)), (1, .int (nI j)), (2, .int (nI lx)), (3, .int i), (4, .int n)]) hx hb dX0_duchy_72 hl (by decide) rfl (fun ls hl => ?_)
          refine lv_aload_n hx hb dX0_duchy_74 rfl (lv_at hl 1 rfl) ?_
          refine lv_iconst (v := 3) hx hb dX0_duchy_75 (by decide) ?_
          refine callU_V (rest := []) hx hb hml hown hts KX_st hK.1 hA hAN hZ (cX_faulty l D d H00 B (put2 τ 0 0 0) ea hs ρ 3) (wX0_faulty hts ⟨Nat.le_of_ble_eq_true rfl, Nat.le_of_ble_eq_true rfl⟩) (x_recv hK.1 hu.1) hu rfl hl.1 rfl (Nat.le_of_ble_eq_true rfl) dX0_duchy_76 ⟨Nat.le_of_ble_eq_true rfl, Nat.le_of_ble_eq_true rfl⟩ (fun r ws H locs hpo hu => ?_)
          obtain ⟨rfl, rfl⟩ := hpo
          refine rX_i hx hb hr hlk hu dX0_duchy_79 (Nat.le_of_ble_eq_true rfl) (Nat.le_of_ble_eq_true rfl) ?_
          exact ⟨rfl, _, _, _, _, F, rfl, xRep_f2 hm 0 3⟩
    · refine lv_bipush (v := -2) hx hb dX0_duchy_21 (by decide) ?_
      refine rX_i hx hb hr hlk hu dX0_duchy_23 (Nat.le_of_ble_eq_true rfl) (Nat.le_of_ble_eq_true rfl) ?_
      unfold f_duchy
      rw [if_neg (bt_nf c1), if_pos c2]
      exact ⟨rfl, _, _, _, _, F, rfl, hm0⟩
  · refine lv_iconst (v := -1) hx hb dX0_duchy_12 (by decide) ?_
    refine rX_i hx hb hr hlk hu dX0_duchy_13 (Nat.le_of_ble_eq_true rfl) (Nat.le_of_ble_eq_true rfl) ?_
    unfold f_duchy
    rw [if_pos c1]
    exact ⟨rfl, _, _, _, _, F, rfl, hm0⟩
