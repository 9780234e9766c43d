/-! as, tell -/
set_option maxHeartbeats 4000000 in
set_option maxRecDepth 100000 in
theorem cY_of (l : Launch) (D : va_G) (d : Nat → ClassId) (ws : va_W) (fa q0 kd x nu sp st nd : Nat) (hj : ws[q0]? = some (fa, .inr (3 + kd, eF x kd nu sp st nd))) (hkd : kd < 3) (kk : Nat) (hkk : kk ≤ kd) : cR l (KX D d) yX0_of cX0_of 2 (some (.object "MustardFast$Eater")) (rk 0) [.ref fa, .int (nI kk)] (va_P D vwCl ws) (.ref fa) := by
  refine cR_start RX0 rfl (by decide) (Nat.le_of_ble_eq_true rfl) ?_
  intro p e s m below meth c hx hb hml hown hts hr hlk hK hP ls hl
  have hl : lv_has ls 2 [(0, .ref fa), (1, .int (nI kk))] := hl
  have h9 : kk = 0 ∨ (kk = 1 ∧ kd = 1) ∨ (kk = 1 ∧ kd = 2) ∨ (kk = 2 ∧ kd = 2) := by omega
  refine lv_iload_n hx hb dX0_of_0 rfl (lv_at hl 1 rfl) ?_
  rcases h9 with h | ⟨h, h2⟩ | ⟨h, h2⟩ | ⟨h, h2⟩
  · subst h
    refine lv_if_ne (tgt := 8) hx hb dX0_of_1 (by decide) (fun c0 => absurd rfl c0) (fun _ => ?_)
    refine lv_aload_n hx hb dX0_of_4 rfl (lv_at hl 0 rfl) ?_
    refine lv_goto (tgt := 24) hx hb dX0_of_5 (by decide) ?_
    exact rR_a hx hb hr (Or.inl ⟨_, rfl⟩) hlk dX0_of_24 rfl
  · subst h h2
    refine lv_if_ne (tgt := 8) hx hb dX0_of_1 (by decide) (fun _ => ?_) (fun c0 => absurd c0 (by decide))
    refine lv_iload_n hx hb dX0_of_8 rfl (lv_at hl 1 rfl) ?_
    refine lv_iconst (v := 1) hx hb dX0_of_9 (by decide) ?_
    refine lv_icmp_ne (tgt := 20) hx hb dX0_of_10 (by decide) (fun c0 => absurd rfl c0) (fun _ => ?_)
    refine lv_aload_n hx hb dX0_of_13 rfl (lv_at hl 0 rfl) ?_
    refine va_castE hx hb hown (hts _ q441) (e_recv hK hP hj rfl) dX0_of_14 ?_
    refine lv_goto (tgt := 24) hx hb dX0_of_17 (by decide) ?_
    exact rR_a hx hb hr (Or.inl ⟨_, rfl⟩) hlk dX0_of_24 rfl
  · subst h h2
    refine lv_if_ne (tgt := 8) hx hb dX0_of_1 (by decide) (fun _ => ?_) (fun c0 => absurd c0 (by decide))
    refine lv_iload_n hx hb dX0_of_8 rfl (lv_at hl 1 rfl) ?_
    refine lv_iconst (v := 1) hx hb dX0_of_9 (by decide) ?_
    refine lv_icmp_ne (tgt := 20) hx hb dX0_of_10 (by decide) (fun c0 => absurd rfl c0) (fun _ => ?_)
    refine lv_aload_n hx hb dX0_of_13 rfl (lv_at hl 0 rfl) ?_
    refine va_castY hx hb hown (hts _ q441) (hK.c 5 rfl) (e_recv hK hP hj rfl) dX0_of_14 ?_
    refine lv_goto (tgt := 24) hx hb dX0_of_17 (by decide) ?_
    exact rR_a hx hb hr (Or.inl ⟨_, rfl⟩) hlk dX0_of_24 rfl
  · subst h h2
    refine lv_if_ne (tgt := 8) hx hb dX0_of_1 (by decide) (fun _ => ?_) (fun c0 => absurd c0 (by decide))
    refine lv_iload_n hx hb dX0_of_8 rfl (lv_at hl 1 rfl) ?_
    refine lv_iconst (v := 1) hx hb dX0_of_9 (by decide) ?_
    refine lv_icmp_ne (tgt := 20) hx hb dX0_of_10 (by decide) (fun _ => ?_) (fun c0 => absurd c0 (by decide))
    refine lv_aload_n hx hb dX0_of_20 rfl (lv_at hl 0 rfl) ?_
    refine va_castE hx hb hown (hts _ q456) (e_recv hK hP hj rfl) dX0_of_21 ?_
    exact rR_a hx hb hr (Or.inl ⟨_, rfl⟩) hlk dX0_of_24 rfl

set_option maxHeartbeats 4000000 in
set_option maxRecDepth 100000 in
theorem cY_ofO (l : Launch) (D : va_G) (d : Nat → ClassId) (e0 : Nat) (H00 : Heap) (htr : ∀ e, l.admits e → e.platform.stackTraces = false) (ws : va_W) (fa q0 kd x nu sp st nd : Nat) (hj : ws[q0]? = some (fa, .inr (3 + kd, eF x kd nu sp st nd))) (kk : Nat) (hkk : kd < kk) (hk3 : kk < 3) : cX l (KE D d e0 H00) H00 D yX0_of cX0_of 2 (some (.object "MustardFast$Eater")) [] (rx 0 3 1000) [.ref fa, .int (nI kk)] ws (fun _ _ => False) (fun x => x = nmC) := by
  intro p e s m below meth c A hx had hb hml htb hown hts hr hlk hK hA hAN hZ hnS hu ls hl
  have hv : XV D d e0 H00 A e s [.ref fa, .int (nI kk)].toArray := ⟨htr e had, hts, hK, hZ, hnS, hA⟩
  have hl : lv_has ls 2 [(0, .ref fa), (1, .int (nI kk))] := hl
  have h9 : (kk = 1 ∧ kd = 0) ∨ (kk = 2 ∧ kd = 0) ∨ (kk = 2 ∧ kd = 1) := by omega
  refine lv_iload_n hx hb dX0_of_0 rfl (lv_at hl 1 rfl) ?_
  rcases h9 with ⟨h, h2⟩ | ⟨h, h2⟩ | ⟨h, h2⟩
  · subst h h2
    refine lv_if_ne (tgt := 8) hx hb dX0_of_1 (by decide) (fun _ => ?_) (fun c0 => absurd c0 (by decide))
    refine lv_iload_n hx hb dX0_of_8 rfl (lv_at hl 1 rfl) ?_
    refine lv_iconst (v := 1) hx hb dX0_of_9 (by decide) ?_
    refine lv_icmp_ne (tgt := 20) hx hb dX0_of_10 (by decide) (fun c0 => absurd rfl c0) (fun _ => ?_)
    refine lv_aload_n hx hb dX0_of_13 rfl (lv_at hl 0 rfl) ?_
    exact tC_cast hx hb hv hml hl hu ⟨Nat.le_of_ble_eq_true rfl, Nat.le_of_ble_eq_true rfl, Nat.le_of_ble_eq_true rfl, Nat.le_of_ble_eq_true rfl⟩ hown (hts _ q441) (hK.1.n 0 rfl) (e_recv hK.1 hu.1 hj rfl) ⟨by decide +kernel, by decide +kernel, by decide +kernel, by decide +kernel⟩ dX0_of_14 (kT_leave0 hlk htb (Nat.le_of_ble_eq_true rfl) (Nat.le_of_ble_eq_true rfl) rfl)
  · subst h h2
    refine lv_if_ne (tgt := 8) hx hb dX0_of_1 (by decide) (fun _ => ?_) (fun c0 => absurd c0 (by decide))
    refine lv_iload_n hx hb dX0_of_8 rfl (lv_at hl 1 rfl) ?_
    refine lv_iconst (v := 1) hx hb dX0_of_9 (by decide) ?_
    refine lv_icmp_ne (tgt := 20) hx hb dX0_of_10 (by decide) (fun _ => ?_) (fun c0 => absurd c0 (by decide))
    refine lv_aload_n hx hb dX0_of_20 rfl (lv_at hl 0 rfl) ?_
    exact tC_cast hx hb hv hml hl hu ⟨Nat.le_of_ble_eq_true rfl, Nat.le_of_ble_eq_true rfl, Nat.le_of_ble_eq_true rfl, Nat.le_of_ble_eq_true rfl⟩ hown (hts _ q456) (hK.1.n 1 rfl) (e_recv hK.1 hu.1 hj rfl) ⟨by decide +kernel, by decide +kernel, by decide +kernel, by decide +kernel⟩ dX0_of_21 (kT_leave0 hlk htb (Nat.le_of_ble_eq_true rfl) (Nat.le_of_ble_eq_true rfl) rfl)
  · subst h h2
    refine lv_if_ne (tgt := 8) hx hb dX0_of_1 (by decide) (fun _ => ?_) (fun c0 => absurd c0 (by decide))
    refine lv_iload_n hx hb dX0_of_8 rfl (lv_at hl 1 rfl) ?_
    refine lv_iconst (v := 1) hx hb dX0_of_9 (by decide) ?_
    refine lv_icmp_ne (tgt := 20) hx hb dX0_of_10 (by decide) (fun _ => ?_) (fun c0 => absurd c0 (by decide))
    refine lv_aload_n hx hb dX0_of_20 rfl (lv_at hl 0 rfl) ?_
    exact tC_cast hx hb hv hml hl hu ⟨Nat.le_of_ble_eq_true rfl, Nat.le_of_ble_eq_true rfl, Nat.le_of_ble_eq_true rfl, Nat.le_of_ble_eq_true rfl⟩ hown (hts _ q456) (hK.1.n 2 rfl) (e_recv hK.1 hu.1 hj rfl) ⟨by decide +kernel, by decide +kernel, by decide +kernel, by decide +kernel⟩ dX0_of_21 (kT_leave0 hlk htb (Nat.le_of_ble_eq_true rfl) (Nat.le_of_ble_eq_true rfl) rfl)

set_option maxHeartbeats 4000000 in
set_option maxRecDepth 100000 in
theorem cX_as (l : Launch) (D : va_G) (d : Nat → ClassId) (H00 : Heap) (B : Nat → Nat) (τ : Nat → Nat → Int32) (ea : Nat) (hs : Nat → Option Nat) (ρ : va_W) (e0 : Nat) (F : Nat → Nat) (σ : ASt) (x k : Int32) (htr : ∀ e, l.admits e → e.platform.stackTraces = false) (hm : xRep d B e0 σ τ ea hs ρ F) : cX l (KE D d e0 H00) H00 D yX0_as cX0_as 4 (some .int) [(30, 59, 60, 176)] (rx 1 3 1000) [.ref (B 0), .int x, .int k] (xw d B τ ea hs ρ) (xPost d B e0 (some (.int (f_as σ x k).1)) (f_as σ x k).2) (fun _ => False) := by
  intro p e s m below meth c A hx had hb hml htb hown hts hr hlk hK hA hAN hZ hnS hu ls hl
  have hl : lv_has ls 4 [(0, .ref (B 0)), (1, .int x), (2, .int k)] := hl
  have hm0 := xRep_fault hm 0
  have hok := hm.ok
  have hE4 : aE σ ≤ 4 := hok.2.1
  refine lv_aload_n hx hb dX0_as_0 rfl (lv_at hl 0 rfl) ?_
  refine lv_iconst (v := 0) hx hb dX0_as_1 (by decide) ?_
  refine xp0 hx hb hts hown hK.1 hu dX0_as_2 (fun H locs hu => ?_)
  refine lv_aload_n hx hb dX0_as_5 rfl (lv_at hl 0 rfl) ?_
  refine lv_iload_n hx hb dX0_as_6 rfl (lv_at hl 1 rfl) ?_
  refine callR_V (rest := []) hx hb hml hown hts KX_st hK.1 (cX_isEater l D d B (put2 τ 0 0 0) ea hs ρ e0 F (aE σ) (aD σ) (aN σ) x hm0.eat hm0.lst hm0.day hok.1) (wX0_isEater hts ⟨Nat.le_of_ble_eq_true rfl, Nat.le_of_ble_eq_true rfl⟩) (x_recv hK.1 hu.1) hu.1 rfl hl.1 rfl (Nat.le_of_ble_eq_true rfl) dX0_as_7 ⟨Nat.le_of_ble_eq_true rfl, Nat.le_of_ble_eq_true rfl⟩ ?_
  refine top_i (y := bI (isE σ x)) rfl ?_
  refine bz_ne (tgt := 15) hx hb dX0_as_10 (by decide) (fun c1 => ?_) (fun c1 => ?_)
  · obtain ⟨a, ha, ej⟩ := isE_ix hok c1
    subst ej
    have eax : ix (nI a) = a := nI_clamp (by omega)
    refine lv_iload_n hx hb dX0_as_15 rfl (lv_at hl 2 rfl) ?_
    refine lv_i2l (v := k.toInt64) hx hb dX0_as_16 rfl ?_
    refine lv_lconst (v := 0) hx hb dX0_as_17 (by decide) ?_
    refine lv_ldc2 (v := 2) hx hb hown (hts _ q348) dX0_as_18 ?_
    refine callR_S (rest := []) hx hb hml hown hts KX_st hK.1 (cX_isIn l D d k.toInt64 0 2) (wX0_isIn hts ⟨Nat.le_of_ble_eq_true rfl, Nat.le_of_ble_eq_true rfl⟩) trivial rfl hl.1 rfl (Nat.le_of_ble_eq_true rfl) dX0_as_21 ⟨Nat.le_of_ble_eq_true rfl, Nat.le_of_ble_eq_true rfl⟩ ?_
    refine bz_ne (tgt := 30) hx hb dX0_as_24 (by decide) (fun c2 => ?_) (fun c2 => ?_)
    · obtain ⟨kk, hkk, ek⟩ := ln_ix c2
      subst ek
      have ekx : ix (nI kk) = kk := nI_clamp (by omega)
      refine lv_aload_n hx hb dX0_as_30 rfl (lv_at hl 0 rfl) ?_
      refine xg2 hx hb hts hown hK.1 hu.1 dX0_as_31 ?_
      refine lv_iload_n hx hb dX0_as_34 rfl (lv_at hl 1 rfl) ?_
      refine xr_get (rest := []) hx hb hml hown hts hK.1 hu.1 hm0.eat hm0.lst ha ⟨Nat.le_of_ble_eq_true rfl, Nat.le_of_ble_eq_true rfl⟩ ⟨Nat.le_of_ble_eq_true rfl, Nat.le_of_ble_eq_true rfl⟩ hl.1 (Nat.le_of_ble_eq_true rfl) dX0_as_35 dX0_as_40 ?_
      refine lv_iload_n hx hb dX0_as_43 rfl (lv_at hl 2 rfl) ?_
      obtain ⟨q0, kd, hj, hkd, -, -, -, hek, -⟩ := xE_at (d := d) (B := B) (ea := ea) (hs := hs) hm0.eat ha
      have hk0 : aN σ 0 a = kd := hek.elim (fun h => absurd (hm0.no.symm.trans h.1).symm (n6 a (by omega))) (fun h => h.2)
      by_cases hle : kk ≤ kd
      · refine callR_S (rest := []) hx hb hml hown hts KX_st hK.1 (cY_of l D d (xw d B (put2 τ 0 0 0) ea hs ρ) (F a) q0 kd _ _ _ _ _ hj hkd kk hle) (wX0_of hts ⟨Nat.le_of_ble_eq_true rfl, Nat.le_of_ble_eq_true rfl⟩) hu.1 rfl hl.1 rfl (Nat.le_of_ble_eq_true rfl) dX0_as_44 ⟨Nat.le_of_ble_eq_true rfl, Nat.le_of_ble_eq_true rfl⟩ ?_
        refine xr_kind (rest := []) hx hb hml hown hts hK.1 hu.1 hm0.eat ha hm0.no ⟨Nat.le_of_ble_eq_true rfl, Nat.le_of_ble_eq_true rfl⟩ ⟨Nat.le_of_ble_eq_true rfl, Nat.le_of_ble_eq_true rfl⟩ hl.1 (Nat.le_of_ble_eq_true rfl) dX0_as_47 ?_
        refine top_i (y := nI kd) (congrArg nI hk0) ?_
        refine lv_iload_n hx hb dX0_as_50 rfl (lv_at hl 2 rfl) ?_
        refine nc_lt (tgt := 58) hx hb dX0_as_51 (by decide) (by omega) (by omega) (fun c0 => by omega) (fun _ => ?_)
        refine lv_iconst (v := 1) hx hb dX0_as_54 (by decide) ?_
        refine lv_goto (tgt := 59) hx hb dX0_as_55 (by decide) ?_
        refine rX_i hx hb hr hlk hu dX0_as_59 (Nat.le_of_ble_eq_true rfl) (Nat.le_of_ble_eq_true rfl) ?_
        unfold f_as
        rw [if_neg (bt_nf c1), if_neg (bt_nf c2), eax, ekx, hk0, if_pos hle]
        exact ⟨rfl, _, _, _, _, F, rfl, hm0⟩
      · obtain ⟨mk, hc⟩ := xCode.of (hts _ q885)
        refine callX_S (own := RX0) (rest := []) hx hb hml hown hts KE_st hK hA hAN hZ (cY_ofO l D d e0 H00 htr (xw d B (put2 τ 0 0 0) ea hs ρ) (F a) q0 kd _ _ _ _ _ hj kk (by omega) hkk) hc q883 q884 q51 ⟨by decide, by decide, by decide, pd_of⟩ (Nat.le_of_ble_eq_true rfl) hu hl.1 rfl (Nat.le_of_ble_eq_true rfl) dX0_as_44 ⟨Nat.le_of_ble_eq_true rfl, Nat.le_of_ble_eq_true rfl, Nat.le_of_ble_eq_true rfl, Nat.le_of_ble_eq_true rfl⟩ (fun r w H1 l1 hp _ => absurd hp id) (fun cls he => ?_)
        subst he
        refine kT_take hown htb [nmC] (by decide) (lk_cons (hts _ q194) lk_nil) 0 rfl rfl no_nil (hK.cw 2 rfl) (fun H locs ax hu => ?_)
        refine lv_astore_n (lv' := [(3, .ref ax), (0, .ref (B 0)), (1, .int (nI a)), (2, .int (nI kk))]) hx hb dX0_as_60 rfl hl (by decide) rfl (fun ls hl => ?_)
        refine lv_aload_n hx hb dX0_as_61 rfl (lv_at hl 1 rfl) ?_
        refine lv_iconst (v := 2) hx hb dX0_as_62 (by decide) ?_
        refine callU_V (rest := []) hx hb hml hown hts KX_st hK.1 hA hAN hZ (cX_faulty l D d H00 B (put2 τ 0 0 0) ea hs ρ 2) (wX0_faulty hts ⟨Nat.le_of_ble_eq_true rfl, Nat.le_of_ble_eq_true rfl⟩) (x_recv hK.1 hu.1) hu rfl hl.1 rfl (Nat.le_of_ble_eq_true rfl) dX0_as_63 ⟨Nat.le_of_ble_eq_true rfl, Nat.le_of_ble_eq_true rfl⟩ (fun r ws H locs hpo hu => ?_)
        obtain ⟨rfl, rfl⟩ := hpo
        refine rX_i hx hb hr hlk hu dX0_as_66 (Nat.le_of_ble_eq_true rfl) (Nat.le_of_ble_eq_true rfl) ?_
        unfold f_as
        rw [if_neg (bt_nf c1), if_neg (bt_nf c2), eax, ekx, hk0, if_neg hle]
        exact ⟨rfl, _, _, _, _, F, rfl, xRep_f2 hm 0 2⟩
    · refine lv_bipush (v := -2) hx hb dX0_as_27 (by decide) ?_
      refine rX_i hx hb hr hlk hu dX0_as_29 (Nat.le_of_ble_eq_true rfl) (Nat.le_of_ble_eq_true rfl) ?_
      unfold f_as
      rw [if_neg (bt_nf c1), if_pos c2]
      exact ⟨rfl, _, _, _, _, F, rfl, hm0⟩
  · refine lv_iconst (v := -1) hx hb dX0_as_13 (by decide) ?_
    refine rX_i hx hb hr hlk hu dX0_as_14 (Nat.le_of_ble_eq_true rfl) (Nat.le_of_ble_eq_true rfl) ?_
    unfold f_as
    rw [if_pos c1]
    exact ⟨rfl, _, _, _, _, F, rfl, hm0⟩
