/-! a duchy comes -/
set_option maxHeartbeats 4000000 in
set_option maxRecDepth 100000 in
theorem cX_comesDuchy (l : Launch) (D : va_G) (d : Nat → ClassId) (H00 : Heap) (B : Nat → Nat) (τ : Nat → Nat → Int32) (ea : Nat) (hs : Nat → Option Nat) (ρ : va_W) (e0 : Nat) (F : Nat → Nat) (σ : ASt) (ra jr nn dd : Nat) (r : Nat → Int32) (P : Bool × Nat × Nat) (hm : xRep d B e0 σ τ ea hs ρ F) (hra : ρ[jr]? = some (ra, .inl (d 0, nn, .inl r))) (hnn : nn ≤ 60) (hdd : dcn r nn 6 = dd) (hP : prs r nn = P) (h00 : τ 0 0 = 0) : cU l (KE D d e0 H00) H00 D yX0_comesDuchy cX0_comesDuchy 3 (some .int) (rc 5 8 68) [.ref (B 0), .ref ra] (xw d B τ ea hs ρ) (xPost d B e0 (some (.int (if P.1 = false then -100 - nI P.2.2 else nI P.2.1))) (if P.1 = false then σ else duc σ r dd P.2.1)) := by
  refine cU_start RX0 rfl (by decide) (Nat.le_of_ble_eq_true rfl) ?_
  intro p e s m below meth c A hx hb hml hown hts hr hlk hnm hK hA hAN hZ hu ls hl
  have hl : lv_has ls 3 [(0, .ref (B 0)), (1, .ref ra)] := hl
  refine lv_aload_n hx hb dX0_comesDuchy_0 rfl (lv_at hl 0 rfl) ?_
  refine lv_aload_n hx hb dX0_comesDuchy_1 rfl (lv_at hl 1 rfl) ?_
  refine callU_V (rest := []) hx hb hml hown hts KX_st hK.1 hA hAN hZ (cX_readAll l D d H00 B τ ea hs ρ ra jr nn dd r P hra hnn hdd hP) (wX0_readAll hts ⟨Nat.le_of_ble_eq_true rfl, Nat.le_of_ble_eq_true rfl⟩) (x_recv hK.1 hu.1) hu rfl hl.1 rfl (Nat.le_of_ble_eq_true rfl) dX0_comesDuchy_2 ⟨Nat.le_of_ble_eq_true rfl, Nat.le_of_ble_eq_true rfl⟩ (fun r0 ws H locs hpo hu => ?_)
  obtain ⟨rfl, τ2, rfl, hq⟩ := hpo
  have hm2 := xRep_read hm hq.1
  refine bz_ne (tgt := 16) hx hb dX0_comesDuchy_5 (by decide) (fun c1 => ?_) (fun c1 => ?_)
  · have hI := hq.2.2 c1
    have hpo := prs_ok (r := r) (nn := nn) (by rw [hP]; exact c1)
    rw [hdd, hP] at hpo
    obtain ⟨hd0, hn0, hn4, -, p5⟩ := hpo
    obtain ⟨b, n, a⟩ := P
    have c1 : b = true := c1
    subst c1
    have hI : xPr τ τ2 r a dd n := hI
    have hn0 : 0 < n := hn0
    have hn4 : n ≤ 4 := hn4
    have p5 : ∀ j, j < n → eAt r nn (3 + dd + 5 * j) = 5 := p5
    have hd6 : dd ≤ 6 := by rw [← hdd]; exact dcn_le r nn 6
    refine lv_aload_n hx hb dX0_comesDuchy_16 rfl (lv_at hl 0 rfl) ?_
    refine lv_aload_n hx hb dX0_comesDuchy_17 rfl (lv_at hl 0 rfl) ?_
    refine xg9 hx hb hts hown hK.1 hu.1 dX0_comesDuchy_18 ?_
    refine top_i hI.2.2.1 ?_
    refine xp3 hx hb hts hown hK.1 hu dX0_comesDuchy_21 (fun H locs hu => ?_)
    refine lv_aload_n hx hb dX0_comesDuchy_24 rfl (lv_at hl 0 rfl) ?_
    refine lv_aload_n hx hb dX0_comesDuchy_25 rfl (lv_at hl 0 rfl) ?_
    refine xg10 hx hb hts hown hK.1 hu.1 dX0_comesDuchy_26 ?_
    refine top_i (y := nI dd) hI.2.2.2.1 ?_
    refine xp4 hx hb hts hown hK.1 hu dX0_comesDuchy_29 (fun H locs hu => ?_)
    refine lv_aload_n hx hb dX0_comesDuchy_32 rfl (lv_at hl 0 rfl) ?_
    refine xg12 hx hb hts hown hK.1 hu.1 dX0_comesDuchy_33 ?_
    refine lv_iconst (v := nI 0) hx hb dX0_comesDuchy_36 (by decide) ?_
    refine lv_aload_n hx hb dX0_comesDuchy_37 rfl (lv_at hl 0 rfl) ?_
    refine xg5 hx hb hts hown hK.1 hu.1 dX0_comesDuchy_38 ?_
    refine lv_iconst (v := nI 0) hx hb dX0_comesDuchy_41 (by decide) ?_
    refine lv_bipush (v := nI 6) hx hb dX0_comesDuchy_42 (by decide) ?_
    refine va_copyi hx hb (by rw [hml]; exact hl.1.symm) hown (hts _ q399) (hts _ q401) (hts _ q400) (hts _ q67) hK.1.1.1 hu.1 hu.2.1 hu.2.2 3 2 0 0 rfl rfl rfl rfl rfl (by decide) (by decide) (by decide) (by decide) (by decide) (fun _ _ => rfl) (Nat.le_of_ble_eq_true rfl) (Nat.le_of_ble_eq_true rfl) dX0_comesDuchy_44 (fun H locs g1 g2 g3 => ?_)
    rw [show (nI 0).toNatClampNeg = 0 from nI_clamp (by decide), show (nI 6).toNatClampNeg = 6 from nI_clamp (by decide)] at g1 g2
    have hu : uW D A s.heap H locs (xw d B (fun k => if k = 5 then va_cpy (τ2 12) (τ2 5) 0 0 6 else (put2 (put2 τ2 3 0 (r 1 - 48)) 4 0 (nI dd)) k) ea hs ρ) := ⟨g1, g2, g3⟩
    have f1 : ∀ k, ¬ k = 3 → ¬ k = 4 → ¬ k = 5 → (fun k => if k = 5 then va_cpy (τ2 12) (τ2 5) 0 0 6 else (put2 (put2 τ2 3 0 (r 1 - 48)) 4 0 (nI dd)) k) k = τ2 k := fun k a3 a4 a5 => by
      show (if k = 5 then va_cpy (τ2 12) (τ2 5) 0 0 6 else (put2 (put2 τ2 3 0 (r 1 - 48)) 4 0 (nI dd)) k) = τ2 k
      rw [if_neg a5]
      simp only [put2]; rw [if_neg a4, if_neg a3]
    have f3 : (fun k => if k = 5 then va_cpy (τ2 12) (τ2 5) 0 0 6 else (put2 (put2 τ2 3 0 (r 1 - 48)) 4 0 (nI dd)) k) 3 0 = r 1 - 48 := rfl
    have f4 : (fun k => if k = 5 then va_cpy (τ2 12) (τ2 5) 0 0 6 else (put2 (put2 τ2 3 0 (r 1 - 48)) 4 0 (nI dd)) k) 4 0 = nI dd := rfl
    have f5 : ∀ i, i < dd → (fun k => if k = 5 then va_cpy (τ2 12) (τ2 5) 0 0 6 else (put2 (put2 τ2 3 0 (r 1 - 48)) 4 0 (nI dd)) k) 5 i = r (3 + i) - 48 := fun i hi => by
      show va_cpy (τ2 12) (τ2 5) 0 0 6 i = _
      unfold va_cpy
      rw [if_pos ⟨Nat.zero_le _, by omega⟩, show 0 + (i - 0) = i by omega]
      exact hI.2.2.2.2.2.1 i hi
    generalize (fun k => if k = 5 then va_cpy (τ2 12) (τ2 5) 0 0 6 else (put2 (put2 τ2 3 0 (r 1 - 48)) 4 0 (nI dd)) k) = τ4 at hu f1 f3 f4 f5
    have hE4 : aE σ ≤ 4 := hm.ok.2.1
    have hL4 : xLst d ρ τ4 ea e0 (aE σ) F := ⟨by rw [f1 21 (by decide) (by decide) (by decide), hq.1 21 (by decide)]; exact hm.lst.1, hm.lst.2⟩
    refine lv_aload_n hx hb dX0_comesDuchy_47 rfl (lv_at hl 0 rfl) ?_
    refine xg2 hx hb hts hown hK.1 hu.1 dX0_comesDuchy_48 ?_
    obtain ⟨cC, hat⟩ := l_at hK.1
    refine callU_F (rest := []) hat hx hb hml hown hts KX_st hK.1 hA hAN hZ (cL_clear l D d H00 B τ4 ea hs ρ e0 (aE σ) F hE4 hL4) (wJ2_clear_F hts hK.1 ⟨Nat.le_of_ble_eq_true rfl, Nat.le_of_ble_eq_true rfl⟩) (l_recv hK.1 hu.1) hu rfl hl.1 rfl (Nat.le_of_ble_eq_true rfl) dX0_comesDuchy_51 ⟨Nat.le_of_ble_eq_true rfl, Nat.le_of_ble_eq_true rfl⟩ (fun r0 ws H locs hpo hu => ?_)
    obtain ⟨rfl, v20, ρ2, rfl, hAr, hL0⟩ := hpo
    refine lv_iconst (v := nI 0) hx hb dX0_comesDuchy_56 (by decide) ?_
    refine lv_istore_n (lv' := [(2, .int (nI 0)), (0, .ref (B 0)), (1, .ref ra)]) hx hb dX0_comesDuchy_57 rfl hl (by decide) rfl (fun ls hl => ?_)
    have hloop : ∀ (N i : Nat) (τ' : Nat → Nat → Int32) (ea' : Nat) (ρ' : va_W) (F' : Nat → Nat) (H : Heap) (locs : List Loc) (ls : Array Slot), i + N = n → (∀ k, ¬ k = 20 → ¬ k = 21 → τ' k = τ4 k) → xAr ρ ρ' → xLst d ρ' τ' ea' e0 i F' → (∀ a, a < i → ∃ j : Nat, ρ'[j]? = some (F' a, .inr (3 + kdc (r (3 + dd + 5 * a + 1)), eF (B 0) (kdc (r (3 + dd + 5 * a + 1))) a (ix (r (3 + dd + 5 * a + 3) - 48)) (ix (r (3 + dd + 5 * a + 2) - 48)) (ix (r (3 + dd + 5 * a + 4) - 48))))) → uW D A s.heap H locs (xw d B τ' ea' hs ρ') → lv_has ls 3 [(2, .int (nI i)), (0, .ref (B 0)), (1, .ref ra)] → W p l e (rc 5 8 68) s m [.ref (B 0), .ref ra].toArray below meth c H locs (2 * i) (17 * i) (MQ below (qU D A (xPost d B e0 (some (.int (if (true, n, a).1 = false then -100 - nI (true, n, a).2.2 else nI (true, n, a).2.1))) (if (true, n, a).1 = false then σ else duc σ r dd (true, n, a).2.1))) [.ref (B 0), .ref ra].toArray s 8 68 A) (F0 m 58 ls []) := by
      intro N
      induction N with
      | zero =>
        intro i τ' ea' ρ' F' H locs ls hin hk hAr' hL' hE' hu hl
        have ei : i = n := by omega
        subst ei
        refine lv_iload_n hx hb dX0_comesDuchy_58 rfl (lv_at hl 0 rfl) ?_
        refine lv_aload_n hx hb dX0_comesDuchy_59 rfl (lv_at hl 1 rfl) ?_
        refine xg11 hx hb hts hown hK.1 hu.1 dX0_comesDuchy_60 ?_
        refine top_i (y := nI i) (by rw [hk 11 (by decide) (by decide), f1 11 (by decide) (by decide) (by decide)]; exact hI.2.2.2.2.1) ?_
        refine nc_ge (tgt := 87) hx hb dX0_comesDuchy_63 (by decide) (by omega) (by omega) (fun _ => ?_) (fun c0 => absurd c0 (Nat.lt_irrefl _))
        refine lv_aload_n hx hb dX0_comesDuchy_87 rfl (lv_at hl 1 rfl) ?_
        refine lv_iconst (v := nI 0) hx hb dX0_comesDuchy_88 (by decide) ?_
        refine xp14 hx hb hts hown hK.1 hu dX0_comesDuchy_89 (fun H locs hu => ?_)
        refine lv_aload_n hx hb dX0_comesDuchy_92 rfl (lv_at hl 1 rfl) ?_
        refine xg11 hx hb hts hown hK.1 hu.1 dX0_comesDuchy_93 ?_
        refine top_i (y := nI i) (by show τ' 11 0 = _; rw [hk 11 (by decide) (by decide), f1 11 (by decide) (by decide) (by decide)]; exact hI.2.2.2.2.1) ?_
        refine rU_i hx hb hr hlk hu dX0_comesDuchy_96 (by omega) (by omega) ⟨rfl, _, _, _, _, F', rfl, ?_⟩
        refine xRep_duc (nn := nn) hm hd6 hd0 hn0 hn4 p5 ?_ ?_ ?_ ?_ (fun t ht => ?_) ?_ rfl hE' ⟨hL'.1, hL'.2⟩ hAr'
        · show τ' 0 0 = 0; rw [hk 0 (by decide) (by decide), f1 0 (by decide) (by decide) (by decide), hq.1 0 (by decide)]; exact h00
        · show τ' 1 0 = τ 1 0; rw [hk 1 (by decide) (by decide), f1 1 (by decide) (by decide) (by decide), hq.1 1 (by decide)]
        · show τ' 3 0 = _; rw [hk 3 (by decide) (by decide)]; exact f3
        · show τ' 4 0 = _; rw [hk 4 (by decide) (by decide)]; exact f4
        · show τ' 5 t = _; rw [hk 5 (by decide) (by decide)]; exact f5 t ht
        · show τ' 6 0 = _; rw [hk 6 (by decide) (by decide), f1 6 (by decide) (by decide) (by decide), hq.1 6 (by decide)]; exact hm.no
      | succ N ih =>
        intro i τ' ea' ρ' F' H locs ls hin hk hAr' hL' hE' hu hl
        obtain ⟨k1, ⟨v2, l2, x2⟩, ⟨v3, l3, x3⟩, v4, l4, x4⟩ := eAt_ok (p5 i (by omega))
        obtain ⟨y1, y2, y3, y4⟩ := hI.2.2.2.2.2.2 i (by omega)
        have h13 : τ' 13 = τ2 13 := by rw [hk 13 (by decide) (by decide), f1 13 (by decide) (by decide) (by decide)]
        refine lv_iload_n hx hb dX0_comesDuchy_58 rfl (lv_at hl 0 rfl) ?_
        refine lv_aload_n hx hb dX0_comesDuchy_59 rfl (lv_at hl 1 rfl) ?_
        refine xg11 hx hb hts hown hK.1 hu.1 dX0_comesDuchy_60 ?_
        refine top_i (y := nI n) (by rw [hk 11 (by decide) (by decide), f1 11 (by decide) (by decide) (by decide)]; exact hI.2.2.2.2.1) ?_
        refine nc_ge (tgt := 87) hx hb dX0_comesDuchy_63 (by decide) (by omega) (by omega) (fun c0 => by omega) (fun c2 => ?_)
        refine lv_aload_n hx hb dX0_comesDuchy_66 rfl (lv_at hl 1 rfl) ?_
        refine xg2 hx hb hts hown hK.1 hu.1 dX0_comesDuchy_67 ?_
        refine lv_aload_n hx hb dX0_comesDuchy_70 rfl (lv_at hl 1 rfl) ?_
        refine lv_iload_n hx hb dX0_comesDuchy_71 rfl (lv_at hl 0 rfl) ?_
        refine callU_V (rest := [.ref (B 1)]) hx hb hml hown hts KX_st hK.1 hA hAN hZ (cX_newEater l D d H00 B τ' ea' hs ρ' i (kdc (r (3 + dd + 5 * i + 1))) v2 v3 v4 (by omega) k1 (by rw [h13]; exact y1) (by rw [h13, y2, x2]) (by rw [h13, y3, x3]) (by rw [h13, y4, x4])) (wX0_newEater hts ⟨Nat.le_of_ble_eq_true rfl, Nat.le_of_ble_eq_true rfl⟩) (x_recv hK.1 hu.1) hu rfl hl.1 rfl (Nat.le_of_ble_eq_true rfl) dX0_comesDuchy_72 ⟨by show 2 * i + 1 ≤ 8; omega, by show 17 * i + 7 ≤ 68; omega⟩ (fun r0 ws H locs hpo hu => ?_)
        obtain ⟨fa, rfl, rfl⟩ := hpo
        have hL2 : xLst d (ρ' ++ [(fa, .inr (3 + kdc (r (3 + dd + 5 * i + 1)), eF (B 0) (kdc (r (3 + dd + 5 * i + 1))) i v3 v2 v4))]) τ' ea' e0 i F' := hL'.mv (xKp.app ρ' _).mv
        obtain ⟨cC, hat⟩ := l_at hK.1
        refine callU_F (rest := []) hat hx hb hml hown hts KE_st hK hA hAN hZ (cL_add l D d H00 B τ' ea' hs _ e0 i fa ρ'.length (kdc (r (3 + dd + 5 * i + 1))) F' _ (by omega) k1 hL2 app_last) (wJ2_add_F hts hK.1 ⟨Nat.le_of_ble_eq_true rfl, Nat.le_of_ble_eq_true rfl⟩) (l_recv hK.1 hu.1) hu rfl hl.1 rfl (Nat.le_of_ble_eq_true rfl) dX0_comesDuchy_75 ⟨by show 2 * i + 1 + 1 ≤ 8; omega, by show 17 * i + 7 + 10 ≤ 68; omega⟩ (fun r0 ws H locs hpo hu => ?_)
        obtain ⟨rfl, w20, ea2, ρ3, rfl, hAr3, hL3⟩ := hpo
        refine lv_pop hx hb dX0_comesDuchy_80 rfl ?_
        refine lv_iinc (v := nI (i + 1)) (lv' := [(2, .int (nI (i + 1))), (0, .ref (B 0)), (1, .ref ra)]) hx hb dX0_comesDuchy_81 hl (k := 0) rfl (inc_nI _) (by decide) rfl (fun ls hl => ?_)
        refine lv_goto (tgt := 58) hx hb dX0_comesDuchy_84 (by decide) ?_
        refine ih (i + 1) _ ea2 ρ3 (fun a => if a = i then fa else F' a) H locs ls (by omega) (fun k k20 k21 => ?_) (hAr'.tr ((xAr_app ρ' _).tr hAr3)) hL3 (fun a ha => ?_) hu hl
        · simp only [put2]; rw [if_neg k21, if_neg k20]; exact hk k k20 k21
        · by_cases q : a = i
          · subst q
            refine ⟨ρ'.length, ?_⟩
            rw [if_pos rfl, x2, x3, x4, ixn (by omega), ixn (by omega), ixn (by omega)]
            exact hAr3.1 _ _ _ app_last
          · obtain ⟨j, hj⟩ := hE' a (by omega)
            refine ⟨j, ?_⟩
            rw [if_neg q]
            exact hAr3.1 _ _ _ (app_at hj)
    exact hloop n 0 _ ea ρ2 F H locs ls (by omega) (fun k k20 k21 => by simp only [put2]; rw [if_neg k21, if_neg k20]) hAr hL0 (fun a ha => absurd ha (Nat.not_lt_zero _)) hu hl
  · refine lv_bipush (v := -100) hx hb dX0_comesDuchy_8 (by decide) ?_
    refine lv_aload_n hx hb dX0_comesDuchy_10 rfl (lv_at hl 0 rfl) ?_
    refine xg8 hx hb hts hown hK.1 hu.1 dX0_comesDuchy_11 ?_
    refine top_i hq.2.1 ?_
    refine lv_isub hx hb dX0_comesDuchy_14 ?_
    refine rU_i hx hb hr hlk hu dX0_comesDuchy_15 (Nat.le_of_ble_eq_true rfl) (Nat.le_of_ble_eq_true rfl) ?_
    rw [if_pos c1, if_pos c1]
    exact ⟨rfl, _, _, _, _, F, rfl, hm2⟩
