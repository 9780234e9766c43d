/-! plan -/
theorem sumN_congr {g g' : Nat → Nat} {n : Nat} (h : ∀ a, a < n → g a = g' a) : sumN g n = sumN g' n := by
  induction n with
  | zero => rfl
  | succ n ih => simp only [sumN]; rw [ih (fun a ha => h a (by omega)), h n (by omega)]
theorem anyN_congr {g g' : Nat → Nat} {n : Nat} (h : ∀ a, a < n → g a = g' a) : anyN g n = anyN g' n := by
  induction n with
  | zero => rfl
  | succ n ih => simp only [anyN]; rw [ih (fun a ha => h a (by omega)), h n (by omega)]
theorem cntB_congr {g g' : Nat → Nat} {y n : Nat} (h : ∀ a, a < n → g a = g' a) : cntB g y n = cntB g' y n := by
  induction n with
  | zero => rfl
  | succ n ih => simp only [cntB]; rw [ih (fun a ha => h a (by omega)), h n (by omega)]
theorem setN_congr {g g' : Nat → Bool} {n : Nat} (h : ∀ a, a < n → g a = g' a) : setN g n = setN g' n := by
  induction n with
  | zero => rfl
  | succ n ih => simp only [setN]; rw [ih (fun a ha => h a (by omega)), h n (by omega)]
theorem allT_congr {σ : ASt} {r r' : Nat → Int32} {n : Nat} (h : ∀ a, a < n → r a = r' a) : allT σ r n = allT σ r' n := by
  induction n with
  | zero => rfl
  | succ n ih => simp only [allT]; rw [ih (fun a ha => h a (by omega)), h n (by omega)]
theorem allT_u (σ : ASt) (v : Int32) (r : Nat → Int32) (n : Nat) : allT (uI σ 0 v) r n = allT σ r n := by
  induction n with
  | zero => rfl
  | succ n ih => simp only [allT]; rw [ih]; rfl
theorem pln_congr {σ : ASt} {r r' : Nat → Int32} {w : Int32} (h : ∀ a, a < aE σ → r a = r' a) : pln σ r w = pln σ r' w := by
  have hp : ∀ a, a < aE σ → pG σ r a = pG σ r' a := fun a ha => by unfold pG; rw [h a ha]
  unfold pln
  rw [sumN_congr (g := fun a => fin (aN σ) (aD σ) (aF σ) a (ix (r a))) (g' := fun a => fin (aN σ) (aD σ) (aF σ) a (ix (r' a))) (fun a ha => by rw [h a ha]), anyN_congr hp, cntB_congr hp,
    setN_congr (g := fun a => !(decide (pG σ r a = 0))) (g' := fun a => !(decide (pG σ r' a = 0))) (fun a ha => by rw [hp a ha]),
    setN_congr (g := fun a => decide (popc (ix (r a)) < aN σ 3 a)) (g' := fun a => decide (popc (ix (r' a)) < aN σ 3 a)) (fun a ha => by rw [h a ha])]
set_option maxHeartbeats 4000000 in
set_option maxRecDepth 100000 in
theorem cX_plan (l : Launch) (D : va_G) (d : Nat → ClassId) (H00 : Heap) (B : Nat → Nat) (τ : Nat → Nat → Int32) (ea : Nat) (hs : Nat → Option Nat) (ρ : va_W) (e0 : Nat) (F : Nat → Nat) (σ : ASt) (k la i n w : Int32) (htr : ∀ e, l.admits e → e.platform.stackTraces = false) (hm : xRep d B e0 σ τ ea hs ρ F) : cX l (KE D d e0 H00) H00 D yX0_plan cX0_plan 7 (some .int) [(62, 87, 88, 176), (62, 87, 96, 182), (62, 87, 104, 184), (62, 87, 112, 186)] (rx 2 4 1061) [.ref (B 0), .int k, .int la, .int i, .int n, .int w] (xw d B τ ea hs ρ) (xPost d B e0 (some (.int (f_plan σ k la i n w).1)) (f_plan σ k la i n w).2) (fun _ => False) := by
  intro p e s m below meth c A hx had hb hml htb hown hts hr hlk hK hA hAN hZ hnS hu ls hl
  have hl : lv_has ls 7 [(0, .ref (B 0)), (1, .int k), (2, .int la), (3, .int i), (4, .int n), (5, .int w)] := hl
  have hm0 := xRep_fault hm 0
  have hok := hm.ok
  refine lv_aload_n hx hb dX0_plan_0 rfl (lv_at hl 0 rfl) ?_
  refine lv_iconst (v := 0) hx hb dX0_plan_1 (by decide) ?_
  refine xp0 hx hb hts hown hK.1 hu dX0_plan_2 (fun H locs hu => ?_)
  refine lv_iload_n hx hb dX0_plan_5 rfl (lv_at hl 1 rfl) ?_
  refine callR_S (rest := []) hx hb hml hown hts KX_st hK.1 (cX_isSheet l D d k) (wX0_isSheet hts ⟨Nat.le_of_ble_eq_true rfl, Nat.le_of_ble_eq_true rfl⟩) trivial rfl hl.1 rfl (Nat.le_of_ble_eq_true rfl) dX0_plan_6 ⟨Nat.le_of_ble_eq_true rfl, Nat.le_of_ble_eq_true rfl⟩ ?_
  refine bz_ne (tgt := 14) hx hb dX0_plan_9 (by decide) (fun c1 => ?_) (fun c1 => ?_)
  · obtain ⟨j, hj, ej⟩ := sh_ix c1
    subst ej
    have ejx : ix (nI j) = j := nI_clamp (by omega)
    refine lv_iload_n hx hb dX0_plan_14 rfl (lv_at hl 2 rfl) ?_
    refine callR_S (rest := []) hx hb hml hown hts KX_st hK.1 (cX_isLane l D d la) (wX0_isLane hts ⟨Nat.le_of_ble_eq_true rfl, Nat.le_of_ble_eq_true rfl⟩) trivial rfl hl.1 rfl (Nat.le_of_ble_eq_true rfl) dX0_plan_15 ⟨Nat.le_of_ble_eq_true rfl, Nat.le_of_ble_eq_true rfl⟩ ?_
    refine bz_eq (tgt := 49) hx hb dX0_plan_18 (by decide) (fun c2 => ?_) (fun c2 => ?_)
    · refine lv_bipush (v := -2) hx hb dX0_plan_49 (by decide) ?_
      refine rX_i hx hb hr hlk hu dX0_plan_51 (Nat.le_of_ble_eq_true rfl) (Nat.le_of_ble_eq_true rfl) ?_
      unfold f_plan
      rw [if_neg (bt_nf c1), if_pos c2]
      exact ⟨rfl, _, _, _, _, F, rfl, hm0⟩
    · obtain ⟨lx, hlx, elx⟩ := ln_ix c2
      subst elx
      have elxx : ix (nI lx) = lx := nI_clamp (by omega)
      have hgo : okW w = true → W p l e (rx 2 4 1061) s m [.ref (B 0), .int (nI j), .int (nI lx), .int i, .int n, .int w].toArray below meth c H locs 0 0 (MQX below (qX D A (xw d B τ ea hs ρ) (xPost d B e0 (some (.int (f_plan σ (nI j) (nI lx) i n w).1)) (f_plan σ (nI j) (nI lx) i n w).2) (fun _ => False)) s 4 1061 A) (F0 m 52 ls []) := by
        intro hw
        refine lv_aload_n hx hb dX0_plan_52 rfl (lv_at hl 0 rfl) ?_
        refine callR_V (rest := []) hx hb hml hown hts KX_st hK.1 (cX_isDuchy l D d B (put2 τ 0 0 0) ea hs ρ) (wX0_isDuchy hts ⟨Nat.le_of_ble_eq_true rfl, Nat.le_of_ble_eq_true rfl⟩) (x_recv hK.1 hu.1) hu.1 rfl hl.1 rfl (Nat.le_of_ble_eq_true rfl) dX0_plan_53 ⟨Nat.le_of_ble_eq_true rfl, Nat.le_of_ble_eq_true rfl⟩ ?_
        refine top_i hm0.duchy ?_
        refine bd_ne (tgt := 62) hx hb dX0_plan_56 (by decide) (fun c4 => ?_) (fun c4 => ?_)
        · have c4 : ¬ aE σ = 0 := c4
          refine lv_aload_n hx hb dX0_plan_62 rfl (lv_at hl 0 rfl) ?_
          refine x_row (σ := uI σ 0 0) (rest := [.ref (B 0)]) htr had hx hb hml hown hts hK hA hAN hZ hu hm0 hj hlx hl (lv_at hl 0 rfl) (lv_at hl 1 rfl) (lv_at hl 2 rfl) (lv_at hl 3 rfl) (lv_at hl 4 rfl) dX0_plan_63 dX0_plan_64 dX0_plan_67 dX0_plan_68 dX0_plan_69 dX0_plan_72 dX0_plan_73 dX0_plan_76 dX0_plan_77 dX0_plan_79 (Nat.le_of_ble_eq_true rfl) ⟨Nat.le_of_ble_eq_true rfl, Nat.le_of_ble_eq_true rfl, Nat.le_of_ble_eq_true rfl, Nat.le_of_ble_eq_true rfl⟩ (fun hbar q a b g H locs ea1 eb1 hb60 hg hu => ?_) (fun cls w0 hcase hbar pc' rest' hp1 hp2 => ?_)
          · subst ea1 eb1
            have hbar : bar σ j lx (nI a) (nI b) = 0 := hbar
            have hg : ∀ t, t < b → g t = txt σ j a t := hg
            have ha31 : ix (nI b) = b := nI_clamp (by omega)
            have hm1 := hm0.kp (xKp.app ρ [(q, .inl (d 0, b, .inl g))])
            refine lv_iload hx hb dX0_plan_82 (lv_at hl 5 rfl) ?_
            refine callR_V (rest := []) hx hb hml hown hts KX_st hK.1 (cX_told l D d B (put2 τ 0 0 0) ea hs (ρ ++ [(q, .inl (d 0, b, .inl g))]) e0 F (uI σ 0 0) q (ρ.length + 14) b g w hm1 app_last hb60.2 hw) (wX0_told hts ⟨Nat.le_of_ble_eq_true rfl, Nat.le_of_ble_eq_true rfl⟩) (x_recv hK.1 hu.1) hu.1 rfl hl.1 rfl (Nat.le_of_ble_eq_true rfl) dX0_plan_84 ⟨Nat.le_of_ble_eq_true rfl, Nat.le_of_ble_eq_true rfl⟩ ?_
            refine rX_i hx hb hr hlk hu dX0_plan_87 (Nat.le_of_ble_eq_true rfl) (Nat.le_of_ble_eq_true rfl) ?_
            obtain ⟨cz, a', b', z1, z2, z3, z4, z5, z6, z7⟩ := bar_ok hok hbar
            unfold f_plan
            rw [if_neg (bt_nf c1), if_neg (bt_nf c2), if_neg (bt_nf hw), if_neg c4, ejx, elxx, if_neg (fun q => q hbar), ha31]
            rw [show ix (nI a) = a from nI_clamp (by omega)]
            have hgt : b = aE σ → ∀ t, t < aE σ → g t = txt σ j a t := fun he t ht => hg t (by omega)
            by_cases hbe : b = aE σ
            · have e1 : allT (uI σ 0 0) g (aE σ) = allT σ (txt σ j a) (aE σ) := (allT_u σ 0 _ _).trans (allT_congr (hgt hbe))
              have e2 : pln (uI σ 0 0) g w = pln σ (txt σ j a) w := (pln_congr (σ := uI σ 0 0) (hgt hbe))
              have e3 : (if ¬ b = aE (uI σ 0 0) then (-2 : Int32) else if allT (uI σ 0 0) g (aE (uI σ 0 0)) = false then -2 else pln (uI σ 0 0) g w) = (if allT σ (txt σ j a) (aE σ) = false then -2 else pln σ (txt σ j a) w) := by
                rw [if_neg (fun q => q hbe)]
                rw [show aE (uI σ 0 0) = aE σ from rfl, e1, e2]
              rw [e3, if_neg (fun q => q hbe)]
              cases hall : allT σ (txt σ j a) (aE σ) with
              | true =>
                simp only [Bool.true_eq_false, if_false]
                exact ⟨rfl, _, _, _, _, F, rfl, hm1⟩
              | false =>
                simp only [if_true]
                exact ⟨rfl, _, _, _, _, F, rfl, hm1⟩
            · have e3 : (if ¬ b = aE (uI σ 0 0) then (-2 : Int32) else if allT (uI σ 0 0) g (aE (uI σ 0 0)) = false then -2 else pln (uI σ 0 0) g w) = -2 := if_pos hbe
              rw [e3, if_pos hbe]
              exact ⟨rfl, _, _, _, _, F, rfl, hm1⟩
          · have hbar : bar σ j lx i n = w0 := hbar
            have hw0 : ¬ w0 = 0 := by rcases hcase with ⟨-, h⟩ | ⟨-, h⟩ | ⟨-, h⟩ | ⟨-, h⟩ <;> omega
            have hf : f_plan σ (nI j) (nI lx) i n w = (-10 - nI w0, uI σ 0 (nI w0)) := by
              unfold f_plan
              rw [if_neg (bt_nf c1), if_neg (bt_nf c2), if_neg (bt_nf hw), if_neg c4, ejx, elxx, hbar, if_pos hw0]
            rw [hf]
            have hcov : ∀ q ∈ [((62 : Nat), (87 : Nat), (88 : Nat), (176 : Nat)), (62, 87, 96, 182), (62, 87, 104, 184), (62, 87, 112, 186)], q.1 ≤ pc' ∧ pc' < q.2.1 ∧ q.2.2.2 ≠ 0 := by
              intro q hq
              simp only [List.mem_cons, List.not_mem_nil, or_false] at hq
              rcases hq with hq | hq | hq | hq <;> subst hq <;> exact ⟨by show 62 ≤ pc'; omega, by show pc' < 87; omega, by decide⟩
            have hlk4 := lk_cons (own := RX0) (q0 := (62, 87, 88, 176)) (nm0 := nmC) (hts _ q194) (lk_cons (q0 := (62, 87, 96, 182)) (nm0 := nmN) (hts _ q280) (lk_cons (q0 := (62, 87, 104, 184)) (nm0 := nmS) (hts _ q305) (lk_cons (q0 := (62, 87, 112, 186)) (nm0 := nmA) (hts _ q319) lk_nil)))
            rcases hcase with ⟨rfl, rfl⟩ | ⟨rfl, rfl⟩ | ⟨rfl, rfl⟩ | ⟨rfl, rfl⟩
            · refine kT_take hown htb [nmC, nmN, nmS, nmA] hcov hlk4 0 rfl rfl no_nil (hK.cw 2 rfl) (fun H locs ax hu => ?_)
              refine lv_astore (lv' := [(6, .ref ax), (0, .ref (B 0)), (1, .int (nI j)), (2, .int (nI lx)), (3, .int i), (4, .int n), (5, .int w)]) hx hb dX0_plan_88 hl (by decide) rfl (fun ls hl => ?_)
              refine lv_aload_n hx hb dX0_plan_90 rfl (lv_at hl 1 rfl) ?_
              refine lv_iconst (v := 2) hx hb dX0_plan_91 (by decide) ?_
              refine callU_V (rest := []) hx hb hml hown hts KX_st hK.1 hA hAN hZ (cX_faulty l D d H00 B (put2 τ 0 0 0) ea hs ρ 2) (wX0_faulty hts ⟨Nat.le_of_ble_eq_true rfl, Nat.le_of_ble_eq_true rfl⟩) (x_recv hK.1 hu.1) hu rfl hl.1 rfl (Nat.le_of_ble_eq_true rfl) dX0_plan_92 ⟨Nat.le_of_ble_eq_true rfl, Nat.le_of_ble_eq_true rfl⟩ (fun r ws H locs hpo hu => ?_)
              obtain ⟨rfl, rfl⟩ := hpo
              refine rX_i hx hb hr hlk hu dX0_plan_95 (Nat.le_of_ble_eq_true rfl) (Nat.le_of_ble_eq_true rfl) ?_
              exact ⟨rfl, _, _, _, _, F, rfl, xRep_f2 hm 0 2⟩
            · refine kT_take hown htb [nmC, nmN, nmS, nmA] hcov hlk4 1 rfl rfl (no_cons (hK.n 0 rfl) no_nil) (hK.cw 5 rfl) (fun H locs ax hu => ?_)
              refine lv_astore (lv' := [(6, .ref ax), (0, .ref (B 0)), (1, .int (nI j)), (2, .int (nI lx)), (3, .int i), (4, .int n), (5, .int w)]) hx hb dX0_plan_96 hl (by decide) rfl (fun ls hl => ?_)
              refine lv_aload_n hx hb dX0_plan_98 rfl (lv_at hl 1 rfl) ?_
              refine lv_iconst (v := 1) hx hb dX0_plan_99 (by decide) ?_
              refine callU_V (rest := []) hx hb hml hown hts KX_st hK.1 hA hAN hZ (cX_faulty l D d H00 B (put2 τ 0 0 0) ea hs ρ 1) (wX0_faulty hts ⟨Nat.le_of_ble_eq_true rfl, Nat.le_of_ble_eq_true rfl⟩) (x_recv hK.1 hu.1) hu rfl hl.1 rfl (Nat.le_of_ble_eq_true rfl) dX0_plan_100 ⟨Nat.le_of_ble_eq_true rfl, Nat.le_of_ble_eq_true rfl⟩ (fun r ws H locs hpo hu => ?_)
              obtain ⟨rfl, rfl⟩ := hpo
              refine rX_i hx hb hr hlk hu dX0_plan_103 (Nat.le_of_ble_eq_true rfl) (Nat.le_of_ble_eq_true rfl) ?_
              exact ⟨rfl, _, _, _, _, F, rfl, xRep_f2 hm 0 1⟩
            · refine kT_take hown htb [nmC, nmN, nmS, nmA] hcov hlk4 2 rfl rfl (no_cons (hK.n 1 rfl) (no_cons (hK.n 2 rfl) no_nil)) (hK.cw 1 rfl) (fun H locs ax hu => ?_)
              refine lv_astore (lv' := [(6, .ref ax), (0, .ref (B 0)), (1, .int (nI j)), (2, .int (nI lx)), (3, .int i), (4, .int n), (5, .int w)]) hx hb dX0_plan_104 hl (by decide) rfl (fun ls hl => ?_)
              refine lv_aload_n hx hb dX0_plan_106 rfl (lv_at hl 1 rfl) ?_
              refine lv_iconst (v := 4) hx hb dX0_plan_107 (by decide) ?_
              refine callU_V (rest := []) hx hb hml hown hts KX_st hK.1 hA hAN hZ (cX_faulty l D d H00 B (put2 τ 0 0 0) ea hs ρ 4) (wX0_faulty hts ⟨Nat.le_of_ble_eq_true rfl, Nat.le_of_ble_eq_true rfl⟩) (x_recv hK.1 hu.1) hu rfl hl.1 rfl (Nat.le_of_ble_eq_true rfl) dX0_plan_108 ⟨Nat.le_of_ble_eq_true rfl, Nat.le_of_ble_eq_true rfl⟩ (fun r ws H locs hpo hu => ?_)
              obtain ⟨rfl, rfl⟩ := hpo
              refine rX_i hx hb hr hlk hu dX0_plan_111 (Nat.le_of_ble_eq_true rfl) (Nat.le_of_ble_eq_true rfl) ?_
              exact ⟨rfl, _, _, _, _, F, rfl, xRep_f2 hm 0 4⟩
            · refine kT_take hown htb [nmC, nmN, nmS, nmA] hcov hlk4 3 rfl rfl (no_cons (hK.n 3 rfl) (no_cons (hK.n 4 rfl) (no_cons (hK.n 5 rfl) no_nil))) (hK.cw 0 rfl) (fun H locs ax hu => ?_)
              refine lv_astore (lv' := [(6, .ref ax), (0, .ref (B 0)), (1, .int (nI j)), (2, .int (nI lx)), (3, .int i), (4, .int n), (5, .int w)]) hx hb dX0_plan_112 hl (by decide) rfl (fun ls hl => ?_)
              refine lv_aload_n hx hb dX0_plan_114 rfl (lv_at hl 1 rfl) ?_
              refine lv_iconst (v := 3) hx hb dX0_plan_115 (by decide) ?_
              refine callU_V (rest := []) hx hb hml hown hts KX_st hK.1 hA hAN hZ (cX_faulty l D d H00 B (put2 τ 0 0 0) ea hs ρ 3) (wX0_faulty hts ⟨Nat.le_of_ble_eq_true rfl, Nat.le_of_ble_eq_true rfl⟩) (x_recv hK.1 hu.1) hu rfl hl.1 rfl (Nat.le_of_ble_eq_true rfl) dX0_plan_116 ⟨Nat.le_of_ble_eq_true rfl, Nat.le_of_ble_eq_true rfl⟩ (fun r ws H locs hpo hu => ?_)
              obtain ⟨rfl, rfl⟩ := hpo
              refine rX_i hx hb hr hlk hu dX0_plan_119 (Nat.le_of_ble_eq_true rfl) (Nat.le_of_ble_eq_true rfl) ?_
              exact ⟨rfl, _, _, _, _, F, rfl, xRep_f2 hm 0 3⟩
        · have c4 : aE σ = 0 := c4
          refine lv_bipush (v := -3) hx hb dX0_plan_59 (by decide) ?_
          refine rX_i hx hb hr hlk hu dX0_plan_61 (Nat.le_of_ble_eq_true rfl) (Nat.le_of_ble_eq_true rfl) ?_
          unfold f_plan
          rw [if_neg (bt_nf c1), if_neg (bt_nf c2), if_neg (bt_nf hw), if_pos c4]
          exact ⟨rfl, _, _, _, _, F, rfl, hm0⟩
      refine lv_iload hx hb dX0_plan_21 (lv_at hl 5 rfl) ?_
      refine lv_i2l (v := w.toInt64) hx hb dX0_plan_23 rfl ?_
      refine lv_lconst (v := 0) hx hb dX0_plan_24 (by decide) ?_
      refine lv_ldc2 (v := 3) hx hb hown (hts _ q341) dX0_plan_25 ?_
      refine callR_S (rest := []) hx hb hml hown hts KX_st hK.1 (cX_isIn l D d w.toInt64 0 3) (wX0_isIn hts ⟨Nat.le_of_ble_eq_true rfl, Nat.le_of_ble_eq_true rfl⟩) trivial rfl hl.1 rfl (Nat.le_of_ble_eq_true rfl) dX0_plan_28 ⟨Nat.le_of_ble_eq_true rfl, Nat.le_of_ble_eq_true rfl⟩ ?_
      refine bz_ne (tgt := 52) hx hb dX0_plan_31 (by decide) (fun c5 => ?_) (fun c5 => ?_)
      · exact hgo (by unfold okW; rw [c5]; rfl)
      · refine lv_iload hx hb dX0_plan_34 (lv_at hl 5 rfl) ?_
        refine lv_i2l (v := w.toInt64) hx hb dX0_plan_36 rfl ?_
        refine lv_ldc2 (v := 10) hx hb hown (hts _ q697) dX0_plan_37 ?_
        refine lv_ldc2 (v := 15) hx hb hown (hts _ q698) dX0_plan_40 ?_
        refine callR_S (rest := []) hx hb hml hown hts KX_st hK.1 (cX_isIn l D d w.toInt64 10 15) (wX0_isIn hts ⟨Nat.le_of_ble_eq_true rfl, Nat.le_of_ble_eq_true rfl⟩) trivial rfl hl.1 rfl (Nat.le_of_ble_eq_true rfl) dX0_plan_43 ⟨Nat.le_of_ble_eq_true rfl, Nat.le_of_ble_eq_true rfl⟩ ?_
        refine bz_ne (tgt := 52) hx hb dX0_plan_46 (by decide) (fun c6 => ?_) (fun c6 => ?_)
        · exact hgo (by unfold okW; rw [c6]; simp)
        · refine lv_bipush (v := -2) hx hb dX0_plan_49 (by decide) ?_
          refine rX_i hx hb hr hlk hu dX0_plan_51 (Nat.le_of_ble_eq_true rfl) (Nat.le_of_ble_eq_true rfl) ?_
          unfold f_plan
          rw [if_neg (bt_nf c1), if_neg (bt_nf c2), if_pos (by unfold okW; rw [c5, c6]; rfl)]
          exact ⟨rfl, _, _, _, _, F, rfl, hm0⟩
  · refine lv_iconst (v := -1) hx hb dX0_plan_12 (by decide) ?_
    refine rX_i hx hb hr hlk hu dX0_plan_13 (Nat.le_of_ble_eq_true rfl) (Nat.le_of_ble_eq_true rfl) ?_
    unfold f_plan
    rw [if_pos c1]
    exact ⟨rfl, _, _, _, _, F, rfl, hm0⟩
