/-! plans, on X's side: foundOn, firstFound, told -/
theorem cnt_any (g : Nat → Nat) (dy n : Nat) : cntB g dy n = 0 ↔ (anyN g n).testBit dy = false := by
  induction n with
  | zero => simp [cntB, anyN]
  | succ n ih =>
    simp only [cntB, anyN, Nat.testBit_or, Bool.or_eq_false_iff]
    rw [← ih]
    cases h : (g n).testBit dy <;> simp
theorem lowB_none {z : Nat} : ∀ {k : Nat}, (∀ i, i < k → z.testBit i = false) → lowB z k = none
  | 0, _ => rfl
  | k + 1, h => by
    simp only [lowB]
    rw [lowB_none (fun i hi => h i (by omega))]
    simp [h k (by omega)]
theorem lowB_some {z i : Nat} (hi : z.testBit i = true) (h : ∀ j, j < i → z.testBit j = false) : ∀ {k : Nat}, i < k → lowB z k = some i
  | 0, hk => absurd hk (Nat.not_lt_zero _)
  | k + 1, hk => by
    simp only [lowB]
    by_cases e : i = k
    · subst e
      rw [lowB_none h]
      simp [hi]
    · rw [lowB_some hi h (by omega)]
theorem pG_lt {σ : ASt} (hok : aOk σ) {r : Nat → Int32} {a : Nat} (h : isT σ (r a) = true) : pG σ r a < 64 := by
  obtain ⟨z, hz, ez⟩ := isT_ix hok h
  have h64 := pow6 hok.1
  unfold pG
  rw [ez, show ix (nI z) = z from nI_clamp (by omega)]
  exact Nat.lt_of_le_of_lt Nat.and_le_left (Nat.lt_of_lt_of_le (yel_lt _ hz) h64)
set_option maxHeartbeats 4000000 in
set_option maxRecDepth 100000 in
theorem cX_foundOn (l : Launch) (D : va_G) (d : Nat → ClassId) (B : Nat → Nat) (τ : Nat → Nat → Int32) (ea : Nat) (hs : Nat → Option Nat) (ρ : va_W) (e0 : Nat) (F : Nat → Nat) (σ : ASt) (ra jr dy : Nat) (r : Nat → Int32) (hm : xRep d B e0 σ τ ea hs ρ F) (hra : (xw d B τ ea hs ρ)[jr]? = some (ra, .inl (d 0, aE σ, .inl r))) (hT : ∀ a, a < aE σ → isT σ (r a) = true) (hdy : dy < 16) : cR l (KX D d) yX0_foundOn cX0_foundOn 5 (some .int) (rk 7) [.ref (B 0), .ref ra, .int (nI dy)] (va_P D vwCl (xw d B τ ea hs ρ)) (.int (nI (cntB (pG σ r) dy (aE σ)))) := by
  refine cR_start RX0 rfl (by decide) (Nat.le_of_ble_eq_true rfl) ?_
  intro p e s m below meth c hx hb hml hown hts hr hlk hK hP ls hl
  have hu : va_P D vwCl (xw d B τ ea hs ρ) s.heap ∧ True := ⟨hP, trivial⟩
  have hl : lv_has ls 5 [(0, .ref (B 0)), (1, .ref ra), (2, .int (nI dy))] := hl
  have hok := hm.ok
  have hE4 : aE σ ≤ 4 := hok.2.1
  have h64 := pow6 hok.1
  refine lv_iconst (v := nI 0) hx hb dX0_foundOn_0 (by decide) ?_
  refine lv_istore_n (lv' := [(3, .int (nI 0)), (0, .ref (B 0)), (1, .ref ra), (2, .int (nI dy))]) hx hb dX0_foundOn_1 rfl hl (by decide) rfl (fun ls hl => ?_)
  refine lv_iconst (v := nI 0) hx hb dX0_foundOn_2 (by decide) ?_
  refine lv_istore (lv' := [(4, .int (nI 0)), (3, .int (nI 0)), (0, .ref (B 0)), (1, .ref ra), (2, .int (nI dy))]) hx hb dX0_foundOn_3 hl (by decide) rfl (fun ls hl => ?_)
  refine lp_R (σ := Nat) (fun N i => i + N = aE σ) (fun i => [(4, .int (nI i)), (3, .int (nI (cntB (pG σ r) dy i))), (0, .ref (B 0)), (1, .ref ra), (2, .int (nI dy))]) (fun N i hI ih ls hl => ?_) (aE σ) 0 (by omega) hl
  have hl : lv_has ls 5 [(4, .int (nI i)), (3, .int (nI (cntB (pG σ r) dy i))), (0, .ref (B 0)), (1, .ref ra), (2, .int (nI dy))] := hl
  refine lv_iload hx hb dX0_foundOn_5 (lv_at hl 0 rfl) ?_
  refine lv_aload_n hx hb dX0_foundOn_7 rfl (lv_at hl 3 rfl) ?_
  refine va_alen hx hb hK.1.1 hP jr 0 hra rfl (v := nI (aE σ)) rfl dX0_foundOn_8 ?_
  refine nc_ge (tgt := 58) hx hb dX0_foundOn_9 (by decide) (by omega) (by omega) (fun c1 => ?_) (fun c1 => ?_)
  · refine lv_iload_n hx hb dX0_foundOn_58 rfl (lv_at hl 1 rfl) ?_
    exact rR_i hx hb hr hlk dX0_foundOn_59 (by rw [show i = aE σ by omega])
  · refine lv_iload_n hx hb dX0_foundOn_12 rfl (lv_at hl 1 rfl) ?_
    refine lv_aload_n hx hb dX0_foundOn_13 rfl (lv_at hl 2 rfl) ?_
    refine xg2 hx hb hts hown hK hP dX0_foundOn_14 ?_
    refine lv_iload hx hb dX0_foundOn_17 (lv_at hl 0 rfl) ?_
    refine xr_get (rest := [.int (nI (cntB (pG σ r) dy i))]) hx hb hml hown hts hK hP hm.eat hm.lst c1 ⟨Nat.le_of_ble_eq_true rfl, Nat.le_of_ble_eq_true rfl⟩ ⟨Nat.le_of_ble_eq_true rfl, Nat.le_of_ble_eq_true rfl⟩ hl.1 (Nat.le_of_ble_eq_true rfl) dX0_foundOn_19 dX0_foundOn_24 ?_
    refine lv_aload_n hx hb dX0_foundOn_27 rfl (lv_at hl 3 rfl) ?_
    refine lv_iload hx hb dX0_foundOn_28 (lv_at hl 0 rfl) ?_
    refine va_iald hx hb hK.1.1 hP jr 0 hra rfl (vp_in_nI c1 (by omega)) dX0_foundOn_30 ?_
    rw [nI_clamp (by omega)]
    obtain ⟨z, hz, ez⟩ := isT_ix hok (hT i c1)
    have ezx : ix (r i) = z := by rw [ez]; exact nI_clamp (by omega)
    refine top_i (y := nI z) ez ?_
    refine lv_aload_n hx hb dX0_foundOn_31 rfl (lv_at hl 2 rfl) ?_
    refine callR_V (rest := [.int (nI z), .ref (F i), .int (nI (cntB (pG σ r) dy i))]) hx hb hml hown hts KX_st hK (cX_fastsNow l D d B τ ea hs ρ (aD σ) hm.day hok.1) (wX0_fastsNow hts ⟨Nat.le_of_ble_eq_true rfl, Nat.le_of_ble_eq_true rfl⟩) (x_recv hK hu.1) hu.1 rfl hl.1 rfl (Nat.le_of_ble_eq_true rfl) dX0_foundOn_32 ⟨Nat.le_of_ble_eq_true rfl, Nat.le_of_ble_eq_true rfl⟩ ?_
    refine top_i (y := nI (aF σ)) (by rw [hm.fast]) ?_
    refine xr_found (rest := [.int (nI (cntB (pG σ r) dy i))]) hx hb hml hown hts hK hP hm.eat c1 hm.day hok.1 hz ⟨Nat.le_of_ble_eq_true rfl, Nat.le_of_ble_eq_true rfl⟩ ⟨Nat.le_of_ble_eq_true rfl, Nat.le_of_ble_eq_true rfl⟩ hl.1 (Nat.le_of_ble_eq_true rfl) dX0_foundOn_35 ?_
    refine top_i (y := nI (pG σ r i)) (by unfold pG; rw [ezx]) ?_
    refine lv_iload_n hx hb dX0_foundOn_38 rfl (lv_at hl 4 rfl) ?_
    refine callR_S (rest := [.int (nI (cntB (pG σ r) dy i))]) hx hb hml hown hts KX_st hK (cX_isOf l D d (nI (pG σ r i)) (nI dy)) (wX0_isOf hts ⟨Nat.le_of_ble_eq_true rfl, Nat.le_of_ble_eq_true rfl⟩) trivial rfl hl.1 rfl (Nat.le_of_ble_eq_true rfl) dX0_foundOn_39 ⟨Nat.le_of_ble_eq_true rfl, Nat.le_of_ble_eq_true rfl⟩ ?_
    refine top_i (y := bI ((pG σ r i).testBit dy)) (by rw [pBit_nI _ (pG_lt hok (hT i c1)) dy hdy]) ?_
    have hstep : ∀ (ls : Array Slot), lv_has ls 5 [(4, .int (nI i)), (3, .int (nI (cntB (pG σ r) dy i))), (0, .ref (B 0)), (1, .ref ra), (2, .int (nI dy))] → ∀ v : Int32, nI (cntB (pG σ r) dy i) + v = nI (cntB (pG σ r) dy (i + 1)) → W p l e (rk 7) s m [.ref (B 0), .ref ra, .int (nI dy)].toArray below meth c s.heap [] 0 0 (MQ below (qR (.int (nI (cntB (pG σ r) dy (aE σ))))) [.ref (B 0), .ref ra, .int (nI dy)].toArray s 0 0 (fun _ => False)) (F0 m 50 ls [.int v, .int (nI (cntB (pG σ r) dy i))]) := by
      intro ls hl v hvv
      refine lv_iadd hx hb dX0_foundOn_50 ?_
      refine top_i hvv ?_
      refine lv_istore_n (lv' := [(3, .int (nI (cntB (pG σ r) dy (i + 1)))), (4, .int (nI i)), (0, .ref (B 0)), (1, .ref ra), (2, .int (nI dy))]) hx hb dX0_foundOn_51 rfl hl (by decide) rfl (fun ls hl => ?_)
      refine lv_iinc (v := nI (i + 1)) (lv' := [(4, .int (nI (i + 1))), (3, .int (nI (cntB (pG σ r) dy (i + 1)))), (0, .ref (B 0)), (1, .ref ra), (2, .int (nI dy))]) hx hb dX0_foundOn_52 hl (k := 1) rfl (inc_nI _) (by decide) rfl (fun ls hl => ?_)
      refine lv_goto (tgt := 5) hx hb dX0_foundOn_55 (by decide) ?_
      exact ih (N - 1) (i + 1) ls (by omega) (by omega) hl
    refine bz_eq (tgt := 49) hx hb dX0_foundOn_42 (by decide) (fun c2 => ?_) (fun c2 => ?_)
    · refine lv_iconst (v := 0) hx hb dX0_foundOn_49 (by decide) ?_
      refine hstep ls hl 0 ?_
      simp only [cntB, c2, if_true, Nat.add_zero, Int32.add_zero]
    · refine lv_iconst (v := 1) hx hb dX0_foundOn_45 (by decide) ?_
      refine lv_goto (tgt := 50) hx hb dX0_foundOn_46 (by decide) ?_
      refine hstep ls hl 1 ?_
      simp only [cntB, c2, Bool.true_eq_false, if_false]
      exact (nI_add _ 1)
set_option maxHeartbeats 4000000 in
set_option maxRecDepth 100000 in
theorem cX_firstFound (l : Launch) (D : va_G) (d : Nat → ClassId) (B : Nat → Nat) (τ : Nat → Nat → Int32) (ea : Nat) (hs : Nat → Option Nat) (ρ : va_W) (e0 : Nat) (F : Nat → Nat) (σ : ASt) (ra jr : Nat) (r : Nat → Int32) (hm : xRep d B e0 σ τ ea hs ρ F) (hra : (xw d B τ ea hs ρ)[jr]? = some (ra, .inl (d 0, aE σ, .inl r))) (hT : ∀ a, a < aE σ → isT σ (r a) = true) : cR l (KX D d) yX0_firstFound cX0_firstFound 3 (some .int) (rk 8) [.ref (B 0), .ref ra] (va_P D vwCl (xw d B τ ea hs ρ)) (.int (oI (lowB (anyN (pG σ r) (aE σ)) (aD σ)))) := by
  refine cR_start RX0 rfl (by decide) (Nat.le_of_ble_eq_true rfl) ?_
  intro p e s m below meth c hx hb hml hown hts hr hlk hK hP ls hl
  have hu : va_P D vwCl (xw d B τ ea hs ρ) s.heap ∧ True := ⟨hP, trivial⟩
  have hl : lv_has ls 3 [(0, .ref (B 0)), (1, .ref ra)] := hl
  have hok := hm.ok
  have hD6 : aD σ ≤ 6 := hok.1
  have hE4 : aE σ ≤ 4 := hok.2.1
  refine lv_iconst (v := nI 0) hx hb dX0_firstFound_0 (by decide) ?_
  refine lv_istore_n (lv' := [(2, .int (nI 0)), (0, .ref (B 0)), (1, .ref ra)]) hx hb dX0_firstFound_1 rfl hl (by decide) rfl (fun ls hl => ?_)
  refine lp_R (σ := Nat) (fun N i => i + N = aD σ ∧ ∀ j, j < i → (anyN (pG σ r) (aE σ)).testBit j = false) (fun i => [(2, .int (nI i)), (0, .ref (B 0)), (1, .ref ra)]) (fun N i hI ih ls hl => ?_) (aD σ) 0 ⟨by omega, fun j hj => absurd hj (Nat.not_lt_zero _)⟩ hl
  obtain ⟨hI, hlow⟩ := hI
  have hl : lv_has ls 3 [(2, .int (nI i)), (0, .ref (B 0)), (1, .ref ra)] := hl
  refine lv_iload_n hx hb dX0_firstFound_2 rfl (lv_at hl 0 rfl) ?_
  refine lv_aload_n hx hb dX0_firstFound_3 rfl (lv_at hl 1 rfl) ?_
  refine xg4 hx hb hts hown hK hP dX0_firstFound_4 ?_
  refine top_i (y := nI (aD σ)) hm.day ?_
  have hend : W p l e (rk 8) s m [.ref (B 0), .ref ra].toArray below meth c s.heap [] 0 0 (MQ below (qR (.int (oI (lowB (anyN (pG σ r) (aE σ)) (aD σ))))) [.ref (B 0), .ref ra].toArray s 0 0 (fun _ => False)) (F0 m 25 ls []) ∨ True := Or.inr trivial
  refine nc_ge (tgt := 25) hx hb dX0_firstFound_7 (by decide) (by omega) (by omega) (fun c1 => ?_) (fun c1 => ?_)
  · refine lv_iload_n hx hb dX0_firstFound_25 rfl (lv_at hl 0 rfl) ?_
    refine lv_aload_n hx hb dX0_firstFound_26 rfl (lv_at hl 1 rfl) ?_
    refine xg4 hx hb hts hown hK hP dX0_firstFound_27 ?_
    refine top_i (y := nI (aD σ)) hm.day ?_
    refine nc_ge (tgt := 37) hx hb dX0_firstFound_30 (by decide) (by omega) (by omega) (fun _ => ?_) (fun c2 => by omega)
    refine lv_bipush (v := -9) hx hb dX0_firstFound_37 (by decide) ?_
    exact rR_i hx hb hr hlk dX0_firstFound_39 (by rw [lowB_none (fun j hj => hlow j (by omega))]; rfl)
  · refine lv_aload_n hx hb dX0_firstFound_10 rfl (lv_at hl 1 rfl) ?_
    refine lv_aload_n hx hb dX0_firstFound_11 rfl (lv_at hl 2 rfl) ?_
    refine lv_iload_n hx hb dX0_firstFound_12 rfl (lv_at hl 0 rfl) ?_
    refine callR_V (rest := []) hx hb hml hown hts KX_st hK (cX_foundOn l D d B τ ea hs ρ e0 F σ ra jr i r hm hra hT (by omega)) (wX0_foundOn hts ⟨Nat.le_of_ble_eq_true rfl, Nat.le_of_ble_eq_true rfl⟩) (x_recv hK hu.1) hu.1 rfl hl.1 rfl (Nat.le_of_ble_eq_true rfl) dX0_firstFound_13 ⟨Nat.le_of_ble_eq_true rfl, Nat.le_of_ble_eq_true rfl⟩ ?_
    have hc4 := cntB_le (pG σ r) i (aE σ)
    refine lv_if_ne (tgt := 25) hx hb dX0_firstFound_16 (by decide) (fun c2 => ?_) (fun c2 => ?_)
    · have hbit : (anyN (pG σ r) (aE σ)).testBit i = true := by
        cases hq : (anyN (pG σ r) (aE σ)).testBit i with
        | true => rfl
        | false => exact absurd (congrArg nI ((cnt_any _ _ _).mpr hq)) c2
      refine lv_iload_n hx hb dX0_firstFound_25 rfl (lv_at hl 0 rfl) ?_
      refine lv_aload_n hx hb dX0_firstFound_26 rfl (lv_at hl 1 rfl) ?_
      refine xg4 hx hb hts hown hK hP dX0_firstFound_27 ?_
      refine top_i (y := nI (aD σ)) hm.day ?_
      refine nc_ge (tgt := 37) hx hb dX0_firstFound_30 (by decide) (by omega) (by omega) (fun c3 => by omega) (fun _ => ?_)
      refine lv_iload_n hx hb dX0_firstFound_33 rfl (lv_at hl 0 rfl) ?_
      refine lv_goto (tgt := 39) hx hb dX0_firstFound_34 (by decide) ?_
      exact rR_i hx hb hr hlk dX0_firstFound_39 (by rw [lowB_some hbit hlow c1]; rfl)
    · have h0 : cntB (pG σ r) i (aE σ) = 0 := (nI_eq (by omega) (by decide)).mp c2
      refine lv_iinc (v := nI (i + 1)) (lv' := [(2, .int (nI (i + 1))), (0, .ref (B 0)), (1, .ref ra)]) hx hb dX0_firstFound_19 hl (k := 0) rfl (inc_nI _) (by decide) rfl (fun ls hl => ?_)
      refine lv_goto (tgt := 2) hx hb dX0_firstFound_22 (by decide) ?_
      refine ih (N - 1) (i + 1) ls (by omega) ⟨by omega, fun j hj => ?_⟩ hl
      by_cases e1 : j = i
      · subst e1; exact (cnt_any _ _ _).mp h0
      · exact hlow j (by omega)
