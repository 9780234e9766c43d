/-! tell -/
theorem tell2 : ∀ sp, sp < 10 → nI sp + 100 + nI sp = 2 * nI sp + 100 := by decide +kernel
set_option maxHeartbeats 4000000 in
set_option maxRecDepth 100000 in
theorem cX_tell (l : Launch) (D : va_G) (d : Nat → ClassId) (H00 : Heap) (B : Nat → Nat) (τ : Nat → Nat → Int32) (ea : Nat) (hs : Nat → Option Nat) (ρ : va_W) (e0 : Nat) (F : Nat → Nat) (σ : ASt) (x : Int32) (hm : xRep d B e0 σ τ ea hs ρ F) : cU l (KX D d) H00 D yX0_tell cX0_tell 2 (some .int) (rc 5 0 0) [.ref (B 0), .int x] (xw d B τ ea hs ρ) (xPost d B e0 (some (.int (f_tell σ x).1)) (f_tell σ x).2) := by
  refine cU_start RX0 rfl (by decide) (Nat.le_of_ble_eq_true rfl) ?_
  intro p e s m below meth c A hx hb hml hown hts hr hlk hnm hK hA hAN hZ hu ls hl
  have hl : lv_has ls 2 [(0, .ref (B 0)), (1, .int x)] := hl
  have hok := hm.ok
  have hE4 : aE σ ≤ 4 := hok.2.1
  refine lv_aload_n hx hb dX0_tell_0 rfl (lv_at hl 0 rfl) ?_
  refine lv_iload_n hx hb dX0_tell_1 rfl (lv_at hl 1 rfl) ?_
  refine callR_V (rest := []) hx hb hml hown hts KX_st hK (cX_isEater l D d B τ ea hs ρ e0 F (aE σ) (aD σ) (aN σ) x hm.eat hm.lst hm.day hok.1) (wX0_isEater hts ⟨Nat.le_of_ble_eq_true rfl, Nat.le_of_ble_eq_true rfl⟩) (x_recv hK hu.1) hu.1 rfl hl.1 rfl (Nat.le_of_ble_eq_true rfl) dX0_tell_2 ⟨Nat.le_of_ble_eq_true rfl, Nat.le_of_ble_eq_true rfl⟩ ?_
  refine top_i (y := bI (isE σ x)) rfl ?_
  refine bz_eq (tgt := 27) hx hb dX0_tell_5 (by decide) (fun c1 => ?_) (fun c1 => ?_)
  · refine lv_iconst (v := -1) hx hb dX0_tell_27 (by decide) ?_
    refine rU_i hx hb hr hlk hu dX0_tell_28 (Nat.le_of_ble_eq_true rfl) (Nat.le_of_ble_eq_true rfl) ?_
    unfold f_tell
    rw [if_pos c1]
    exact ⟨rfl, _, _, _, _, F, rfl, hm⟩
  · obtain ⟨a, ha, ej⟩ := isE_ix hok c1
    subst ej
    have eax : ix (nI a) = a := nI_clamp (by omega)
    refine lv_aload_n hx hb dX0_tell_8 rfl (lv_at hl 0 rfl) ?_
    refine xg2 hx hb hts hown hK hu.1 dX0_tell_9 ?_
    refine lv_iload_n hx hb dX0_tell_12 rfl (lv_at hl 1 rfl) ?_
    refine xr_get (rest := []) hx hb hml hown hts hK hu.1 hm.eat hm.lst ha ⟨Nat.le_of_ble_eq_true rfl, Nat.le_of_ble_eq_true rfl⟩ ⟨Nat.le_of_ble_eq_true rfl, Nat.le_of_ble_eq_true rfl⟩ hl.1 (Nat.le_of_ble_eq_true rfl) dX0_tell_13 dX0_tell_18 ?_
    obtain ⟨j, kd, hj, hkd, -, hsp, -, hek, -⟩ := hm.eat.2 a ha
    have hk0 : aN σ 0 a = kd := hek.elim (fun h => absurd (hm.no.symm.trans h.1).symm (n6 a (by omega))) (fun h => h.2)
    have hjw : (xw d B τ ea hs ρ)[j + 14]? = _ := hj
    rcases kd3 hkd with h | h | h
    · subst h
      refine callU_O (rest := []) hx hb hml hown hts KX_st hK hA hAN hZ (cE_tell l D d H00 B τ ea hs ρ (F a) j 0 a (aN σ 2 a) (aN σ 1 a) (aN σ 3 a) hj hkd) (wX3_tell_X0_0 hts ⟨Nat.le_of_ble_eq_true rfl, Nat.le_of_ble_eq_true rfl⟩) (e_recv hK hu.1 hjw rfl) hu rfl hl.1 rfl (Nat.le_of_ble_eq_true rfl) dX0_tell_21 ⟨Nat.le_of_ble_eq_true rfl, Nat.le_of_ble_eq_true rfl⟩ (fun r ws H locs hpo hu => ?_)
      obtain ⟨rfl, rfl⟩ := hpo
      refine lv_goto (tgt := 28) hx hb dX0_tell_24 (by decide) ?_
      refine rU_i hx hb hr hlk hu dX0_tell_28 (Nat.le_of_ble_eq_true rfl) (Nat.le_of_ble_eq_true rfl) ?_
      unfold f_tell
      rw [if_neg (bt_nf c1), eax, hk0, if_pos rfl]
      exact ⟨rfl, _, _, _, _, F, rfl, xRep_tr hm 1⟩
    · subst h
      refine callU_O (rest := []) hx hb hml hown hts KX_st hK hA hAN hZ (cS_tell l D d H00 B τ ea hs ρ (F a) j 1 a (aN σ 2 a) (aN σ 1 a) (aN σ 3 a) hj hkd (by decide)) (wX4_tell_X0_1 hts ⟨Nat.le_of_ble_eq_true rfl, Nat.le_of_ble_eq_true rfl⟩) (e_recv hK hu.1 hjw rfl) hu rfl hl.1 rfl (Nat.le_of_ble_eq_true rfl) dX0_tell_21 ⟨Nat.le_of_ble_eq_true rfl, Nat.le_of_ble_eq_true rfl⟩ (fun r ws H locs hpo hu => ?_)
      obtain ⟨rfl, rfl⟩ := hpo
      refine lv_goto (tgt := 28) hx hb dX0_tell_24 (by decide) ?_
      refine rU_i hx hb hr hlk hu dX0_tell_28 (Nat.le_of_ble_eq_true rfl) (Nat.le_of_ble_eq_true rfl) ?_
      unfold f_tell
      rw [if_neg (bt_nf c1), eax, hk0, if_neg (by decide), if_pos rfl]
      exact ⟨rfl, _, _, _, _, F, rfl, xRep_tr (xRep_tr hm 2) 1⟩
    · subst h
      refine callU_O (rest := []) hx hb hml hown hts KX_st hK hA hAN hZ (cT_tell l D d H00 B τ ea hs ρ (F a) j 2 a (aN σ 2 a) (aN σ 1 a) (aN σ 3 a) hj hkd (by decide)) (wX5_tell_X0_2 hts ⟨Nat.le_of_ble_eq_true rfl, Nat.le_of_ble_eq_true rfl⟩) (e_recv hK hu.1 hjw rfl) hu rfl hl.1 rfl (Nat.le_of_ble_eq_true rfl) dX0_tell_21 ⟨Nat.le_of_ble_eq_true rfl, Nat.le_of_ble_eq_true rfl⟩ (fun r ws H locs hpo hu => ?_)
      obtain ⟨rfl, rfl⟩ := hpo
      refine lv_goto (tgt := 28) hx hb dX0_tell_24 (by decide) ?_
      refine rU_i hx hb hr hlk hu dX0_tell_28 (Nat.le_of_ble_eq_true rfl) (Nat.le_of_ble_eq_true rfl) ?_
      unfold f_tell
      rw [if_neg (bt_nf c1), eax, hk0, if_neg (by decide), if_neg (by decide)]
      exact ⟨by rw [tell2 _ hsp], _, _, _, _, F, rfl, xRep_tr (xRep_tr (xRep_tr (xRep_tr hm 3) 2) 1) 1⟩
