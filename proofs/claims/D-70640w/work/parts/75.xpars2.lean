/-! reading a text: the days, an eater -/
theorem dig09 : (0 : Int32) = nI 0 ∧ (9 : Int32) = nI 9 ∧ (5 : Int32) = nI 5 ∧ (1 : Int32) = nI 1 ∧ (6 : Int32) = nI 6 := ⟨rfl, rfl, rfl, rfl, rfl⟩
theorem dig_no9 {r : Nat → Int32} {nn a lo hi : Nat} (hl : lo < 100) (hh : hi < 100) (h : dig r nn a (nI lo) (nI hi) = true) : ¬ r a - 48 = -9 := by
  obtain ⟨v, hv, h1, h2⟩ := dig_ix hl hh h
  rw [(dig_lt hl h).2] at hv
  rw [hv]
  intro q
  have e : (nI v).toInt = (v : Int) := Int32.toInt_ofNat_of_lt (by omega)
  have e9 : (-9 : Int32).toInt = -9 := rfl
  rw [q, e9] at e
  omega
/-- the days are read -/
def xDy (τ τ2 : Nat → Nat → Int32) (r : Nat → Int32) (i : Nat) : Prop := (∀ k, ¬ k = 8 → ¬ k = 10 → ¬ k = 12 → τ2 k = τ k) ∧ τ2 8 0 = nI (3 + i) ∧ τ2 10 0 = nI i ∧ ∀ t, t < i → τ2 12 t = r (3 + t) - 48
theorem xDy_step {τ τ2 : Nat → Nat → Int32} {r : Nat → Int32} {i : Nat} (h : xDy τ τ2 r i) : xDy τ (put2 (put2 (put2 τ2 8 0 (nI (3 + i + 1))) 12 i (r (3 + i) - 48)) 10 0 (nI (i + 1))) r (i + 1) := by
  obtain ⟨h1, h2, h3, h4⟩ := h
  refine ⟨fun k a b c => ?_, rfl, rfl, fun t ht => ?_⟩
  · simp only [put2]; rw [if_neg b, if_neg c, if_neg a]; exact h1 k a b c
  · show upd (τ2 12) i (r (3 + i) - 48) t = _
    unfold upd
    by_cases e : t = i
    · rw [if_pos e, e]
    · rw [if_neg e]; exact h4 t (by omega)
set_option maxHeartbeats 4000000 in
set_option maxRecDepth 100000 in
theorem cX_readTheDays (l : Launch) (D : va_G) (d : Nat → ClassId) (H00 : Heap) (B : Nat → Nat) (τ : Nat → Nat → Int32) (ea : Nat) (hs : Nat → Option Nat) (ρ : va_W) (ra jr nn : Nat) (r : Nat → Int32) (hra : ρ[jr]? = some (ra, .inl (d 0, nn, .inl r))) (h8 : τ 8 0 = nI 3) (h3 : 3 ≤ nn) (hnn : nn ≤ 60) : cU l (KX D d) H00 D yX0_readTheDays cX0_readTheDays 3 (some .boolean) (rc 2 0 0) [.ref (B 0), .ref ra] (xw d B τ ea hs ρ) (fun r0 ws => r0 = some (.int (bI (decide (0 < dcn r nn 6)))) ∧ ∃ τ2, ws = xw d B τ2 ea hs ρ ∧ xDy τ τ2 r (dcn r nn 6)) := by
  refine cU_start RX0 rfl (by decide) (Nat.le_of_ble_eq_true rfl) ?_
  intro p e s m below meth c A hx hb hml hown hts hr hlk hnm hK hA hAN hZ hu ls hl
  have hl : lv_has ls 3 [(0, .ref (B 0)), (1, .ref ra)] := hl
  refine lv_aload_n hx hb dX0_readTheDays_0 rfl (lv_at hl 0 rfl) ?_
  refine lv_iconst (v := nI 0) hx hb dX0_readTheDays_1 (by decide) ?_
  refine xp10 hx hb hts hown hK hu dX0_readTheDays_2 (fun H locs hu => ?_)
  refine lp_U (σ := Nat × (Nat → Nat → Int32)) (fun N x => x.1 + N = 6 ∧ dcn r nn x.1 = x.1 ∧ 3 + x.1 ≤ nn ∧ xDy τ x.2 r x.1) (fun x => [(0, .ref (B 0)), (1, .ref ra)]) (fun x => xw d B x.2 ea hs ρ) ?_ 6 (0, put2 τ 10 0 (nI 0)) ⟨rfl, rfl, h3, fun k a b c => by simp only [put2]; rw [if_neg b], h8, rfl, fun t ht => absurd ht (Nat.not_lt_zero _)⟩ hu hl
  intro N ⟨i, τ1⟩ ⟨hN, hdc, hi3, hI⟩ ih H locs ls hu hl
  have hN : i + N = 6 := hN
  have hdc : dcn r nn i = i := hdc
  have hi3 : 3 + i ≤ nn := hi3
  have hI : xDy τ τ1 r i := hI
  have hu : uW D A s.heap H locs (xw d B τ1 ea hs ρ) := hu
  have hl : lv_has ls 3 [(0, .ref (B 0)), (1, .ref ra)] := hl
  refine lv_aload_n hx hb dX0_readTheDays_5 rfl (lv_at hl 0 rfl) ?_
  refine xg10 hx hb hts hown hK hu.1 dX0_readTheDays_6 ?_
  refine top_i hI.2.2.1 ?_
  refine lv_bipush (v := nI 6) hx hb dX0_readTheDays_9 (by decide) ?_
  refine nc_ge (tgt := 65) hx hb dX0_readTheDays_11 (by decide) (by omega) (by decide) (fun c1 => ?_) (fun c1 => ?_)
  · have e6 : i = 6 := by omega
    subst e6
    refine lv_iconst (v := 1) hx hb dX0_readTheDays_65 (by decide) ?_
    exact rU_z hx hb hr hlk hu dX0_readTheDays_66 (Nat.le_of_ble_eq_true rfl) (Nat.le_of_ble_eq_true rfl) (b := decide (0 < dcn r nn 6)) (by rw [hdc]; rfl) ⟨rfl, τ1, rfl, by rw [hdc]; exact hI⟩
  · refine lv_aload_n hx hb dX0_readTheDays_14 rfl (lv_at hl 0 rfl) ?_
    refine lv_aload_n hx hb dX0_readTheDays_15 rfl (lv_at hl 1 rfl) ?_
    refine lv_iconst (v := nI 0) hx hb dX0_readTheDays_16 (by decide) ?_
    refine lv_bipush (v := nI 9) hx hb dX0_readTheDays_17 (by decide) ?_
    refine callU_V (rest := []) hx hb hml hown hts KX_st hK hA hAN hZ (cX_digit l D d H00 B τ1 ea hs ρ ra jr nn (3 + i) 0 9 r hra hI.2.1 hi3 hnn (by decide) (by decide)) (wX0_digit hts ⟨Nat.le_of_ble_eq_true rfl, Nat.le_of_ble_eq_true rfl⟩) (x_recv hK hu.1) hu rfl hl.1 rfl (Nat.le_of_ble_eq_true rfl) dX0_readTheDays_19 ⟨Nat.le_of_ble_eq_true rfl, Nat.le_of_ble_eq_true rfl⟩ (fun r ws H locs hpo hu => ?_)
    obtain ⟨rfl, rfl⟩ := hpo
    cases hd : dig r nn (3 + i) (nI 0) (nI 9) with
    | true =>
      have hd' : dig r nn (3 + i) 0 9 = true := hd
      have hv9 := dig_no9 (by decide) (by decide) hd
      have hlt := (dig_lt (lo := 0) (hi := 9) (by decide) hd).1
      simp only [hd, if_true] at hu ⊢
      refine lv_istore_n (lv' := [(2, .int (r (3 + i) - 48)), (0, .ref (B 0)), (1, .ref ra)]) hx hb dX0_readTheDays_22 rfl hl (by decide) rfl (fun ls hl => ?_)
      refine lv_iload_n hx hb dX0_readTheDays_23 rfl (lv_at hl 0 rfl) ?_
      refine lv_bipush (v := -9) hx hb dX0_readTheDays_24 (by decide) ?_
      refine lv_icmp_ne (tgt := 42) hx hb dX0_readTheDays_26 (by decide) (fun c2 => ?_) (fun c2 => absurd c2 hv9)
      refine lv_aload_n hx hb dX0_readTheDays_42 rfl (lv_at hl 1 rfl) ?_
      refine xg12 hx hb hts hown hK hu.1 dX0_readTheDays_43 ?_
      refine lv_aload_n hx hb dX0_readTheDays_46 rfl (lv_at hl 1 rfl) ?_
      refine xg10 hx hb hts hown hK hu.1 dX0_readTheDays_47 ?_
      refine top_i (y := nI i) hI.2.2.1 ?_
      refine lv_iload_n hx hb dX0_readTheDays_50 rfl (lv_at hl 0 rfl) ?_
      refine xs12 hx hb hK hu (j := i) c1 dX0_readTheDays_51 (fun H locs hu => ?_)
      refine lv_aload_n hx hb dX0_readTheDays_52 rfl (lv_at hl 1 rfl) ?_
      refine lv_dup hx hb dX0_readTheDays_53 rfl ?_
      refine xg10 hx hb hts hown hK hu.1 dX0_readTheDays_54 ?_
      refine top_i (y := nI i) hI.2.2.1 ?_
      refine lv_iconst (v := nI 1) hx hb dX0_readTheDays_57 (by decide) ?_
      refine lv_iadd hx hb dX0_readTheDays_58 ?_
      refine top_i (nI_add i 1) ?_
      refine xp10 hx hb hts hown hK hu dX0_readTheDays_59 (fun H locs hu => ?_)
      refine lv_goto (tgt := 5) hx hb dX0_readTheDays_62 (by decide) ?_
      exact ih (N - 1) (i + 1, _) H locs ls (by omega) ⟨by show i + 1 + (N - 1) = 6; omega, dcn_go hdc hd', by show 3 + (i + 1) ≤ nn; omega, xDy_step hI⟩ hu ⟨hl.1, hl.2.1, fun q hq => hl.2.2 q (List.mem_cons_of_mem _ hq)⟩
    | false =>
      have hd' : dig r nn (3 + i) 0 9 = false := hd
      have h6 := dcn_stop hdc hd' 6 (by omega)
      simp only [hd, Bool.false_eq_true, if_false] at hu ⊢
      refine lv_istore_n (lv' := [(2, .int (-9)), (0, .ref (B 0)), (1, .ref ra)]) hx hb dX0_readTheDays_22 rfl hl (by decide) rfl (fun ls hl => ?_)
      refine lv_iload_n hx hb dX0_readTheDays_23 rfl (lv_at hl 0 rfl) ?_
      refine lv_bipush (v := -9) hx hb dX0_readTheDays_24 (by decide) ?_
      refine lv_icmp_ne (tgt := 42) hx hb dX0_readTheDays_26 (by decide) (fun c2 => absurd rfl c2) (fun c2 => ?_)
      refine lv_aload_n hx hb dX0_readTheDays_29 rfl (lv_at hl 1 rfl) ?_
      refine xg10 hx hb hts hown hK hu.1 dX0_readTheDays_30 ?_
      refine top_i (y := nI i) hI.2.2.1 ?_
      refine lv_if_le (tgt := 40) hx hb dX0_readTheDays_33 (by decide) (fun c3 => ?_) (fun c3 => ?_)
      · have hi0 := nI_le0 (by omega) c3
        refine lv_iconst (v := 0) hx hb dX0_readTheDays_40 (by decide) ?_
        exact rU_z hx hb hr hlk hu dX0_readTheDays_41 (Nat.le_of_ble_eq_true rfl) (Nat.le_of_ble_eq_true rfl) (b := decide (0 < dcn r nn 6)) (by rw [h6, decide_eq_false hi0]; rfl) ⟨rfl, τ1, rfl, by rw [h6]; exact hI⟩
      · have hi0 := nI_gt0 (by omega) c3
        refine lv_iconst (v := 1) hx hb dX0_readTheDays_36 (by decide) ?_
        refine lv_goto (tgt := 41) hx hb dX0_readTheDays_37 (by decide) ?_
        exact rU_z hx hb hr hlk hu dX0_readTheDays_41 (Nat.le_of_ble_eq_true rfl) (Nat.le_of_ble_eq_true rfl) (b := decide (0 < dcn r nn 6)) (by rw [h6, decide_eq_true hi0]; rfl) ⟨rfl, τ1, rfl, by rw [h6]; exact hI⟩
