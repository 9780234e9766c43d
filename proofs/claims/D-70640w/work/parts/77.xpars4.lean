/-! reading a text: all of it -/
/-- read so far: the days, ne eaters; at a -/
def xPr (τ τ1 : Nat → Nat → Int32) (r : Nat → Int32) (a dd ne : Nat) : Prop := (∀ k, k < 8 ∨ 13 < k → τ1 k = τ k) ∧ τ1 8 0 = nI a ∧ τ1 9 0 = r 1 - 48 ∧ τ1 10 0 = nI dd ∧ τ1 11 0 = nI ne ∧ (∀ i, i < dd → τ1 12 i = r (3 + i) - 48) ∧ ∀ t, t < ne → τ1 13 (4 * t) = nI (kdc (r (3 + dd + 5 * t + 1))) ∧ τ1 13 (4 * t + 1) = r (3 + dd + 5 * t + 2) - 48 ∧ τ1 13 (4 * t + 2) = r (3 + dd + 5 * t + 3) - 48 ∧ τ1 13 (4 * t + 3) = r (3 + dd + 5 * t + 4) - 48
def xPq (τ τ2 : Nat → Nat → Int32) (r : Nat → Int32) (dd : Nat) (P : Bool × Nat × Nat) : Prop := (∀ k, k < 8 ∨ 13 < k → τ2 k = τ k) ∧ τ2 8 0 = nI P.2.2 ∧ (P.1 = true → xPr τ τ2 r P.2.2 dd P.2.1)
theorem xPr_sign {τ τ1 : Nat → Nat → Int32} {r : Nat → Int32} {a dd ne : Nat} (h : xPr τ τ1 r a dd ne) (b : Nat) : xPr τ (put2 τ1 8 0 (nI b)) r b dd ne := by
  refine ⟨fun k hk => ?_, rfl, h.2.2.1, h.2.2.2.1, h.2.2.2.2.1, h.2.2.2.2.2.1, h.2.2.2.2.2.2⟩
  simp only [put2]; rw [if_neg (by omega)]; exact h.1 k hk
theorem xPr_eat {τ τ1 τ2 : Nat → Nat → Int32} {r : Nat → Int32} {nn a dd ne : Nat} (h : xPr τ τ1 r a dd ne) (h5 : eAt r nn (3 + dd + 5 * ne) = 5) (hE : xEa τ1 τ2 r nn (3 + dd + 5 * ne) ne) : xPr τ τ2 r (3 + dd + 5 * (ne + 1)) dd (ne + 1) := by
  obtain ⟨e1, e2, e3, e4⟩ := hE
  obtain ⟨f1, f2, f3, f4, f5⟩ := e4 h5
  refine ⟨fun k hk => ?_, ?_, ?_, ?_, f1, fun i hi => ?_, fun t ht => ?_⟩
  · rw [e1 k (by omega) (by omega) (by omega)]; exact h.1 k hk
  · rw [e2, h5]
    congr 1
  · rw [e1 9 (by decide) (by decide) (by decide)]; exact h.2.2.1
  · rw [e1 10 (by decide) (by decide) (by decide)]; exact h.2.2.2.1
  · rw [e1 12 (by decide) (by decide) (by decide)]; exact h.2.2.2.2.2.1 i hi
  · by_cases q : t = ne
    · subst q; exact ⟨f2, f3, f4, f5⟩
    · rw [e3 (4 * t) (by omega), e3 (4 * t + 1) (by omega), e3 (4 * t + 2) (by omega), e3 (4 * t + 3) (by omega)]
      exact h.2.2.2.2.2.2 t (by omega)
set_option maxHeartbeats 4000000 in
set_option maxRecDepth 100000 in
theorem cX_readAll (l : Launch) (D : va_G) (d : Nat → ClassId) (H00 : Heap) (B : Nat → Nat) (τ : Nat → Nat → Int32) (ea : Nat) (hs : Nat → Option Nat) (ρ : va_W) (ra jr nn dd : Nat) (r : Nat → Int32) (P : Bool × Nat × Nat) (hra : ρ[jr]? = some (ra, .inl (d 0, nn, .inl r))) (hnn : nn ≤ 60) (hdd : dcn r nn 6 = dd) (hP : prs r nn = P) : cU l (KX D d) H00 D yX0_readAll cX0_readAll 2 (some .boolean) (rc 3 0 0) [.ref (B 0), .ref ra] (xw d B τ ea hs ρ) (fun r0 ws => r0 = some (.int (bI P.1)) ∧ ∃ τ2, ws = xw d B τ2 ea hs ρ ∧ xPq τ τ2 r dd P) := by
  refine cU_start RX0 rfl (by decide) (Nat.le_of_ble_eq_true rfl) ?_
  intro p e s m below meth c A hx hb hml hown hts hr hlk hnm hK hA hAN hZ hu ls hl
  have hl : lv_has ls 2 [(0, .ref (B 0)), (1, .ref ra)] := hl
  have hd6 : dd ≤ 6 := by rw [← hdd]; exact dcn_le r nn 6
  have hrx : ∀ τ', (xw d B τ' ea hs ρ)[jr + 14]? = some (ra, .inl (d 0, nn, .inl r)) := fun _ => hra
  have hret : ∀ (τ2 : Nat → Nat → Int32) (H : Heap) (locs : List Loc) (pc : Nat) (n a : Nat), P = (false, n, a) → (∀ k, k < 8 ∨ 13 < k → τ2 k = τ k) → τ2 8 0 = nI a → uW D A s.heap H locs (xw d B τ2 ea hs ρ) → decode cX0_readAll pc = .ok (.ireturn, 1) → W p l e (rc 3 0 0) s m [.ref (B 0), .ref ra].toArray below meth c H locs 0 0 (MQ below (qU D A (fun r0 ws => r0 = some (.int (bI P.1)) ∧ ∃ τ2, ws = xw d B τ2 ea hs ρ ∧ xPq τ τ2 r dd P)) [.ref (B 0), .ref ra].toArray s 0 0 A) (F0 m pc ls [.int 0]) := by
    intro τ2 H locs pc n a hPe h1 h2 hu hdg
    exact rU_z hx hb hr hlk hu hdg (Nat.le_of_ble_eq_true rfl) (Nat.le_of_ble_eq_true rfl) (b := P.1) (by rw [hPe]; rfl) ⟨rfl, τ2, rfl, h1, by rw [hPe]; exact h2, fun q => by rw [hPe] at q; cases q⟩
  refine lv_aload_n hx hb dX0_readAll_0 rfl (lv_at hl 0 rfl) ?_
  refine lv_iconst (v := nI 0) hx hb dX0_readAll_1 (by decide) ?_
  refine xp8 hx hb hts hown hK hu dX0_readAll_2 (fun H locs hu => ?_)
  refine lv_aload_n hx hb dX0_readAll_5 rfl (lv_at hl 0 rfl) ?_
  refine lv_iconst (v := nI 0) hx hb dX0_readAll_6 (by decide) ?_
  refine xp11 hx hb hts hown hK hu dX0_readAll_7 (fun H locs hu => ?_)
  have hk0 : ∀ k, k < 8 ∨ 13 < k → (put2 (put2 τ 8 0 (nI 0)) 11 0 (nI 0)) k = τ k := fun k hk => by simp only [put2]; rw [if_neg (by omega), if_neg (by omega)]
  have h110 : (put2 (put2 τ 8 0 (nI 0)) 11 0 (nI 0)) 11 0 = nI 0 := rfl
  have h80 : (put2 (put2 τ 8 0 (nI 0)) 11 0 (nI 0)) 8 0 = nI 0 := rfl
  generalize put2 (put2 τ 8 0 (nI 0)) 11 0 (nI 0) = τ0 at hu hk0 h110 h80
  refine lv_aload_n hx hb dX0_readAll_10 rfl (lv_at hl 0 rfl) ?_
  refine lv_aload_n hx hb dX0_readAll_11 rfl (lv_at hl 1 rfl) ?_
  refine lv_bipush (v := 100) hx hb dX0_readAll_12 (by decide) ?_
  refine callU_V (rest := []) hx hb hml hown hts KX_st hK hA hAN hZ (cX_isSign l D d H00 B τ0 ea hs ρ ra jr nn 0 r 100 hra h80 (Nat.zero_le _) hnn (by decide)) (wX0_isSign hts ⟨Nat.le_of_ble_eq_true rfl, Nat.le_of_ble_eq_true rfl⟩) (x_recv hK hu.1) hu rfl hl.1 rfl (Nat.le_of_ble_eq_true rfl) dX0_readAll_14 ⟨Nat.le_of_ble_eq_true rfl, Nat.le_of_ble_eq_true rfl⟩ (fun r ws H locs hpo hu => ?_)
  obtain ⟨rfl, rfl⟩ := hpo
  refine bz_ne (tgt := 22) hx hb dX0_readAll_17 (by decide) (fun c1 => ?_) (fun c1 => ?_)
  · have c1 : tok r nn 0 = 100 := of_decide_eq_true c1
    simp only [if_pos c1] at hu
    have hlt0 := (tok_lt c1 (by decide)).1
    refine lv_aload_n hx hb dX0_readAll_22 rfl (lv_at hl 0 rfl) ?_
    refine lv_aload_n hx hb dX0_readAll_23 rfl (lv_at hl 0 rfl) ?_
    refine lv_aload_n hx hb dX0_readAll_24 rfl (lv_at hl 1 rfl) ?_
    refine lv_iconst (v := nI 0) hx hb dX0_readAll_25 (by decide) ?_
    refine lv_bipush (v := nI 9) hx hb dX0_readAll_26 (by decide) ?_
    refine callU_V (rest := [.ref (B 0)]) hx hb hml hown hts KX_st hK hA hAN hZ (cX_digit l D d H00 B (put2 τ0 8 0 (nI (0 + 1))) ea hs ρ ra jr nn 1 0 9 r hra rfl (by omega) hnn (by decide) (by decide)) (wX0_digit hts ⟨Nat.le_of_ble_eq_true rfl, Nat.le_of_ble_eq_true rfl⟩) (x_recv hK hu.1) hu rfl hl.1 rfl (Nat.le_of_ble_eq_true rfl) dX0_readAll_28 ⟨Nat.le_of_ble_eq_true rfl, Nat.le_of_ble_eq_true rfl⟩ (fun r ws H locs hpo hu => ?_)
    obtain ⟨rfl, rfl⟩ := hpo
    cases hd : dig r nn 1 (nI 0) (nI 9) with
    | false =>
      simp only [hd, Bool.false_eq_true, if_false] at hu ⊢
      refine xp9 hx hb hts hown hK hu dX0_readAll_31 (fun H locs hu => ?_)
      refine lv_aload_n hx hb dX0_readAll_34 rfl (lv_at hl 0 rfl) ?_
      refine xg9 hx hb hts hown hK hu.1 dX0_readAll_35 ?_
      refine top_i (y := -9) rfl ?_
      refine lv_bipush (v := -9) hx hb dX0_readAll_38 (by decide) ?_
      refine lv_icmp_eq (tgt := 61) hx hb dX0_readAll_40 (by decide) (fun _ => ?_) (fun c0 => absurd rfl c0)
      refine lv_iconst (v := 0) hx hb dX0_readAll_61 (by decide) ?_
      exact hret _ H locs 62 0 1 (by rw [← hP]; exact prs_1 c1 hd) (fun k hk => by simp only [put2]; rw [if_neg (by omega), if_neg (by omega)]; exact hk0 k hk) rfl hu dX0_readAll_62
    | true =>
      have hv9 := dig_no9 (by decide) (by decide) hd
      have hlt1 := (dig_lt (lo := 0) (hi := 9) (by decide) hd).1
      simp only [hd, if_true] at hu ⊢
      refine xp9 hx hb hts hown hK hu dX0_readAll_31 (fun H locs hu => ?_)
      have hk1 : ∀ k, k < 8 ∨ 13 < k → (put2 (put2 (put2 τ0 8 0 (nI (0 + 1))) 8 0 (nI (1 + 1))) 9 0 (r 1 - 48)) k = τ k := fun k hk => by simp only [put2]; rw [if_neg (by omega), if_neg (by omega), if_neg (by omega)]; exact hk0 k hk
      have h91 : (put2 (put2 (put2 τ0 8 0 (nI (0 + 1))) 8 0 (nI (1 + 1))) 9 0 (r 1 - 48)) 9 0 = r 1 - 48 := rfl
      have h81 : (put2 (put2 (put2 τ0 8 0 (nI (0 + 1))) 8 0 (nI (1 + 1))) 9 0 (r 1 - 48)) 8 0 = nI 2 := rfl
      have h111 : (put2 (put2 (put2 τ0 8 0 (nI (0 + 1))) 8 0 (nI (1 + 1))) 9 0 (r 1 - 48)) 11 0 = nI 0 := h110
      generalize put2 (put2 (put2 τ0 8 0 (nI (0 + 1))) 8 0 (nI (1 + 1))) 9 0 (r 1 - 48) = τ1 at hu hk1 h91 h81 h111
      refine lv_aload_n hx hb dX0_readAll_34 rfl (lv_at hl 0 rfl) ?_
      refine xg9 hx hb hts hown hK hu.1 dX0_readAll_35 ?_
      refine top_i h91 ?_
      refine lv_bipush (v := -9) hx hb dX0_readAll_38 (by decide) ?_
      refine lv_icmp_eq (tgt := 61) hx hb dX0_readAll_40 (by decide) (fun c0 => absurd c0 hv9) (fun _ => ?_)
      refine lv_aload_n hx hb dX0_readAll_43 rfl (lv_at hl 0 rfl) ?_
      refine lv_aload_n hx hb dX0_readAll_44 rfl (lv_at hl 1 rfl) ?_
      refine lv_bipush (v := 44) hx hb dX0_readAll_45 (by decide) ?_
      refine callU_V (rest := []) hx hb hml hown hts KX_st hK hA hAN hZ (cX_isSign l D d H00 B τ1 ea hs ρ ra jr nn 2 r 44 hra h81 (by omega) hnn (by decide)) (wX0_isSign hts ⟨Nat.le_of_ble_eq_true rfl, Nat.le_of_ble_eq_true rfl⟩) (x_recv hK hu.1) hu rfl hl.1 rfl (Nat.le_of_ble_eq_true rfl) dX0_readAll_47 ⟨Nat.le_of_ble_eq_true rfl, Nat.le_of_ble_eq_true rfl⟩ (fun r ws H locs hpo hu => ?_)
      obtain ⟨rfl, rfl⟩ := hpo
      refine bz_eq (tgt := 61) hx hb dX0_readAll_50 (by decide) (fun c2 => ?_) (fun c2 => ?_)
      · have c2 : ¬ tok r nn 2 = 44 := of_decide_eq_false c2
        simp only [if_neg c2] at hu
        refine lv_iconst (v := 0) hx hb dX0_readAll_61 (by decide) ?_
        exact hret _ _ _ 62 0 2 (by rw [← hP]; exact prs_2 c1 hd c2) hk1 h81 hu dX0_readAll_62
      · have c2 : tok r nn 2 = 44 := of_decide_eq_true c2
        simp only [if_pos c2] at hu
        have hlt2 := (tok_lt c2 (by decide)).1
        refine lv_aload_n hx hb dX0_readAll_53 rfl (lv_at hl 0 rfl) ?_
        refine lv_aload_n hx hb dX0_readAll_54 rfl (lv_at hl 1 rfl) ?_
        refine callU_V (rest := []) hx hb hml hown hts KX_st hK hA hAN hZ (cX_readTheDays l D d H00 B (put2 τ1 8 0 (nI (2 + 1))) ea hs ρ ra jr nn r hra rfl (by omega) hnn) (wX0_readTheDays hts ⟨Nat.le_of_ble_eq_true rfl, Nat.le_of_ble_eq_true rfl⟩) (x_recv hK hu.1) hu rfl hl.1 rfl (Nat.le_of_ble_eq_true rfl) dX0_readAll_55 ⟨Nat.le_of_ble_eq_true rfl, Nat.le_of_ble_eq_true rfl⟩ (fun r ws H locs hpo hu => ?_)
        obtain ⟨rfl, τ2, rfl, hdy⟩ := hpo
        rw [hdd] at hdy
        obtain ⟨y1, y2, y3, y4⟩ := hdy
        have hk2 : ∀ k, k < 8 ∨ 13 < k → τ2 k = τ k := fun k hk => by
          rw [y1 k (by omega) (by omega) (by omega)]
          simp only [put2]; rw [if_neg (by omega)]; exact hk1 k hk
        refine bz_ne (tgt := 63) hx hb dX0_readAll_58 (by decide) (fun c3 => ?_) (fun c3 => ?_)
        · have hd0 : 0 < dd := by have := of_decide_eq_true c3; omega
          have hp4 := prs_4 c1 hd c2 c3
          rw [hdd, hP] at hp4
          have hx0 : xPr τ τ2 r (3 + dd + 5 * 0) dd 0 := ⟨hk2, y2, by rw [y1 9 (by decide) (by decide) (by decide)]; exact h91, y3, by rw [y1 11 (by decide) (by decide) (by decide)]; exact h111, y4, fun t ht => absurd ht (Nat.not_lt_zero _)⟩
          have hle0 : 3 + dd + 5 * 0 ≤ nn := by
            have := (dig_lt (lo := 0) (hi := 9) (by decide) (dcn_dig (r := r) (nn := nn) 6 (dd - 1) (by omega))).1
            omega
          refine lp_U (σ := Nat × (Nat → Nat → Int32)) (fun N x => x.1 + N = 4 ∧ 3 + dd + 5 * x.1 ≤ nn ∧ P = eLp r nn (3 + dd) (N + 1) x.1 ∧ xPr τ x.2 r (3 + dd + 5 * x.1) dd x.1) (fun x => [(0, .ref (B 0)), (1, .ref ra)]) (fun x => xw d B x.2 ea hs ρ) ?_ 4 (0, τ2) ⟨rfl, hle0, hp4, hx0⟩ hu hl
          intro N ⟨ne, τ3⟩ ⟨hN, hle, hPe, hI⟩ ih H locs ls hu hl
          have hN : ne + N = 4 := hN
          have hle : 3 + dd + 5 * ne ≤ nn := hle
          have hPe : P = eLp r nn (3 + dd) (N + 1) ne := hPe
          have hI : xPr τ τ3 r (3 + dd + 5 * ne) dd ne := hI
          have hu : uW D A s.heap H locs (xw d B τ3 ea hs ρ) := hu
          have hl : lv_has ls 2 [(0, .ref (B 0)), (1, .ref ra)] := hl
          have hret' : ∀ (τ2 : Nat → Nat → Int32) (H : Heap) (locs : List Loc) (pc : Nat) (n a : Nat), P = (false, n, a) → (∀ k, k < 8 ∨ 13 < k → τ2 k = τ k) → τ2 8 0 = nI a → uW D A s.heap H locs (xw d B τ2 ea hs ρ) → decode cX0_readAll pc = .ok (.ireturn, 1) → W p l e (rc 3 0 0) s m [.ref (B 0), .ref ra].toArray below meth c H locs 0 0 (MQ below (qU D A (fun r0 ws => r0 = some (.int (bI P.1)) ∧ ∃ τ2, ws = xw d B τ2 ea hs ρ ∧ xPq τ τ2 r dd P)) [.ref (B 0), .ref ra].toArray s 0 0 A) (F0 m pc ls [.int 0]) := by
            intro τ2 H locs pc n a hPe h1 h2 hu hdg
            exact rU_z hx hb hr hlk hu hdg (Nat.le_of_ble_eq_true rfl) (Nat.le_of_ble_eq_true rfl) (b := P.1) (by rw [hPe]; rfl) ⟨rfl, τ2, rfl, h1, by rw [hPe]; exact h2, fun q => by rw [hPe] at q; cases q⟩
          have hout : (¬ ne = 0) → (ne = 4 ∨ nn ≤ 3 + dd + 5 * ne) → W p l e (rc 3 0 0) s m [.ref (B 0), .ref ra].toArray below meth c H locs 0 0 (MQ below (qU D A (fun r0 ws => r0 = some (.int (bI P.1)) ∧ ∃ τ2, ws = xw d B τ2 ea hs ρ ∧ xPq τ τ2 r dd P)) [.ref (B 0), .ref ra].toArray s 0 0 A) (F0 m 107 ls []) := by
            intro hne0 hq
            refine lv_aload_n hx hb dX0_readAll_107 rfl (lv_at hl 0 rfl) ?_
            refine xg8 hx hb hts hown hK hu.1 dX0_readAll_108 ?_
            refine top_i hI.2.1 ?_
            refine lv_aload_n hx hb dX0_readAll_111 rfl (lv_at hl 1 rfl) ?_
            refine va_alen hx hb hK.1.1 hu.1 (jr + 14) 0 (hrx τ3) rfl (v := nI nn) rfl dX0_readAll_112 ?_
            refine nc_ne (tgt := 120) hx hb dX0_readAll_113 (by decide) (by omega) (by omega) (fun c6 => ?_) (fun c6 => ?_)
            · have h4 : ne = 4 := by omega
              refine lv_iconst (v := 0) hx hb dX0_readAll_120 (by decide) ?_
              have e0 : exE r nn (3 + dd + 5 * ne) ne = 0 := by rw [exE, if_pos h4]
              refine hret' τ3 H locs 121 ne (3 + dd + 5 * ne) ?_ hI.1 hI.2.1 hu dX0_readAll_121
              rw [hPe, eLp_no (Or.inr (by omega)) (by rw [e0]; decide), e0]
              rfl
            · refine lv_iconst (v := 1) hx hb dX0_readAll_116 (by decide) ?_
              refine lv_goto (tgt := 121) hx hb dX0_readAll_117 (by decide) ?_
              have hPt : P = (true, ne, 3 + dd + 5 * ne) := hPe.trans (eLp_yes hne0 (by omega))
              exact rU_z hx hb hr hlk hu dX0_readAll_121 (Nat.le_of_ble_eq_true rfl) (Nat.le_of_ble_eq_true rfl) (b := P.1) (by rw [hPt]; rfl) ⟨rfl, τ3, rfl, hI.1, by rw [hPt]; exact hI.2.1, fun _ => by rw [hPt]; exact hI⟩
          have hbody : (ne = 0 ∨ 3 + dd + 5 * ne < nn) → ¬ ne = 4 → W p l e (rc 3 0 0) s m [.ref (B 0), .ref ra].toArray below meth c H locs 0 0 (MQ below (qU D A (fun r0 ws => r0 = some (.int (bI P.1)) ∧ ∃ τ2, ws = xw d B τ2 ea hs ρ ∧ xPq τ τ2 r dd P)) [.ref (B 0), .ref ra].toArray s 0 0 A) (F0 m 87 ls []) := by
            intro hq hne4
            refine lv_aload_n hx hb dX0_readAll_87 rfl (lv_at hl 0 rfl) ?_
            refine lv_aload_n hx hb dX0_readAll_88 rfl (lv_at hl 1 rfl) ?_
            refine lv_bipush (v := 59) hx hb dX0_readAll_89 (by decide) ?_
            refine callU_V (rest := []) hx hb hml hown hts KX_st hK hA hAN hZ (cX_isSign l D d H00 B τ3 ea hs ρ ra jr nn (3 + dd + 5 * ne) r 59 hra hI.2.1 hle hnn (by decide)) (wX0_isSign hts ⟨Nat.le_of_ble_eq_true rfl, Nat.le_of_ble_eq_true rfl⟩) (x_recv hK hu.1) hu rfl hl.1 rfl (Nat.le_of_ble_eq_true rfl) dX0_readAll_91 ⟨Nat.le_of_ble_eq_true rfl, Nat.le_of_ble_eq_true rfl⟩ (fun r ws H locs hpo hu => ?_)
            obtain ⟨rfl, rfl⟩ := hpo
            refine bz_eq (tgt := 105) hx hb dX0_readAll_94 (by decide) (fun c6 => ?_) (fun c6 => ?_)
            · have c6 : ¬ tok r nn (3 + dd + 5 * ne) = 59 := of_decide_eq_false c6
              simp only [if_neg c6] at hu
              refine lv_iconst (v := 0) hx hb dX0_readAll_105 (by decide) ?_
              have e0 := eAt_0 hne4 c6
              refine hret' τ3 _ _ 106 ne (3 + dd + 5 * ne) ?_ hI.1 hI.2.1 hu dX0_readAll_106
              rw [hPe, eLp_no hq (by rw [e0]; decide), e0]
              rfl
            · have c6 : tok r nn (3 + dd + 5 * ne) = 59 := of_decide_eq_true c6
              simp only [if_pos c6] at hu
              have hltb := (tok_lt c6 (by decide)).1
              refine lv_aload_n hx hb dX0_readAll_97 rfl (lv_at hl 0 rfl) ?_
              refine lv_aload_n hx hb dX0_readAll_98 rfl (lv_at hl 1 rfl) ?_
              refine callU_V (rest := []) hx hb hml hown hts KX_st hK hA hAN hZ (cX_readEater l D d H00 B (put2 τ3 8 0 (nI (3 + dd + 5 * ne + 1))) ea hs ρ ra jr nn (3 + dd + 5 * ne) ne r hra rfl hI.2.2.2.2.1 (by omega) c6 (by omega) hnn) (wX0_readEater hts ⟨Nat.le_of_ble_eq_true rfl, Nat.le_of_ble_eq_true rfl⟩) (x_recv hK hu.1) hu rfl hl.1 rfl (Nat.le_of_ble_eq_true rfl) dX0_readAll_99 ⟨Nat.le_of_ble_eq_true rfl, Nat.le_of_ble_eq_true rfl⟩ (fun r ws H locs hpo hu => ?_)
              obtain ⟨rfl, τ4, rfl, hE⟩ := hpo
              have hx1 := xPr_sign hI (3 + dd + 5 * ne + 1)
              have hexE : exE r nn (3 + dd + 5 * ne) ne = eAt r nn (3 + dd + 5 * ne) := by rw [exE, if_neg hne4]
              refine bz_ne (tgt := 63) hx hb dX0_readAll_102 (by decide) (fun c7 => ?_) (fun c7 => ?_)
              · have c7 : eAt r nn (3 + dd + 5 * ne) = 5 := of_decide_eq_true c7
                have hx2 := xPr_eat hx1 c7 hE
                have hgo := (eLp_go (f := N) hq (by rw [hexE]; exact c7)).1
                have hle2 : 3 + dd + 5 * (ne + 1) ≤ nn := by
                  by_cases h4 : dig r nn (3 + dd + 5 * ne + 4) 0 6 = true
                  · have := (dig_lt (lo := 0) (hi := 6) (by decide) h4).1
                    omega
                  · exfalso
                    have h4 : dig r nn (3 + dd + 5 * ne + 4) 0 6 = false := by
                      cases hq4 : dig r nn (3 + dd + 5 * ne + 4) 0 6 with
                      | true => exact absurd hq4 h4
                      | false => rfl
                    rw [eAt] at c7
                    simp only [h4, if_true] at c7
                    repeat (split at c7; · omega)
                    omega
                obtain ⟨N', rfl⟩ : ∃ N', N = N' + 1 := ⟨N - 1, by omega⟩
                exact ih N' (ne + 1, τ4) _ _ ls (by omega) ⟨by show ne + 1 + N' = 4; omega, hle2, hPe.trans hgo, hx2⟩ hu hl
              · have c7 : ¬ eAt r nn (3 + dd + 5 * ne) = 5 := of_decide_eq_false c7
                refine lv_iconst (v := 0) hx hb dX0_readAll_105 (by decide) ?_
                refine hret' τ4 _ _ 106 ne (3 + dd + 5 * ne + eAt r nn (3 + dd + 5 * ne)) ?_ (fun k hk => ?_) hE.2.1 hu dX0_readAll_106
                · rw [hPe, eLp_no hq (by rw [hexE]; exact c7), hexE]
                · rw [hE.1 k (by omega) (by omega) (by omega)]
                  exact hx1.1 k hk
          refine lv_aload_n hx hb dX0_readAll_63 rfl (lv_at hl 0 rfl) ?_
          refine xg11 hx hb hts hown hK hu.1 dX0_readAll_64 ?_
          refine top_i hI.2.2.2.2.1 ?_
          refine lv_if_eq (tgt := 87) hx hb dX0_readAll_67 (by decide) (fun c4 => ?_) (fun c4 => ?_)
          · have hne0 : ne = 0 := (nI_eq (by omega) (by decide)).mp c4
            exact hbody (Or.inl hne0) (by omega)
          · have hne0 : ¬ ne = 0 := fun q => c4 (by rw [q]; rfl)
            refine lv_aload_n hx hb dX0_readAll_70 rfl (lv_at hl 0 rfl) ?_
            refine xg11 hx hb hts hown hK hu.1 dX0_readAll_71 ?_
            refine top_i hI.2.2.2.2.1 ?_
            refine lv_iconst (v := nI 4) hx hb dX0_readAll_74 (by decide) ?_
            refine nc_ge (tgt := 107) hx hb dX0_readAll_75 (by decide) (by omega) (by decide) (fun c5 => ?_) (fun c5 => ?_)
            · exact hout hne0 (Or.inl (by omega))
            · refine lv_aload_n hx hb dX0_readAll_78 rfl (lv_at hl 0 rfl) ?_
              refine xg8 hx hb hts hown hK hu.1 dX0_readAll_79 ?_
              refine top_i hI.2.1 ?_
              refine lv_aload_n hx hb dX0_readAll_82 rfl (lv_at hl 1 rfl) ?_
              refine va_alen hx hb hK.1.1 hu.1 (jr + 14) 0 (hrx τ3) rfl (v := nI nn) rfl dX0_readAll_83 ?_
              refine nc_ge (tgt := 107) hx hb dX0_readAll_84 (by decide) (by omega) (by omega) (fun c6 => ?_) (fun c6 => ?_)
              · exact hout hne0 (Or.inr c6)
              · exact hbody (Or.inr c6) (by omega)
        · obtain ⟨h60, hp3⟩ := prs_3 c1 hd c2 c3
          have hd0 : dd = 0 := by rw [← hdd]; exact h60
          refine lv_iconst (v := 0) hx hb dX0_readAll_61 (by decide) ?_
          exact hret τ2 _ _ 62 0 3 (hP.symm.trans hp3) hk2 (by rw [y2, hd0]) hu dX0_readAll_62
  · have c1 : ¬ tok r nn 0 = 100 := of_decide_eq_false c1
    simp only [if_neg c1] at hu
    refine lv_iconst (v := 0) hx hb dX0_readAll_20 (by decide) ?_
    exact hret τ0 _ _ 21 0 0 (by rw [← hP]; exact prs_0 c1) hk0 h80 hu dX0_readAll_21
