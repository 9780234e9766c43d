/-! told -/
theorem okW_lo {w : Int32} (h : okW w = true) (h10 : w < 10) : w = 0 ∨ w = 1 ∨ w = 2 ∨ w = 3 := by
  unfold okW at h
  rw [Bool.or_eq_true] at h
  rcases h with h | h
  · obtain ⟨j, hj, e⟩ := pIn_ix (n := 4) (by decide) h
    subst e
    rcases k4 hj with q | q | q | q <;> subst q
    · exact Or.inl rfl
    · exact Or.inr (Or.inl rfl)
    · exact Or.inr (Or.inr (Or.inl rfl))
    · exact Or.inr (Or.inr (Or.inr rfl))
  · exfalso
    simp only [pIn, Bool.and_eq_true, decide_eq_true_eq] at h
    have h1 := h.1
    rw [Int64.le_iff_toInt_le, Int32.toInt_toInt64] at h1
    rw [Int32.lt_iff_toInt_lt] at h10
    have e1 : (10 : Int64).toInt = 10 := rfl
    have e2 : (10 : Int32).toInt = 10 := rfl
    omega
theorem okW_hi {w : Int32} (h : okW w = true) (h10 : ¬ w < 10) : ∃ j, j < 6 ∧ w - 10 = nI j := by
  unfold okW at h
  rw [Bool.or_eq_true] at h
  rcases h with h | h
  · exfalso
    obtain ⟨j, hj, e⟩ := pIn_ix (n := 4) (by decide) h
    subst e
    rcases k4 hj with q | q | q | q <;> subst q <;> exact h10 (by decide)
  · simp only [pIn, Bool.and_eq_true, decide_eq_true_eq] at h
    obtain ⟨h1, h2⟩ := h
    rw [Int64.le_iff_toInt_le, Int32.toInt_toInt64] at h1 h2
    have e1 : (10 : Int64).toInt = 10 := rfl
    have e2 : (15 : Int64).toInt = 15 := rfl
    have hw0 : ¬ w < 0 := by
      rw [Int32.lt_iff_toInt_lt, Int32.toInt_zero]; omega
    obtain ⟨t, ht, e⟩ := nI_of hw0
    subst e
    have et : (nI t).toInt = (t : Int) := Int32.toInt_ofNat_of_lt ht
    refine ⟨t - 10, by omega, ?_⟩
    exact pk_sub (a := t) (b := 10) (by omega)
set_option maxHeartbeats 4000000 in
set_option maxRecDepth 100000 in
theorem cX_told (l : Launch) (D : va_G) (d : Nat → ClassId) (B : Nat → Nat) (τ : Nat → Nat → Int32) (ea : Nat) (hs : Nat → Option Nat) (ρ : va_W) (e0 : Nat) (F : Nat → Nat) (σ : ASt) (ra jr nn : Nat) (r : Nat → Int32) (w : Int32) (hm : xRep d B e0 σ τ ea hs ρ F) (hra : (xw d B τ ea hs ρ)[jr]? = some (ra, .inl (d 0, nn, .inl r))) (hnn : nn ≤ 60) (hw : okW w = true) : cR l (KX D d) yX0_told cX0_told 8 (some .int) (rk 9) [.ref (B 0), .ref ra, .int w] (va_P D vwCl (xw d B τ ea hs ρ)) (.int (if ¬ nn = aE σ then -2 else if allT σ r (aE σ) = false then -2 else pln σ r w)) := by
  refine cR_start RX0 rfl (by decide) (Nat.le_of_ble_eq_true rfl) ?_
  intro p e s m below meth c hx hb hml hown hts hr hlk hK hP ls hl
  have hu : va_P D vwCl (xw d B τ ea hs ρ) s.heap ∧ True := ⟨hP, trivial⟩
  have hl : lv_has ls 8 [(0, .ref (B 0)), (1, .ref ra), (2, .int w)] := hl
  have hok := hm.ok
  have hD6 : aD σ ≤ 6 := hok.1
  have hE4 : aE σ ≤ 4 := hok.2.1
  have h64 := pow6 hok.1
  refine lv_aload_n hx hb dX0_told_0 rfl (lv_at hl 1 rfl) ?_
  refine va_alen hx hb hK.1.1 hP jr 0 hra rfl (v := nI nn) rfl dX0_told_1 ?_
  refine lv_aload_n hx hb dX0_told_2 rfl (lv_at hl 0 rfl) ?_
  refine xg2 hx hb hts hown hK hP dX0_told_3 ?_
  refine xr_size (rest := [.int (nI nn)]) hx hb hml hown hts hK hP hm.lst ⟨Nat.le_of_ble_eq_true rfl, Nat.le_of_ble_eq_true rfl⟩ ⟨Nat.le_of_ble_eq_true rfl, Nat.le_of_ble_eq_true rfl⟩ hl.1 (Nat.le_of_ble_eq_true rfl) dX0_told_6 ?_
  refine nc_eq (tgt := 17) hx hb dX0_told_11 (by decide) (by omega) (by omega) (fun c1 => ?_) (fun c1 => ?_)
  · subst c1
    have hdone : allT σ r (aE σ) = true → ∀ (ls : Array Slot), lv_has ls 8 [(3, .int (nI (aE σ))), (0, .ref (B 0)), (1, .ref ra), (2, .int w)] → W p l e (rk 9) s m [.ref (B 0), .ref ra, .int w].toArray below meth c s.heap [] 0 0 (MQ below (qR (.int (if ¬ aE σ = aE σ then -2 else if allT σ r (aE σ) = false then -2 else pln σ r w))) [.ref (B 0), .ref ra, .int w].toArray s 0 0 (fun _ => False)) (F0 m 44 ls []) := by
      intro hall ls hl
      have hT := allT_yes hall
      have hval : (if ¬ aE σ = aE σ then (-2 : Int32) else if allT σ r (aE σ) = false then -2 else pln σ r w) = pln σ r w := by
        rw [if_neg (fun q => q rfl), if_neg (bt_nf hall)]
      rw [hval]
      refine lv_iload_n hx hb dX0_told_44 rfl (lv_at hl 3 rfl) ?_
      refine lv_bipush (v := 10) hx hb dX0_told_45 (by decide) ?_
      refine lv_icmp_lt (tgt := 76) hx hb dX0_told_47 (by decide) (fun c2 => ?_) (fun c2 => ?_)
      · refine lv_iload_n hx hb dX0_told_76 rfl (lv_at hl 3 rfl) ?_
        refine lv_iconst (v := 1) hx hb dX0_told_77 (by decide) ?_
        refine lv_icmp_ne (tgt := 87) hx hb dX0_told_78 (by decide) (fun c3 => ?_) (fun c3 => ?_)
        · refine lv_iconst (v := nI 0) hx hb dX0_told_87 (by decide) ?_
          refine lv_istore_n (lv' := [(3, .int (nI 0)), (0, .ref (B 0)), (1, .ref ra), (2, .int w)]) hx hb dX0_told_88 rfl hl (by decide) rfl (fun ls hl => ?_)
          refine lv_iconst (v := nI 0) hx hb dX0_told_89 (by decide) ?_
          refine lv_istore (lv' := [(4, .int (nI 0)), (3, .int (nI 0)), (0, .ref (B 0)), (1, .ref ra), (2, .int w)]) hx hb dX0_told_90 hl (by decide) rfl (fun ls hl => ?_)
          refine lv_iconst (v := nI 0) hx hb dX0_told_92 (by decide) ?_
          refine lv_istore (lv' := [(5, .int (nI 0)), (4, .int (nI 0)), (3, .int (nI 0)), (0, .ref (B 0)), (1, .ref ra), (2, .int w)]) hx hb dX0_told_93 hl (by decide) rfl (fun ls hl => ?_)
          refine lv_iconst (v := nI 0) hx hb dX0_told_95 (by decide) ?_
          refine lv_istore (lv' := [(6, .int (nI 0)), (5, .int (nI 0)), (4, .int (nI 0)), (3, .int (nI 0)), (0, .ref (B 0)), (1, .ref ra), (2, .int w)]) hx hb dX0_told_96 hl (by decide) rfl (fun ls hl => ?_)
          let S0 : Nat → Nat := sumN (fun a => fin (aN σ) (aD σ) (aF σ) a (ix (r a)))
          let P2 : Nat → Bool := fun a => !(decide (pG σ r a = 0))
          let P3 : Nat → Bool := fun a => decide (popc (ix (r a)) < aN σ 3 a)
          refine lp_R (σ := Nat) (fun N i => i + N = aE σ) (fun i => [(6, .int (nI i)), (5, .int (nI (setN P3 i))), (4, .int (nI (setN P2 i))), (3, .int (nI (S0 i))), (0, .ref (B 0)), (1, .ref ra), (2, .int w)]) (fun N i hI ih ls hl => ?_) (aE σ) 0 (by omega) hl
          have hl : lv_has ls 8 [(6, .int (nI i)), (5, .int (nI (setN P3 i))), (4, .int (nI (setN P2 i))), (3, .int (nI (S0 i))), (0, .ref (B 0)), (1, .ref ra), (2, .int w)] := hl
          refine lv_iload hx hb dX0_told_98 (lv_at hl 0 rfl) ?_
          refine lv_aload_n hx hb dX0_told_100 rfl (lv_at hl 5 rfl) ?_
          refine va_alen hx hb hK.1.1 hP jr 0 hra rfl (v := nI (aE σ)) rfl dX0_told_101 ?_
          refine nc_ge (tgt := 200) hx hb dX0_told_102 (by decide) (by omega) (by omega) (fun c4 => ?_) (fun c4 => ?_)
          · have ei : i = aE σ := by omega
            subst ei
            refine lv_iload_n hx hb dX0_told_200 rfl (lv_at hl 6 rfl) ?_
            refine lv_if_ne (tgt := 208) hx hb dX0_told_201 (by decide) (fun c5 => ?_) (fun c5 => ?_)
            · refine lv_iload_n hx hb dX0_told_208 rfl (lv_at hl 6 rfl) ?_
              refine lv_iconst (v := 2) hx hb dX0_told_209 (by decide) ?_
              refine lv_icmp_ne (tgt := 218) hx hb dX0_told_210 (by decide) (fun c6 => ?_) (fun c6 => ?_)
              · refine lv_iload hx hb dX0_told_218 (lv_at hl 1 rfl) ?_
                exact rR_i hx hb hr hlk dX0_told_220 (by unfold pln; rw [if_pos c2, if_neg c5, if_neg c3, if_neg c6])
              · refine lv_iload hx hb dX0_told_213 (lv_at hl 2 rfl) ?_
                refine lv_goto (tgt := 220) hx hb dX0_told_215 (by decide) ?_
                exact rR_i hx hb hr hlk dX0_told_220 (by unfold pln; rw [if_pos c2, if_neg c5, if_neg c3, if_pos c6])
            · refine lv_iload_n hx hb dX0_told_204 rfl (lv_at hl 3 rfl) ?_
              refine lv_goto (tgt := 220) hx hb dX0_told_205 (by decide) ?_
              exact rR_i hx hb hr hlk dX0_told_220 (by unfold pln; rw [if_pos c2, if_pos c5])
          · obtain ⟨z, hz, ez⟩ := isT_ix hok (hT i c4)
            have ezx : ix (r i) = z := by rw [ez]; exact nI_clamp (by omega)
            have hpz := pG_lt hok (hT i c4)
            refine lv_aload_n hx hb dX0_told_105 rfl (lv_at hl 4 rfl) ?_
            refine xg2 hx hb hts hown hK hP dX0_told_106 ?_
            refine lv_iload hx hb dX0_told_109 (lv_at hl 0 rfl) ?_
            refine xr_get (rest := []) hx hb hml hown hts hK hP hm.eat hm.lst c4 ⟨Nat.le_of_ble_eq_true rfl, Nat.le_of_ble_eq_true rfl⟩ ⟨Nat.le_of_ble_eq_true rfl, Nat.le_of_ble_eq_true rfl⟩ hl.1 (Nat.le_of_ble_eq_true rfl) dX0_told_111 dX0_told_116 ?_
            refine lv_astore (lv' := [(7, .ref (F i)), (6, .int (nI i)), (5, .int (nI (setN P3 i))), (4, .int (nI (setN P2 i))), (3, .int (nI (S0 i))), (0, .ref (B 0)), (1, .ref ra), (2, .int w)]) hx hb dX0_told_119 hl (by decide) rfl (fun ls hl => ?_)
            refine lv_iload_n hx hb dX0_told_121 rfl (lv_at hl 4 rfl) ?_
            refine lv_aload hx hb dX0_told_122 (lv_at hl 0 rfl) ?_
            refine lv_aload_n hx hb dX0_told_124 rfl (lv_at hl 6 rfl) ?_
            refine lv_iload hx hb dX0_told_125 (lv_at hl 1 rfl) ?_
            refine va_iald hx hb hK.1.1 hP jr 0 hra rfl (vp_in_nI c4 (by omega)) dX0_told_127 ?_
            rw [nI_clamp (by omega)]
            refine top_i (y := nI z) ez ?_
            refine lv_aload_n hx hb dX0_told_128 rfl (lv_at hl 5 rfl) ?_
            refine callR_V (rest := [.int (nI z), .ref (F i), .int (nI (S0 i))]) hx hb hml hown hts KX_st hK (cX_fastsNow l D d B τ ea hs ρ (aD σ) hm.day hok.1) (wX0_fastsNow hts ⟨Nat.le_of_ble_eq_true rfl, Nat.le_of_ble_eq_true rfl⟩) (x_recv hK hu.1) hu.1 rfl hl.1 rfl (Nat.le_of_ble_eq_true rfl) dX0_told_129 ⟨Nat.le_of_ble_eq_true rfl, Nat.le_of_ble_eq_true rfl⟩ ?_
            refine top_i (y := nI (aF σ)) (by rw [hm.fast]) ?_
            refine xr_fine (rest := [.int (nI (S0 i))]) hx hb hml hown hts hK hP hm.eat c4 hm.day hok.1 hz ⟨Nat.le_of_ble_eq_true rfl, Nat.le_of_ble_eq_true rfl⟩ ⟨Nat.le_of_ble_eq_true rfl, Nat.le_of_ble_eq_true rfl⟩ hl.1 (Nat.le_of_ble_eq_true rfl) dX0_told_132 ?_
            refine lv_iadd hx hb dX0_told_135 ?_
            refine top_i (y := nI (S0 (i + 1))) (by rw [nI_add]; show nI _ = nI (sumN _ i + fin (aN σ) (aD σ) (aF σ) i (ix (r i))); rw [ezx]) ?_
            refine lv_istore_n (lv' := [(3, .int (nI (S0 (i + 1)))), (7, .ref (F i)), (6, .int (nI i)), (5, .int (nI (setN P3 i))), (4, .int (nI (setN P2 i))), (0, .ref (B 0)), (1, .ref ra), (2, .int w)]) hx hb dX0_told_136 rfl hl (by decide) rfl (fun ls hl => ?_)
            refine lv_iload hx hb dX0_told_137 (lv_at hl 4 rfl) ?_
            refine lv_aload hx hb dX0_told_139 (lv_at hl 1 rfl) ?_
            refine lv_aload_n hx hb dX0_told_141 rfl (lv_at hl 6 rfl) ?_
            refine lv_iload hx hb dX0_told_142 (lv_at hl 2 rfl) ?_
            refine va_iald hx hb hK.1.1 hP jr 0 hra rfl (vp_in_nI c4 (by omega)) dX0_told_144 ?_
            rw [nI_clamp (by omega)]
            refine top_i (y := nI z) ez ?_
            refine lv_aload_n hx hb dX0_told_145 rfl (lv_at hl 5 rfl) ?_
            refine callR_V (rest := [.int (nI z), .ref (F i), .int (nI (setN P2 i))]) hx hb hml hown hts KX_st hK (cX_fastsNow l D d B τ ea hs ρ (aD σ) hm.day hok.1) (wX0_fastsNow hts ⟨Nat.le_of_ble_eq_true rfl, Nat.le_of_ble_eq_true rfl⟩) (x_recv hK hu.1) hu.1 rfl hl.1 rfl (Nat.le_of_ble_eq_true rfl) dX0_told_146 ⟨Nat.le_of_ble_eq_true rfl, Nat.le_of_ble_eq_true rfl⟩ ?_
            refine top_i (y := nI (aF σ)) (by rw [hm.fast]) ?_
            refine xr_found (rest := [.int (nI (setN P2 i))]) hx hb hml hown hts hK hP hm.eat c4 hm.day hok.1 hz ⟨Nat.le_of_ble_eq_true rfl, Nat.le_of_ble_eq_true rfl⟩ ⟨Nat.le_of_ble_eq_true rfl, Nat.le_of_ble_eq_true rfl⟩ hl.1 (Nat.le_of_ble_eq_true rfl) dX0_told_149 ?_
            refine top_i (y := nI (pG σ r i)) (by unfold pG; rw [ezx]) ?_
            have h3 : ∀ (ls : Array Slot), lv_has ls 8 [(4, .int (nI (setN P2 (i + 1)))), (3, .int (nI (S0 (i + 1)))), (7, .ref (F i)), (6, .int (nI i)), (5, .int (nI (setN P3 i))), (0, .ref (B 0)), (1, .ref ra), (2, .int w)] → W p l e (rk 9) s m [.ref (B 0), .ref ra, .int w].toArray below meth c s.heap [] 0 0 (MQ below (qR (.int (pln σ r w))) [.ref (B 0), .ref ra, .int w].toArray s 0 0 (fun _ => False)) (F0 m 166 ls []) := by
              intro ls hl
              refine lv_iload hx hb dX0_told_166 (lv_at hl 4 rfl) ?_
              refine lv_aload_n hx hb dX0_told_168 rfl (lv_at hl 6 rfl) ?_
              refine lv_iload hx hb dX0_told_169 (lv_at hl 3 rfl) ?_
              refine va_iald hx hb hK.1.1 hP jr 0 hra rfl (vp_in_nI c4 (by omega)) dX0_told_171 ?_
              rw [nI_clamp (by omega)]
              refine top_i (y := nI z) ez ?_
              refine callR_S (rest := [.int (nI (setN P3 i))]) hx hb hml hown hts KX_st hK (cX_bits l D d (nI z)) (wX0_bits hts ⟨Nat.le_of_ble_eq_true rfl, Nat.le_of_ble_eq_true rfl⟩) trivial rfl hl.1 rfl (Nat.le_of_ble_eq_true rfl) dX0_told_172 ⟨Nat.le_of_ble_eq_true rfl, Nat.le_of_ble_eq_true rfl⟩ ?_
              refine top_i (y := nI (popc z)) (pBits_nI z (by omega)) ?_
              refine lv_aload hx hb dX0_told_175 (lv_at hl 2 rfl) ?_
              refine xr_need hx hb hown hts hK hP hm.eat c4 dX0_told_177 ?_
              have hnd : aN σ 3 i < 7 := (hok.2.2.2.2.1 i c4).2.2.2
              have hpc := popc_le z
              have h4 : ∀ (ls : Array Slot), lv_has ls 8 [(4, .int (nI (setN P2 (i + 1)))), (3, .int (nI (S0 (i + 1)))), (7, .ref (F i)), (6, .int (nI i)), (5, .int (nI (setN P3 i))), (0, .ref (B 0)), (1, .ref ra), (2, .int w)] → ∀ v : Int32, nI (setN P3 i) ||| v = nI (setN P3 (i + 1)) → W p l e (rk 9) s m [.ref (B 0), .ref ra, .int w].toArray below meth c s.heap [] 0 0 (MQ below (qR (.int (pln σ r w))) [.ref (B 0), .ref ra, .int w].toArray s 0 0 (fun _ => False)) (F0 m 191 ls [.int v, .int (nI (setN P3 i))]) := by
                intro ls hl v hvv
                refine lv_ior hx hb dX0_told_191 ?_
                refine top_i hvv ?_
                refine lv_istore (lv' := [(5, .int (nI (setN P3 (i + 1)))), (4, .int (nI (setN P2 (i + 1)))), (3, .int (nI (S0 (i + 1)))), (7, .ref (F i)), (6, .int (nI i)), (0, .ref (B 0)), (1, .ref ra), (2, .int w)]) hx hb dX0_told_192 hl (by decide) rfl (fun ls hl => ?_)
                refine lv_iinc (v := nI (i + 1)) (lv' := [(6, .int (nI (i + 1))), (5, .int (nI (setN P3 (i + 1)))), (4, .int (nI (setN P2 (i + 1)))), (3, .int (nI (S0 (i + 1)))), (7, .ref (F i)), (0, .ref (B 0)), (1, .ref ra), (2, .int w)]) hx hb dX0_told_194 hl (k := 4) rfl (inc_nI _) (by decide) rfl (fun ls hl => ?_)
                refine lv_goto (tgt := 98) hx hb dX0_told_197 (by decide) ?_
                refine ih (N - 1) (i + 1) ls (by omega) (by omega) ⟨hl.1, hl.2.1, fun q hq => hl.2.2 q ?_⟩
                simp only [List.mem_cons, List.not_mem_nil, or_false] at hq ⊢
                rcases hq with h | h | h | h | h | h | h <;> simp [h]
              have hun := hun_step (p := P3) (x := popc z) (y := aN σ 3 i) (a := i) (by omega) (by omega) (by omega) (by show decide (popc (ix (r i)) < aN σ 3 i) = _; rw [ezx])
              refine nc_ge (tgt := 190) hx hb dX0_told_180 (by decide) (by omega) (by omega) (fun c7 => ?_) (fun c7 => ?_)
              · refine lv_iconst (v := 0) hx hb dX0_told_190 (by decide) ?_
                refine h4 ls hl 0 ?_
                rw [if_pos ((nI_leI (by omega) (by omega)).mpr c7)] at hun
                exact hun
              · refine lv_iconst (v := 1) hx hb dX0_told_183 (by decide) ?_
                refine lv_iload hx hb dX0_told_184 (lv_at hl 3 rfl) ?_
                refine lv_ishl hx hb dX0_told_186 ?_
                refine lv_goto (tgt := 191) hx hb dX0_told_187 (by decide) ?_
                refine h4 ls hl _ ?_
                rw [if_neg (fun q => Nat.not_le.mpr c7 ((nI_leI (by omega) (by omega)).mp q))] at hun
                exact hun
            have hwho := who_step (p := P2) (z := pG σ r i) (a := i) hpz (by omega) rfl
            have h5 : ∀ (ls : Array Slot), lv_has ls 8 [(3, .int (nI (S0 (i + 1)))), (7, .ref (F i)), (6, .int (nI i)), (5, .int (nI (setN P3 i))), (4, .int (nI (setN P2 i))), (0, .ref (B 0)), (1, .ref ra), (2, .int w)] → ∀ v : Int32, nI (setN P2 i) ||| v = nI (setN P2 (i + 1)) → W p l e (rk 9) s m [.ref (B 0), .ref ra, .int w].toArray below meth c s.heap [] 0 0 (MQ below (qR (.int (pln σ r w))) [.ref (B 0), .ref ra, .int w].toArray s 0 0 (fun _ => False)) (F0 m 163 ls [.int v, .int (nI (setN P2 i))]) := by
              intro ls hl v hvv
              refine lv_ior hx hb dX0_told_163 ?_
              refine top_i hvv ?_
              refine lv_istore (lv' := [(4, .int (nI (setN P2 (i + 1)))), (3, .int (nI (S0 (i + 1)))), (7, .ref (F i)), (6, .int (nI i)), (5, .int (nI (setN P3 i))), (0, .ref (B 0)), (1, .ref ra), (2, .int w)]) hx hb dX0_told_164 hl (by decide) rfl (fun ls hl => ?_)
              exact h3 ls hl
            refine lv_if_eq (tgt := 162) hx hb dX0_told_152 (by decide) (fun c7 => ?_) (fun c7 => ?_)
            · refine lv_iconst (v := 0) hx hb dX0_told_162 (by decide) ?_
              refine h5 ls hl 0 ?_
              rw [if_pos (by rw [c7]; decide)] at hwho
              exact hwho
            · refine lv_iconst (v := 1) hx hb dX0_told_155 (by decide) ?_
              refine lv_iload hx hb dX0_told_156 (lv_at hl 2 rfl) ?_
              refine lv_ishl hx hb dX0_told_158 ?_
              refine lv_goto (tgt := 163) hx hb dX0_told_159 (by decide) ?_
              refine h5 ls hl _ ?_
              have hne : ¬ nI (pG σ r i) ≤ 0 := fun q => c7 (congrArg nI (Nat.le_zero.mp ((nI_leI (b := 0) (by omega) (by decide)).mp q)))
              rw [if_neg hne] at hwho
              exact hwho
        · refine lv_aload_n hx hb dX0_told_81 rfl (lv_at hl 1 rfl) ?_
          refine lv_aload_n hx hb dX0_told_82 rfl (lv_at hl 2 rfl) ?_
          refine callR_V (rest := []) hx hb hml hown hts KX_st hK (cX_firstFound l D d B τ ea hs ρ e0 F σ ra jr r hm hra hT) (wX0_firstFound hts ⟨Nat.le_of_ble_eq_true rfl, Nat.le_of_ble_eq_true rfl⟩) (x_recv hK hu.1) hu.1 rfl hl.1 rfl (Nat.le_of_ble_eq_true rfl) dX0_told_83 ⟨Nat.le_of_ble_eq_true rfl, Nat.le_of_ble_eq_true rfl⟩ ?_
          exact rR_i hx hb hr hlk dX0_told_86 (by unfold pln; rw [if_pos c2, if_neg (by rw [c3]; decide), if_pos c3])
      · obtain ⟨jd, hjd, ejd⟩ := okW_hi hw c2
        refine lv_aload_n hx hb dX0_told_50 rfl (lv_at hl 1 rfl) ?_
        refine lv_iload_n hx hb dX0_told_51 rfl (lv_at hl 3 rfl) ?_
        refine lv_bipush (v := 10) hx hb dX0_told_52 (by decide) ?_
        refine lv_isub hx hb dX0_told_54 ?_
        refine callR_V (rest := []) hx hb hml hown hts KX_st hK (cX_isDay l D d B τ ea hs ρ (w - 10)) (wX0_isDay hts ⟨Nat.le_of_ble_eq_true rfl, Nat.le_of_ble_eq_true rfl⟩) (x_recv hK hu.1) hu.1 rfl hl.1 rfl (Nat.le_of_ble_eq_true rfl) dX0_told_55 ⟨Nat.le_of_ble_eq_true rfl, Nat.le_of_ble_eq_true rfl⟩ ?_
        refine top_i (hm.isD (w - 10)) ?_
        refine bz_eq (tgt := 73) hx hb dX0_told_58 (by decide) (fun c5 => ?_) (fun c5 => ?_)
        · refine lv_bipush (v := -9) hx hb dX0_told_73 (by decide) ?_
          exact rR_i hx hb hr hlk dX0_told_75 (by unfold pln; rw [if_neg c2, if_pos c5])
        · refine lv_aload_n hx hb dX0_told_61 rfl (lv_at hl 1 rfl) ?_
          refine lv_aload_n hx hb dX0_told_62 rfl (lv_at hl 2 rfl) ?_
          refine lv_iload_n hx hb dX0_told_63 rfl (lv_at hl 3 rfl) ?_
          refine lv_bipush (v := 10) hx hb dX0_told_64 (by decide) ?_
          refine lv_isub hx hb dX0_told_66 ?_
          refine top_i ejd ?_
          refine callR_V (rest := []) hx hb hml hown hts KX_st hK (cX_foundOn l D d B τ ea hs ρ e0 F σ ra jr jd r hm hra hT (by omega)) (wX0_foundOn hts ⟨Nat.le_of_ble_eq_true rfl, Nat.le_of_ble_eq_true rfl⟩) (x_recv hK hu.1) hu.1 rfl hl.1 rfl (Nat.le_of_ble_eq_true rfl) dX0_told_67 ⟨Nat.le_of_ble_eq_true rfl, Nat.le_of_ble_eq_true rfl⟩ ?_
          refine lv_goto (tgt := 75) hx hb dX0_told_70 (by decide) ?_
          exact rR_i hx hb hr hlk dX0_told_75 (by unfold pln; rw [if_neg c2, if_neg (bt_nf c5), ejd, show ix (nI jd) = jd from nI_clamp (by omega)])
    refine lv_iconst (v := nI 0) hx hb dX0_told_17 (by decide) ?_
    refine lv_istore_n (lv' := [(3, .int (nI 0)), (0, .ref (B 0)), (1, .ref ra), (2, .int w)]) hx hb dX0_told_18 rfl hl (by decide) rfl (fun ls hl => ?_)
    refine lp_R (σ := Nat) (fun N i => i + N = aE σ ∧ allT σ r i = true) (fun i => [(3, .int (nI i)), (0, .ref (B 0)), (1, .ref ra), (2, .int w)]) (fun N i hI ih ls hl => ?_) (aE σ) 0 ⟨by omega, rfl⟩ hl
    obtain ⟨hI, hall⟩ := hI
    have hl : lv_has ls 8 [(3, .int (nI i)), (0, .ref (B 0)), (1, .ref ra), (2, .int w)] := hl
    refine lv_iload_n hx hb dX0_told_19 rfl (lv_at hl 0 rfl) ?_
    refine lv_aload_n hx hb dX0_told_20 rfl (lv_at hl 2 rfl) ?_
    refine va_alen hx hb hK.1.1 hP jr 0 hra rfl (v := nI (aE σ)) rfl dX0_told_21 ?_
    refine nc_ge (tgt := 44) hx hb dX0_told_22 (by decide) (by omega) (by omega) (fun c2 => ?_) (fun c2 => ?_)
    · have ei : i = aE σ := by omega
      subst ei
      exact hdone hall ls hl
    · refine lv_aload_n hx hb dX0_told_25 rfl (lv_at hl 1 rfl) ?_
      refine lv_aload_n hx hb dX0_told_26 rfl (lv_at hl 2 rfl) ?_
      refine lv_iload_n hx hb dX0_told_27 rfl (lv_at hl 0 rfl) ?_
      refine va_iald hx hb hK.1.1 hP jr 0 hra rfl (vp_in_nI c2 (by omega)) dX0_told_28 ?_
      rw [nI_clamp (by omega)]
      refine callR_V (rest := []) hx hb hml hown hts KX_st hK (cX_isSet l D d B τ ea hs ρ (r i)) (wX0_isSet hts ⟨Nat.le_of_ble_eq_true rfl, Nat.le_of_ble_eq_true rfl⟩) (x_recv hK hu.1) hu.1 rfl hl.1 rfl (Nat.le_of_ble_eq_true rfl) dX0_told_29 ⟨Nat.le_of_ble_eq_true rfl, Nat.le_of_ble_eq_true rfl⟩ ?_
      refine top_i (hm.isT (r i)) ?_
      refine bz_ne (tgt := 38) hx hb dX0_told_32 (by decide) (fun c3 => ?_) (fun c3 => ?_)
      · refine lv_iinc (v := nI (i + 1)) (lv' := [(3, .int (nI (i + 1))), (0, .ref (B 0)), (1, .ref ra), (2, .int w)]) hx hb dX0_told_38 hl (k := 0) rfl (inc_nI _) (by decide) rfl (fun ls hl => ?_)
        refine lv_goto (tgt := 19) hx hb dX0_told_41 (by decide) ?_
        exact ih (N - 1) (i + 1) ls (by omega) ⟨by omega, by show (allT σ r i && isT σ (r i)) = true; rw [hall, c3]; rfl⟩ hl
      · refine lv_bipush (v := -2) hx hb dX0_told_35 (by decide) ?_
        exact rR_i hx hb hr hlk dX0_told_37 (by rw [if_neg (fun q => q rfl), if_pos (allT_no c3 c2)])
  · refine lv_bipush (v := -2) hx hb dX0_told_14 (by decide) ?_
    exact rR_i hx hb hr hlk dX0_told_16 (by rw [if_pos c1])
