/-! put, cell -/
theorem i8_i8 (v : Int8) : v.toInt32.toInt8 = v := by simp
theorem i16_i16 (v : Int16) : v.toInt32.toInt16 = v := by simp
theorem nar_b (v : Int32) : vp_nar .byte v.toInt8.toInt32 = nrw 0 v := by
  show v.toInt8.toInt32.toInt8.toInt32 = v.toInt8.toInt32
  rw [i8_i8]
theorem nar_s (v : Int32) : vp_nar .short v.toInt16.toInt32 = nrw 1 v := by
  show v.toInt16.toInt32.toInt16.toInt32 = v.toInt16.toInt32
  rw [i16_i16]

set_option maxHeartbeats 4000000 in
set_option maxRecDepth 100000 in
theorem cX_put (l : Launch) (D : va_G) (d : Nat → ClassId) (H00 : Heap) (B : Nat → Nat) (τ : Nat → Nat → Int32) (ea : Nat) (hs : Nat → Option Nat) (ρ : va_W) (e0 : Nat) (F : Nat → Nat) (σ : ASt) (k i v : Int32) (htr : ∀ e, l.admits e → e.platform.stackTraces = false) (hm : xRep d B e0 σ τ ea hs ρ F) : cX l (KE D d e0 H00) H00 D yX0_put cX0_put 7 (some .int) [(14, 100, 101, 182), (14, 100, 109, 186)] (rx 2 3 1000) [.ref (B 0), .int k, .int i, .int v] (xw d B τ ea hs ρ) (xPost d B e0 (some (.int (f_put σ k i v).1)) (f_put σ k i v).2) (fun _ => False) := by
  intro p e s m below meth c A hx had hb hml htb hown hts hr hlk hK hA hAN hZ hnS hu ls hl
  have hv : XV D d e0 H00 A e s [.ref (B 0), .int k, .int i, .int v].toArray := ⟨htr e had, hts, hK, hZ, hnS, hA⟩
  have hl : lv_has ls 7 [(0, .ref (B 0)), (1, .int k), (2, .int i), (3, .int v)] := hl
  have hm0 := xRep_fault hm 0
  refine lv_aload_n hx hb dX0_put_0 rfl (lv_at hl 0 rfl) ?_
  refine lv_iconst (v := 0) hx hb dX0_put_1 (by decide) ?_
  refine xp0 hx hb hts hown hK.1 hu dX0_put_2 (fun H locs hu => ?_)
  refine lv_iload_n hx hb dX0_put_5 rfl (lv_at hl 1 rfl) ?_
  refine callR_S (rest := []) hx hb hml hown hts KX_st hK.1 (cX_isSheet l D d k) (wX0_isSheet hts ⟨Nat.le_of_ble_eq_true rfl, Nat.le_of_ble_eq_true rfl⟩) trivial rfl hl.1 rfl (Nat.le_of_ble_eq_true rfl) dX0_put_6 ⟨Nat.le_of_ble_eq_true rfl, Nat.le_of_ble_eq_true rfl⟩ ?_
  refine bz_ne (tgt := 14) hx hb dX0_put_9 (by decide) (fun c1 => ?_) (fun c1 => ?_)
  · obtain ⟨j, hj, ej⟩ := sh_ix c1
    subst ej
    have ejx : ix (nI j) = j := nI_clamp (by omega)
    have hN : aS σ j = none → ∀ (pc : Nat), 14 ≤ pc → pc < 100 → ∀ (ls : Array Slot) (w6 : Value) (rest : List Value), lv_has ls 7 [(6, w6), (0, .ref (B 0)), (1, .int (nI j)), (2, .int i), (3, .int v)] → kT p l e (rx 2 3 1000) s m [.ref (B 0), .int (nI j), .int i, .int v].toArray below meth c (0 + 3) (0 + 1000) (MQX below (qX D A (xw d B τ ea hs ρ) (xPost d B e0 (some (.int (f_put σ (nI j) i v).1)) (f_put σ (nI j) i v).2) (fun _ => False)) s 3 1000 A) D A (xw d B (put2 τ 0 0 0) ea hs ρ) nmN (F0 m pc ls rest) := by
      intro h1 pc hp1 hp2 ls w6 rest hl
      refine kT_take hown htb [nmN, nmA] (by intro q hq; simp only [List.mem_cons, List.not_mem_nil, or_false] at hq; rcases hq with hq | hq <;> subst hq <;> exact ⟨hp1, hp2, by decide⟩) (lk_cons (hts _ q280) (lk_cons (hts _ q319) lk_nil)) 0 rfl rfl no_nil (hK.cw 5 rfl) (fun H locs a hu => ?_)
      refine lv_astore (lv' := [(4, .ref a), (6, w6), (0, .ref (B 0)), (1, .int (nI j)), (2, .int i), (3, .int v)]) hx hb dX0_put_101 hl (by decide) rfl (fun ls hl => ?_)
      refine lv_aload_n hx hb dX0_put_103 rfl (lv_at hl 2 rfl) ?_
      refine lv_iconst (v := 1) hx hb dX0_put_104 (by decide) ?_
      refine callU_V (rest := []) hx hb hml hown hts KX_st hK.1 hA hAN hZ (cX_faulty l D d H00 B (put2 τ 0 0 0) ea hs ρ 1) (wX0_faulty hts ⟨Nat.le_of_ble_eq_true rfl, Nat.le_of_ble_eq_true rfl⟩) (x_recv hK.1 hu.1) hu rfl hl.1 rfl (Nat.le_of_ble_eq_true rfl) dX0_put_105 ⟨Nat.le_of_ble_eq_true rfl, Nat.le_of_ble_eq_true rfl⟩ (fun r ws H locs hpo hu => ?_)
      obtain ⟨rfl, rfl⟩ := hpo
      refine rX_i hx hb hr hlk hu dX0_put_108 (Nat.le_of_ble_eq_true rfl) (Nat.le_of_ble_eq_true rfl) ?_
      unfold f_put
      rw [if_neg (bt_nf c1), ejx, h1]
      exact ⟨rfl, _, _, _, _, F, rfl, xRep_f2 hm 0 1⟩
    have hO : ∀ (z : Nat × Nat × (Nat → Int32)), aS σ j = some z → isC z i = false → ∀ (pc : Nat), 14 ≤ pc → pc < 100 → ∀ (ls : Array Slot) (lv : List (Nat × Value)) (rest : List Value), lv_has ls 7 ((6, .ref 0) :: lv) ∨ True → lv_has ls 7 lv → (0, .ref (B 0)) ∈ lv → kT p l e (rx 2 3 1000) s m [.ref (B 0), .int (nI j), .int i, .int v].toArray below meth c (0 + 3) (0 + 1000) (MQX below (qX D A (xw d B τ ea hs ρ) (xPost d B e0 (some (.int (f_put σ (nI j) i v).1)) (f_put σ (nI j) i v).2) (fun _ => False)) s 3 1000 A) D A (xw d B (put2 τ 0 0 0) ea hs ρ) nmA (F0 m pc ls rest) := by
      intro z h1 hc pc hp1 hp2 ls lv rest _ hl h0
      have hl : lv_has ls 7 [(0, .ref (B 0))] := ⟨hl.1, hl.2.1, fun q hq => by rw [List.mem_singleton] at hq; subst hq; exact hl.2.2 _ h0⟩
      refine kT_take hown htb [nmN, nmA] (by intro q hq; simp only [List.mem_cons, List.not_mem_nil, or_false] at hq; rcases hq with hq | hq <;> subst hq <;> exact ⟨hp1, hp2, by decide⟩) (lk_cons (hts _ q280) (lk_cons (hts _ q319) lk_nil)) 1 rfl rfl (no_cons (hK.n 4 rfl) no_nil) (hK.cw 0 rfl) (fun H locs a hu => ?_)
      refine lv_astore (lv' := [(4, .ref a), (0, .ref (B 0))]) hx hb dX0_put_109 hl (by decide) rfl (fun ls hl => ?_)
      refine lv_aload_n hx hb dX0_put_111 rfl (lv_at hl 1 rfl) ?_
      refine lv_iconst (v := 3) hx hb dX0_put_112 (by decide) ?_
      refine callU_V (rest := []) hx hb hml hown hts KX_st hK.1 hA hAN hZ (cX_faulty l D d H00 B (put2 τ 0 0 0) ea hs ρ 3) (wX0_faulty hts ⟨Nat.le_of_ble_eq_true rfl, Nat.le_of_ble_eq_true rfl⟩) (x_recv hK.1 hu.1) hu rfl hl.1 rfl (Nat.le_of_ble_eq_true rfl) dX0_put_113 ⟨Nat.le_of_ble_eq_true rfl, Nat.le_of_ble_eq_true rfl⟩ (fun r ws H locs hpo hu => ?_)
      obtain ⟨rfl, rfl⟩ := hpo
      refine rX_i hx hb hr hlk hu dX0_put_116 (Nat.le_of_ble_eq_true rfl) (Nat.le_of_ble_eq_true rfl) ?_
      unfold f_put
      rw [if_neg (bt_nf c1), ejx, h1]
      simp only [hc, if_true]
      exact ⟨rfl, _, _, _, _, F, rfl, xRep_f2 hm 0 3⟩
    rcases xSh_at hm.sh hj with ⟨h1, h2⟩ | ⟨z, fa, jj, f, h1, h2, h3, h4⟩
    · refine lv_aload_n hx hb dX0_put_14 rfl (lv_at hl 0 rfl) ?_
      refine xg19 hx hb hts hown hK.1 hu.1 dX0_put_15 ?_
      refine lv_iload_n hx hb dX0_put_18 rfl (lv_at hl 1 rfl) ?_
      refine xh_ald hx hb hK.1 hu.1 hj dX0_put_19 ?_
      refine xh_get hx hb hts hown hK.1 hu.1 hj (v := .null) (by rw [h2]; rfl) dX0_put_20 ?_
      refine lv_astoreN (lv' := [(6, .null), (0, .ref (B 0)), (1, .int (nI j)), (2, .int i), (3, .int v)]) hx hb dX0_put_23 hl (by decide) rfl (fun ls hl => ?_)
      refine lv_aloadN hx hb dX0_put_25 (lv_at hl 0 rfl) ?_
      refine lv_instN hx hb dX0_put_27 ?_
      refine lv_if_eq (tgt := 49) hx hb dX0_put_30 (by decide) (fun _ => ?_) (fun c0 => absurd rfl c0)
      refine lv_aload_n hx hb dX0_put_49 rfl (lv_at hl 1 rfl) ?_
      refine xg19 hx hb hts hown hK.1 hu.1 dX0_put_50 ?_
      refine lv_iload_n hx hb dX0_put_53 rfl (lv_at hl 2 rfl) ?_
      refine xh_ald hx hb hK.1 hu.1 hj dX0_put_54 ?_
      refine xh_get hx hb hts hown hK.1 hu.1 hj (v := .null) (by rw [h2]; rfl) dX0_put_55 ?_
      refine lv_astoreN (lv' := [(6, .null), (0, .ref (B 0)), (1, .int (nI j)), (2, .int i), (3, .int v)]) hx hb dX0_put_58 hl (by decide) rfl (fun ls hl => ?_)
      refine lv_aloadN hx hb dX0_put_60 (lv_at hl 0 rfl) ?_
      refine lv_instN hx hb dX0_put_62 ?_
      refine lv_if_eq (tgt := 84) hx hb dX0_put_65 (by decide) (fun _ => ?_) (fun c0 => absurd rfl c0)
      refine lv_aload_n hx hb dX0_put_84 rfl (lv_at hl 1 rfl) ?_
      refine xg19 hx hb hts hown hK.1 hu.1 dX0_put_85 ?_
      refine lv_iload_n hx hb dX0_put_88 rfl (lv_at hl 2 rfl) ?_
      refine xh_ald hx hb hK.1 hu.1 hj dX0_put_89 ?_
      refine xh_get hx hb hts hown hK.1 hu.1 hj (v := .null) (by rw [h2]; rfl) dX0_put_90 ?_
      refine lv_castN hx hb dX0_put_93 ?_
      refine lv_iload_n hx hb dX0_put_96 rfl (lv_at hl 3 rfl) ?_
      refine lv_iload_n hx hb dX0_put_97 rfl (lv_at hl 4 rfl) ?_
      exact tN_iastore hx hb hv hml hl hu ⟨Nat.le_of_ble_eq_true rfl, Nat.le_of_ble_eq_true rfl, Nat.le_of_ble_eq_true rfl, Nat.le_of_ble_eq_true rfl⟩ dX0_put_98 (hN h1 98 (by decide) (by decide) ls _ _ hl)
    · have hz := hm.ok.2.2.2.2.2.2 j z h1
      obtain ⟨la, n, g0⟩ := z
      have hla : la < 3 := hz.1
      have hn60 : n ≤ 60 := hz.2
      have h4 : ∀ t, t < n → f t = g0 t := h4
      have huq : ∀ (x y : Nat) (e1 e2 : Nat × va_E), ρ[x]? = some e1 → ρ[y]? = some e2 → e1.1 = e2.1 → x = y := fun x y e1 e2 hx1 hy1 he => by
        have := hu.2.1.1 (x + 14) (y + 14) e1 e2 hx1 hy1 he
        omega
      have hend : ∀ (w : Int32) (H : Heap) (locs : List Loc) (ls : Array Slot), (∃ t, t < n ∧ i = nI t) → w = nrw la v → uW D A s.heap H locs (xw d B (put2 τ 0 0 0) ea hs (ρ.set jj (fa, .inl (lnC d la, n, .inl (upd f i.toNatClampNeg w))))) → W p l e (rx 2 3 1000) s m [.ref (B 0), .int (nI j), .int i, .int v].toArray below meth c H locs 0 0 (MQX below (qX D A (xw d B τ ea hs ρ) (xPost d B e0 (some (.int (f_put σ (nI j) i v).1)) (f_put σ (nI j) i v).2) (fun _ => False)) s 3 1000 A) (F0 m 99 ls []) := by
        intro w H locs ls ⟨t, ht, hi⟩ hw hu
        subst hi
        have hc : isC (la, n, g0) (nI t) = true := pIn_nI ht (by omega)
        rw [nI_clamp (by omega)] at hu
        refine lv_iconst (v := 1) hx hb dX0_put_99 (by decide) ?_
        refine rX_i hx hb hr hlk hu dX0_put_100 (Nat.le_of_ble_eq_true rfl) (Nat.le_of_ble_eq_true rfl) ?_
        unfold f_put
        rw [if_neg (bt_nf c1), ejx, h1]
        simp only [hc, Bool.true_eq_false, if_false]
        rw [show ix (nI t) = t from nI_clamp (by omega)]
        refine ⟨rfl, _, _, _, _, F, rfl, xRep_fault (xRep_sh hm j (fun y hy => by injection hy with hy; rw [← hy]; exact ⟨hla, hn60⟩) (set_ob h3) (xSh_upd (v := (la, n, g0)) hm.sh hj h2 h3 huq (fun q hq => ?_))) 0⟩
        rw [hw]
        unfold upd
        split
        · rfl
        · exact h4 q hq
      refine lv_aload_n hx hb dX0_put_14 rfl (lv_at hl 0 rfl) ?_
      refine xg19 hx hb hts hown hK.1 hu.1 dX0_put_15 ?_
      refine lv_iload_n hx hb dX0_put_18 rfl (lv_at hl 1 rfl) ?_
      refine xh_ald hx hb hK.1 hu.1 hj dX0_put_19 ?_
      refine xh_get hx hb hts hown hK.1 hu.1 hj (v := .ref fa) (by rw [h2]; rfl) dX0_put_20 ?_
      refine lv_astore (lv' := [(6, .ref fa), (0, .ref (B 0)), (1, .int (nI j)), (2, .int i), (3, .int v)]) hx hb dX0_put_23 hl (by decide) rfl (fun ls hl => ?_)
      refine lv_aload hx hb dX0_put_25 (lv_at hl 0 rfl) ?_
      rcases k3 hla with h | h | h
      · subst h
        have h3 : ρ[jj]? = some (fa, .inl (d 2, n, .inl f)) := h3
        have h3x : (xw d B (put2 τ 0 0 0) ea hs ρ)[jj + 14]? = some (fa, .inl (d 2, n, .inl f)) := h3
        refine va_instE hx hb hown (hts _ q352) (s_recv2 hK.1 hu.1 h3x) dX0_put_27 ?_
        refine lv_if_eq (tgt := 49) hx hb dX0_put_30 (by decide) (fun c0 => absurd c0 (by decide)) (fun _ => ?_)
        refine lv_aload hx hb dX0_put_33 (lv_at hl 0 rfl) ?_
        refine va_castE hx hb hown (hts _ q352) (s_recv2 hK.1 hu.1 h3x) dX0_put_35 ?_
        refine lv_astore (lv' := [(4, .ref fa), (6, .ref fa), (0, .ref (B 0)), (1, .int (nI j)), (2, .int i), (3, .int v)]) hx hb dX0_put_38 hl (by decide) rfl (fun ls hl => ?_)
        refine lv_aload hx hb dX0_put_40 (lv_at hl 0 rfl) ?_
        refine lv_iload_n hx hb dX0_put_42 rfl (lv_at hl 4 rfl) ?_
        refine lv_iload_n hx hb dX0_put_43 rfl (lv_at hl 5 rfl) ?_
        refine lv_i2b (v := v.toInt8.toInt32) hx hb dX0_put_44 rfl ?_
        by_cases hin : vp_in i n
        · have hti : ∃ t, t < n ∧ i = nI t := by
            obtain ⟨t, _, ht⟩ := nI_of (x := i) (fun q => hin (Or.inl q))
            refine ⟨t, ?_, ht⟩
            rw [ht] at hin
            have h9 : ¬ n ≤ (nI t).toNatClampNeg := fun q => hin (Or.inr q)
            rw [nI_clamp (by omega)] at h9
            omega
          refine va_bast hx hb hK.1.1.1 hu.1 hu.2.1 hu.2.2 (jj + 14) 2 h3x rfl hin dX0_put_45 (fun H locs g1 g2 g3 => ?_)
          refine lv_goto (tgt := 99) hx hb dX0_put_46 (by decide) ?_
          exact hend _ H locs ls hti (nar_b v) ⟨g1, g2, g3⟩
        · have hc : isC (0, n, g0) i = false := by
            cases hq : isC (0, n, g0) i with
            | false => rfl
            | true =>
              obtain ⟨t, ht, hi⟩ := pIn_ix (n := n) (by omega) hq
              rw [hi] at hin
              exact absurd (vp_in_nI ht (by omega)) hin
          exact tA_bastore hx hb hv hml hl hu ⟨Nat.le_of_ble_eq_true rfl, Nat.le_of_ble_eq_true rfl, Nat.le_of_ble_eq_true rfl, Nat.le_of_ble_eq_true rfl⟩ hK.1.1.1 (jj + 14) h3x (by omega) hin dX0_put_45 (hO _ h1 hc 45 (by decide) (by decide) ls _ _ (Or.inr trivial) hl (by simp))
      · subst h
        have h3 : ρ[jj]? = some (fa, .inl (d 3, n, .inl f)) := h3
        have h3x : (xw d B (put2 τ 0 0 0) ea hs ρ)[jj + 14]? = some (fa, .inl (d 3, n, .inl f)) := h3
        refine va_instNo hx hb hown (hts _ q352) (hK.1.n 4 rfl) (s_recv3 hK.1 hu.1 h3x) dX0_put_27 ?_
        refine lv_if_eq (tgt := 49) hx hb dX0_put_30 (by decide) (fun _ => ?_) (fun c0 => absurd rfl c0)
        refine lv_aload_n hx hb dX0_put_49 rfl (lv_at hl 1 rfl) ?_
        refine xg19 hx hb hts hown hK.1 hu.1 dX0_put_50 ?_
        refine lv_iload_n hx hb dX0_put_53 rfl (lv_at hl 2 rfl) ?_
        refine xh_ald hx hb hK.1 hu.1 hj dX0_put_54 ?_
        refine xh_get hx hb hts hown hK.1 hu.1 hj (v := .ref fa) (by rw [h2]; rfl) dX0_put_55 ?_
        refine lv_astore (lv' := [(6, .ref fa), (0, .ref (B 0)), (1, .int (nI j)), (2, .int i), (3, .int v)]) hx hb dX0_put_58 hl (by decide) rfl (fun ls hl => ?_)
        refine lv_aload hx hb dX0_put_60 (lv_at hl 0 rfl) ?_
        refine va_instE hx hb hown (hts _ q353) (s_recv3 hK.1 hu.1 h3x) dX0_put_62 ?_
        refine lv_if_eq (tgt := 84) hx hb dX0_put_65 (by decide) (fun c0 => absurd c0 (by decide)) (fun _ => ?_)
        refine lv_aload hx hb dX0_put_68 (lv_at hl 0 rfl) ?_
        refine va_castE hx hb hown (hts _ q353) (s_recv3 hK.1 hu.1 h3x) dX0_put_70 ?_
        refine lv_astore (lv' := [(5, .ref fa), (6, .ref fa), (0, .ref (B 0)), (1, .int (nI j)), (2, .int i), (3, .int v)]) hx hb dX0_put_73 hl (by decide) rfl (fun ls hl => ?_)
        refine lv_aload hx hb dX0_put_75 (lv_at hl 0 rfl) ?_
        refine lv_iload_n hx hb dX0_put_77 rfl (lv_at hl 4 rfl) ?_
        refine lv_iload_n hx hb dX0_put_78 rfl (lv_at hl 5 rfl) ?_
        refine lv_i2s (v := v.toInt16.toInt32) hx hb dX0_put_79 rfl ?_
        by_cases hin : vp_in i n
        · have hti : ∃ t, t < n ∧ i = nI t := by
            obtain ⟨t, _, ht⟩ := nI_of (x := i) (fun q => hin (Or.inl q))
            refine ⟨t, ?_, ht⟩
            rw [ht] at hin
            have h9 : ¬ n ≤ (nI t).toNatClampNeg := fun q => hin (Or.inr q)
            rw [nI_clamp (by omega)] at h9
            omega
          refine va_sast hx hb hK.1.1.1 hu.1 hu.2.1 hu.2.2 (jj + 14) 3 h3x rfl hin dX0_put_80 (fun H locs g1 g2 g3 => ?_)
          refine lv_goto (tgt := 99) hx hb dX0_put_81 (by decide) ?_
          exact hend _ H locs ls hti (nar_s v) ⟨g1, g2, g3⟩
        · have hc : isC (1, n, g0) i = false := by
            cases hq : isC (1, n, g0) i with
            | false => rfl
            | true =>
              obtain ⟨t, ht, hi⟩ := pIn_ix (n := n) (by omega) hq
              rw [hi] at hin
              exact absurd (vp_in_nI ht (by omega)) hin
          exact tA_sastore hx hb hv hml hl hu ⟨Nat.le_of_ble_eq_true rfl, Nat.le_of_ble_eq_true rfl, Nat.le_of_ble_eq_true rfl, Nat.le_of_ble_eq_true rfl⟩ hK.1.1.1 (jj + 14) h3x (by omega) hin dX0_put_80 (hO _ h1 hc 80 (by decide) (by decide) ls _ _ (Or.inr trivial) hl (by simp))
      · subst h
        have h3 : ρ[jj]? = some (fa, .inl (d 0, n, .inl f)) := h3
        have h3x : (xw d B (put2 τ 0 0 0) ea hs ρ)[jj + 14]? = some (fa, .inl (d 0, n, .inl f)) := h3
        refine va_instNo hx hb hown (hts _ q352) (hK.1.n 3 rfl) (s_recv0 hK.1 hu.1 h3x) dX0_put_27 ?_
        refine lv_if_eq (tgt := 49) hx hb dX0_put_30 (by decide) (fun _ => ?_) (fun c0 => absurd rfl c0)
        refine lv_aload_n hx hb dX0_put_49 rfl (lv_at hl 1 rfl) ?_
        refine xg19 hx hb hts hown hK.1 hu.1 dX0_put_50 ?_
        refine lv_iload_n hx hb dX0_put_53 rfl (lv_at hl 2 rfl) ?_
        refine xh_ald hx hb hK.1 hu.1 hj dX0_put_54 ?_
        refine xh_get hx hb hts hown hK.1 hu.1 hj (v := .ref fa) (by rw [h2]; rfl) dX0_put_55 ?_
        refine lv_astore (lv' := [(6, .ref fa), (0, .ref (B 0)), (1, .int (nI j)), (2, .int i), (3, .int v)]) hx hb dX0_put_58 hl (by decide) rfl (fun ls hl => ?_)
        refine lv_aload hx hb dX0_put_60 (lv_at hl 0 rfl) ?_
        refine va_instNo hx hb hown (hts _ q353) (hK.1.n 5 rfl) (s_recv0 hK.1 hu.1 h3x) dX0_put_62 ?_
        refine lv_if_eq (tgt := 84) hx hb dX0_put_65 (by decide) (fun _ => ?_) (fun c0 => absurd rfl c0)
        refine lv_aload_n hx hb dX0_put_84 rfl (lv_at hl 1 rfl) ?_
        refine xg19 hx hb hts hown hK.1 hu.1 dX0_put_85 ?_
        refine lv_iload_n hx hb dX0_put_88 rfl (lv_at hl 2 rfl) ?_
        refine xh_ald hx hb hK.1 hu.1 hj dX0_put_89 ?_
        refine xh_get hx hb hts hown hK.1 hu.1 hj (v := .ref fa) (by rw [h2]; rfl) dX0_put_90 ?_
        refine va_castE hx hb hown (hts _ q354) (s_recv0 hK.1 hu.1 h3x) dX0_put_93 ?_
        refine lv_iload_n hx hb dX0_put_96 rfl (lv_at hl 3 rfl) ?_
        refine lv_iload_n hx hb dX0_put_97 rfl (lv_at hl 4 rfl) ?_
        by_cases hin : vp_in i n
        · have hti : ∃ t, t < n ∧ i = nI t := by
            obtain ⟨t, _, ht⟩ := nI_of (x := i) (fun q => hin (Or.inl q))
            refine ⟨t, ?_, ht⟩
            rw [ht] at hin
            have h9 : ¬ n ≤ (nI t).toNatClampNeg := fun q => hin (Or.inr q)
            rw [nI_clamp (by omega)] at h9
            omega
          refine va_iast hx hb hK.1.1.1 hu.1 hu.2.1 hu.2.2 (jj + 14) 0 h3x rfl hin dX0_put_98 (fun H locs g1 g2 g3 => ?_)
          exact hend _ H locs ls hti rfl ⟨g1, g2, g3⟩
        · have hc : isC (2, n, g0) i = false := by
            cases hq : isC (2, n, g0) i with
            | false => rfl
            | true =>
              obtain ⟨t, ht, hi⟩ := pIn_ix (n := n) (by omega) hq
              rw [hi] at hin
              exact absurd (vp_in_nI ht (by omega)) hin
          exact tA_iastore hx hb hv hml hl hu ⟨Nat.le_of_ble_eq_true rfl, Nat.le_of_ble_eq_true rfl, Nat.le_of_ble_eq_true rfl, Nat.le_of_ble_eq_true rfl⟩ hK.1.1.1 (jj + 14) h3x (by omega) hin dX0_put_98 (hO _ h1 hc 98 (by decide) (by decide) ls _ _ (Or.inr trivial) hl (by simp))
  · refine lv_iconst (v := -1) hx hb dX0_put_12 (by decide) ?_
    refine rX_i hx hb hr hlk hu dX0_put_13 (Nat.le_of_ble_eq_true rfl) (Nat.le_of_ble_eq_true rfl) ?_
    unfold f_put
    rw [if_pos c1]
    exact ⟨rfl, _, _, _, _, F, rfl, hm0⟩
