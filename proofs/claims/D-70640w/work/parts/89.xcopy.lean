/-! copy -/
abbrev nmI : String := "java/lang/IndexOutOfBoundsException"
def lT (la : Nat) : FieldType := match la with | 0 => .byte | 1 => .short | _ => .int
def lX (la : Nat) : Nat := match la with | 0 => 2 | 1 => 3 | _ => 0
theorem la3 {la : Nat} (h : la < 3) : la = 0 ∨ la = 1 ∨ la = 2 := by omega
theorem lX_at (d : Nat → ClassId) {la : Nat} (h : la < 3) : (tysOf d)[lX la]? = some (lnC d la, lT la) := by
  rcases la3 h with h | h | h <;> subst h <;> rfl
theorem lT_prim {la : Nat} (h : la < 3) : refKind (lT la) = false := by
  rcases la3 h with h | h | h <;> subst h <;> rfl
theorem lT_ne {la lb : Nat} (ha : la < 3) (hb : lb < 3) (h : ¬ la = lb) : ((refKind (lT la) != refKind (lT lb)) || (!refKind (lT la) && lT la != lT lb)) = true := by
  rcases la3 ha with e | e | e <;> rcases la3 hb with e' | e' | e' <;> subst e <;> subst e' <;> first | exact absurd rfl h | decide
theorem lT_eq {la : Nat} (ha : la < 3) : ((refKind (lT la) != refKind (lT la)) || (!refKind (lT la) && lT la != lT la)) = false := by
  rcases la3 ha with e | e | e <;> subst e <;> decide
theorem nI_nn {a : Nat} (h : a < 2 ^ 31) : ¬ nI a < 0 := by
  rw [Int32.lt_iff_toInt_lt, Int32.toInt_zero, nI_toInt h]
  omega
/-- every cell of a sheet fits its lane -/
def aFit (σ : ASt) : Prop := ∀ k v, aS σ k = some v → ∀ i, i < v.2.1 → fits (lT v.1) (.int (v.2.2 i)) = true
theorem bey_cp {i n : Int32} {L : Nat} (hL : L ≤ 60) (h : pBeyond i n.toInt64 (nI L) = true) : i < 0 ∨ n < 0 ∨ i.toInt + n.toInt > (L : Int) := by
  by_cases hi : i < 0
  · exact Or.inl hi
  · by_cases hn : n < 0
    · exact Or.inr (Or.inl hn)
    · right; right
      obtain ⟨a, ha, rfl⟩ := nI_of hi
      obtain ⟨b, hb, rfl⟩ := nI_of hn
      have ea : (nI a).toInt = (a : Int) := Int32.toInt_ofNat_of_lt ha
      have eb : (nI b).toInt = (b : Int) := Int32.toInt_ofNat_of_lt hb
      simp only [pBeyond, Bool.or_eq_true, decide_eq_true_eq] at h
      rcases h with h | h | h
      · exact absurd h hi
      · exfalso
        rw [i64_lt, Int32.toInt_toInt64, eb] at h
        have e9 : (0 : Int64).toInt = 0 := rfl
        omega
      · rw [nI_l ha, nI_l hb, nI_l (show L < 2 ^ 31 by omega), lN_add, i64_lt, lN_toInt (show L < 2 ^ 31 by omega)] at h
        have e3 : (lN (a + b)).toInt = ((a + b : Nat) : Int) := pk_lT (by omega)
        rw [e3] at h
        rw [ea, eb]
        omega
/-- what the tables say of a sheet's array -/
theorem sh_cls {D : va_G} {d : Nat → ClassId} {U : State} (hK : va_K D vwCl (tysOf d) U) {la : Nat} (hla : la < 3) (L : Nat) (f : Nat → Int32) : ∃ (k : Class) (cm : ClassId), U.vm.classes[(vp_cell (lnC d la) (L, .inl f)).cls]? = some k ∧ k.kind = .array cm (lT la) := by
  obtain ⟨-, k0, hk0, cm0, hkk0⟩ := (hK.2 (lX la) _ (lX_at d hla)).1 L (fun j => .int (f j))
  exact ⟨k0, cm0, hk0, hkk0⟩
set_option maxHeartbeats 4000000 in
set_option maxRecDepth 100000 in
theorem cX_copy (l : Launch) (D : va_G) (d : Nat → ClassId) (H00 : Heap) (B : Nat → Nat) (τ : Nat → Nat → Int32) (ea : Nat) (hs : Nat → Option Nat) (ρ : va_W) (e0 : Nat) (F : Nat → Nat) (σ : ASt) (k i o j n : Int32) (htr : ∀ e, l.admits e → e.platform.stackTraces = false) (hm : xRep d B e0 σ τ ea hs ρ F) (hft : aFit σ) : cX l (KE D d e0 H00) H00 D yX0_copy cX0_copy 7 (some .int) [(21, 49, 50, 182), (21, 49, 58, 295), (21, 49, 66, 297)] (rx 2 3 1000) [.ref (B 0), .int k, .int i, .int o, .int j, .int n] (xw d B τ ea hs ρ) (xPost d B e0 (some (.int (f_copy σ k i o j n).1)) (f_copy σ k i o j n).2) (fun _ => False) := by
  intro p e s m below meth c A hx had hb hml htb hown hts hr hlk hK hA hAN hZ hnS hu ls hl
  have hv : XV D d e0 H00 A e s [.ref (B 0), .int k, .int i, .int o, .int j, .int n].toArray := ⟨htr e had, hts, hK, hZ, hnS, hA⟩
  have hl : lv_has ls 7 [(0, .ref (B 0)), (1, .int k), (2, .int i), (3, .int o), (4, .int j), (5, .int n)] := hl
  have hown : s.vm.findClass RX0 = some m.cls := hown
  have hm0 := xRep_fault hm 0
  have hok := hm.ok
  refine lv_aload_n hx hb dX0_copy_0 rfl (lv_at hl 0 rfl) ?_
  refine lv_iconst (v := 0) hx hb dX0_copy_1 (by decide) ?_
  refine xp0 hx hb hts hown hK.1 hu dX0_copy_2 (fun H locs hu => ?_)
  have hend : ∀ q : f_copy σ k i o j n = (-1, uI σ 0 0), W p l e (rx 2 3 1000) s m [.ref (B 0), .int k, .int i, .int o, .int j, .int n].toArray below meth c H locs 0 0 (MQX below (qX D A (xw d B τ ea hs ρ) (xPost d B e0 (some (.int (f_copy σ k i o j n).1)) (f_copy σ k i o j n).2) (fun _ => False)) s 3 1000 A) (F0 m 19 ls []) := by
    intro q
    refine lv_iconst (v := -1) hx hb dX0_copy_19 (by decide) ?_
    refine rX_i hx hb hr hlk hu dX0_copy_20 (Nat.le_of_ble_eq_true rfl) (Nat.le_of_ble_eq_true rfl) ?_
    rw [q]
    exact ⟨rfl, _, _, _, _, F, rfl, hm0⟩
  refine lv_iload_n hx hb dX0_copy_5 rfl (lv_at hl 1 rfl) ?_
  refine callR_S (rest := []) hx hb hml hown hts KX_st hK.1 (cX_isSheet l D d k) (wX0_isSheet hts ⟨Nat.le_of_ble_eq_true rfl, Nat.le_of_ble_eq_true rfl⟩) trivial rfl hl.1 rfl (Nat.le_of_ble_eq_true rfl) dX0_copy_6 ⟨Nat.le_of_ble_eq_true rfl, Nat.le_of_ble_eq_true rfl⟩ ?_
  refine bz_eq (tgt := 19) hx hb dX0_copy_9 (by decide) (fun c1 => ?_) (fun c1 => ?_)
  · exact hend (by unfold f_copy; rw [if_pos c1])
  · obtain ⟨jk, hjk, ejk0⟩ := sh_ix c1
    subst ejk0
    have ejk : ix (nI jk) = jk := nI_clamp (by omega)
    refine lv_iload_n hx hb dX0_copy_12 rfl (lv_at hl 3 rfl) ?_
    refine callR_S (rest := []) hx hb hml hown hts KX_st hK.1 (cX_isSheet l D d o) (wX0_isSheet hts ⟨Nat.le_of_ble_eq_true rfl, Nat.le_of_ble_eq_true rfl⟩) trivial rfl hl.1 rfl (Nat.le_of_ble_eq_true rfl) dX0_copy_13 ⟨Nat.le_of_ble_eq_true rfl, Nat.le_of_ble_eq_true rfl⟩ ?_
    refine bz_ne (tgt := 21) hx hb dX0_copy_16 (by decide) (fun c2 => ?_) (fun c2 => ?_)
    · obtain ⟨jo, hjo, ejo0⟩ := sh_ix c2
      subst ejo0
      have ejo : ix (nI jo) = jo := nI_clamp (by omega)
      have hcov : ∀ q ∈ [((21 : Nat), (49 : Nat), (50 : Nat), (182 : Nat)), (21, 49, 58, 295), (21, 49, 66, 297)], q.1 ≤ 44 ∧ 44 < q.2.1 ∧ q.2.2.2 ≠ 0 := by decide
      have hlk3 := lk_cons (own := RX0) (q0 := (21, 49, 50, 182)) (nm0 := nmN) (hts _ q280) (lk_cons (q0 := (21, 49, 58, 295)) (nm0 := nmT) (hts _ q796) (lk_cons (q0 := (21, 49, 66, 297)) (nm0 := nmI) (hts _ q810) lk_nil))
      have hcN : f_copy σ (nI jk) i (nI jo) j n = (-10 - 1, uI σ 0 1) → kT p l e (rx 2 3 1000) s m [.ref (B 0), .int (nI jk), .int i, .int (nI jo), .int j, .int n].toArray below meth c (0 + 3) (0 + 1000) (MQX below (qX D A (xw d B τ ea hs ρ) (xPost d B e0 (some (.int (f_copy σ (nI jk) i (nI jo) j n).1)) (f_copy σ (nI jk) i (nI jo) j n).2) (fun _ => False)) s 3 1000 A) D A (xw d B (put2 τ 0 0 0) ea hs ρ) nmN (F0 m 44 ls []) := by
        intro hf
        rw [hf]
        refine kT_take hown htb [nmN, nmT, nmI] hcov hlk3 0 rfl rfl no_nil (hK.cw 5 rfl) (fun H locs ax hu => ?_)
        refine lv_astore (lv' := [(6, .ref ax), (0, .ref (B 0)), (1, .int (nI jk)), (2, .int i), (3, .int (nI jo)), (4, .int j), (5, .int n)]) hx hb dX0_copy_50 hl (by decide) rfl (fun ls hl => ?_)
        refine lv_aload_n hx hb dX0_copy_52 rfl (lv_at hl 1 rfl) ?_
        refine lv_iconst (v := 1) hx hb dX0_copy_53 (by decide) ?_
        refine callU_V (rest := []) hx hb hml hown hts KX_st hK.1 hA hAN hZ (cX_faulty l D d H00 B (put2 τ 0 0 0) ea hs ρ 1) (wX0_faulty hts ⟨Nat.le_of_ble_eq_true rfl, Nat.le_of_ble_eq_true rfl⟩) (x_recv hK.1 hu.1) hu rfl hl.1 rfl (Nat.le_of_ble_eq_true rfl) dX0_copy_54 ⟨Nat.le_of_ble_eq_true rfl, Nat.le_of_ble_eq_true rfl⟩ (fun r ws H locs hpo hu => ?_)
        obtain ⟨rfl, rfl⟩ := hpo
        refine rX_i hx hb hr hlk hu dX0_copy_57 (Nat.le_of_ble_eq_true rfl) (Nat.le_of_ble_eq_true rfl) ?_
        exact ⟨rfl, _, _, _, _, F, rfl, xRep_f2 hm 0 1⟩
      have hcT : f_copy σ (nI jk) i (nI jo) j n = (-10 - 2, uI σ 0 2) → kT p l e (rx 2 3 1000) s m [.ref (B 0), .int (nI jk), .int i, .int (nI jo), .int j, .int n].toArray below meth c (0 + 3) (0 + 1000) (MQX below (qX D A (xw d B τ ea hs ρ) (xPost d B e0 (some (.int (f_copy σ (nI jk) i (nI jo) j n).1)) (f_copy σ (nI jk) i (nI jo) j n).2) (fun _ => False)) s 3 1000 A) D A (xw d B (put2 τ 0 0 0) ea hs ρ) nmT (F0 m 44 ls []) := by
        intro hf
        rw [hf]
        refine kT_take hown htb [nmN, nmT, nmI] hcov hlk3 1 rfl rfl (no_cons (hK.n 6 rfl) no_nil) (hK.cw 3 rfl) (fun H locs ax hu => ?_)
        refine lv_astore (lv' := [(6, .ref ax), (0, .ref (B 0)), (1, .int (nI jk)), (2, .int i), (3, .int (nI jo)), (4, .int j), (5, .int n)]) hx hb dX0_copy_58 hl (by decide) rfl (fun ls hl => ?_)
        refine lv_aload_n hx hb dX0_copy_60 rfl (lv_at hl 1 rfl) ?_
        refine lv_iconst (v := 2) hx hb dX0_copy_61 (by decide) ?_
        refine callU_V (rest := []) hx hb hml hown hts KX_st hK.1 hA hAN hZ (cX_faulty l D d H00 B (put2 τ 0 0 0) ea hs ρ 2) (wX0_faulty hts ⟨Nat.le_of_ble_eq_true rfl, Nat.le_of_ble_eq_true rfl⟩) (x_recv hK.1 hu.1) hu rfl hl.1 rfl (Nat.le_of_ble_eq_true rfl) dX0_copy_62 ⟨Nat.le_of_ble_eq_true rfl, Nat.le_of_ble_eq_true rfl⟩ (fun r ws H locs hpo hu => ?_)
        obtain ⟨rfl, rfl⟩ := hpo
        refine rX_i hx hb hr hlk hu dX0_copy_65 (Nat.le_of_ble_eq_true rfl) (Nat.le_of_ble_eq_true rfl) ?_
        exact ⟨rfl, _, _, _, _, F, rfl, xRep_f2 hm 0 2⟩
      have hcA : f_copy σ (nI jk) i (nI jo) j n = (-10 - 3, uI σ 0 3) → kT p l e (rx 2 3 1000) s m [.ref (B 0), .int (nI jk), .int i, .int (nI jo), .int j, .int n].toArray below meth c (0 + 3) (0 + 1000) (MQX below (qX D A (xw d B τ ea hs ρ) (xPost d B e0 (some (.int (f_copy σ (nI jk) i (nI jo) j n).1)) (f_copy σ (nI jk) i (nI jo) j n).2) (fun _ => False)) s 3 1000 A) D A (xw d B (put2 τ 0 0 0) ea hs ρ) nmA (F0 m 44 ls []) := by
        intro hf
        rw [hf]
        refine kT_take hown htb [nmN, nmT, nmI] hcov hlk3 2 rfl rfl (no_cons (hK.n 4 rfl) (no_cons (hK.n 7 rfl) no_nil)) (hK.cw 6 rfl) (fun H locs ax hu => ?_)
        refine lv_astore (lv' := [(6, .ref ax), (0, .ref (B 0)), (1, .int (nI jk)), (2, .int i), (3, .int (nI jo)), (4, .int j), (5, .int n)]) hx hb dX0_copy_66 hl (by decide) rfl (fun ls hl => ?_)
        refine lv_aload_n hx hb dX0_copy_68 rfl (lv_at hl 1 rfl) ?_
        refine lv_iconst (v := 3) hx hb dX0_copy_69 (by decide) ?_
        refine callU_V (rest := []) hx hb hml hown hts KX_st hK.1 hA hAN hZ (cX_faulty l D d H00 B (put2 τ 0 0 0) ea hs ρ 3) (wX0_faulty hts ⟨Nat.le_of_ble_eq_true rfl, Nat.le_of_ble_eq_true rfl⟩) (x_recv hK.1 hu.1) hu rfl hl.1 rfl (Nat.le_of_ble_eq_true rfl) dX0_copy_70 ⟨Nat.le_of_ble_eq_true rfl, Nat.le_of_ble_eq_true rfl⟩ (fun r ws H locs hpo hu => ?_)
        obtain ⟨rfl, rfl⟩ := hpo
        refine rX_i hx hb hr hlk hu dX0_copy_73 (Nat.le_of_ble_eq_true rfl) (Nat.le_of_ble_eq_true rfl) ?_
        exact ⟨rfl, _, _, _, _, F, rfl, xRep_f2 hm 0 3⟩
      refine lv_aload_n hx hb dX0_copy_21 rfl (lv_at hl 0 rfl) ?_
      refine xg19 hx hb hts hown hK.1 hu.1 dX0_copy_22 ?_
      refine lv_iload_n hx hb dX0_copy_25 rfl (lv_at hl 1 rfl) ?_
      refine xh_ald hx hb hK.1 hu.1 hjk dX0_copy_26 ?_
      have hmid : ∀ v0 v1 : Value, va_rf (hs jo) = v1 → W p l e (rx 2 3 1000) s m [.ref (B 0), .int (nI jk), .int i, .int (nI jo), .int j, .int n].toArray below meth c H locs 0 0 (MQX below (qX D A (xw d B τ ea hs ρ) (xPost d B e0 (some (.int (f_copy σ (nI jk) i (nI jo) j n).1)) (f_copy σ (nI jk) i (nI jo) j n).2) (fun _ => False)) s 3 1000 A) (F0 m 44 ls [.int n, .int j, v1, .int i, v0]) → W p l e (rx 2 3 1000) s m [.ref (B 0), .int (nI jk), .int i, .int (nI jo), .int j, .int n].toArray below meth c H locs 0 0 (MQX below (qX D A (xw d B τ ea hs ρ) (xPost d B e0 (some (.int (f_copy σ (nI jk) i (nI jo) j n).1)) (f_copy σ (nI jk) i (nI jo) j n).2) (fun _ => False)) s 3 1000 A) (F0 m 30 ls [v0]) := by
        intro v0 v1 hv1 kk
        refine lv_iload_n hx hb dX0_copy_30 rfl (lv_at hl 2 rfl) ?_
        refine lv_aload_n hx hb dX0_copy_31 rfl (lv_at hl 0 rfl) ?_
        refine xg19 hx hb hts hown hK.1 hu.1 dX0_copy_32 ?_
        refine lv_iload_n hx hb dX0_copy_35 rfl (lv_at hl 3 rfl) ?_
        refine xh_ald hx hb hK.1 hu.1 hjo dX0_copy_36 ?_
        refine xh_get hx hb hts hown hK.1 hu.1 hjo (v := v1) hv1 dX0_copy_37 ?_
        refine lv_iload hx hb dX0_copy_40 (lv_at hl 4 rfl) ?_
        refine lv_iload hx hb dX0_copy_42 (lv_at hl 5 rfl) ?_
        exact kk
      rcases xSh_at hm.sh hjk with ⟨h1, h2⟩ | ⟨z, fa, jj, f, h1, h2, h3, h4⟩
      · refine xh_get hx hb hts hown hK.1 hu.1 hjk (v := .null) (by rw [h2]; rfl) dX0_copy_27 ?_
        have hf : f_copy σ (nI jk) i (nI jo) j n = (-10 - 1, uI σ 0 1) := by
          unfold f_copy
          rw [if_neg (bt_nf c1), if_neg (bt_nf c2), ejk, ejo, h1]
          rfl
        rcases xSh_at hm.sh hjo with ⟨g1, g2⟩ | ⟨z', fa', jj', f', g1, g2, g3, g4⟩
        · exact hmid .null .null (by rw [g2]; rfl) (tV_N (rest := []) hx hb hv hml hl hu ⟨Nat.le_of_ble_eq_true rfl, Nat.le_of_ble_eq_true rfl, Nat.le_of_ble_eq_true rfl, Nat.le_of_ble_eq_true rfl⟩ hown (Or.inl ⟨rfl, Or.inl rfl⟩) dX0_copy_44 (hcN hf))
        · exact hmid .null (.ref fa') (by rw [g2]; rfl) (tV_N (rest := []) hx hb hv hml hl hu ⟨Nat.le_of_ble_eq_true rfl, Nat.le_of_ble_eq_true rfl, Nat.le_of_ble_eq_true rfl, Nat.le_of_ble_eq_true rfl⟩ hown (Or.inl ⟨rfl, Or.inr ⟨_, rfl⟩⟩) dX0_copy_44 (hcN hf))
      · refine xh_get hx hb hts hown hK.1 hu.1 hjk (v := .ref fa) (by rw [h2]; rfl) dX0_copy_27 ?_
        rcases xSh_at hm.sh hjo with ⟨g1, g2⟩ | ⟨z', fa', jj', f', g1, g2, g3, g4⟩
        · have hf : f_copy σ (nI jk) i (nI jo) j n = (-10 - 1, uI σ 0 1) := by
            unfold f_copy
            rw [if_neg (bt_nf c1), if_neg (bt_nf c2), ejk, ejo, h1, g1]
            rfl
          exact hmid (.ref fa) .null (by rw [g2]; rfl) (tV_N (rest := []) hx hb hv hml hl hu ⟨Nat.le_of_ble_eq_true rfl, Nat.le_of_ble_eq_true rfl, Nat.le_of_ble_eq_true rfl, Nat.le_of_ble_eq_true rfl⟩ hown (Or.inr ⟨⟨_, rfl⟩, rfl⟩) dX0_copy_44 (hcN hf))
        · refine hmid (.ref fa) (.ref fa') (by rw [g2]; rfl) ?_
          have hz := hok.2.2.2.2.2.2 jk z h1
          have hz' := hok.2.2.2.2.2.2 jo z' g1
          have hfz := hft jk z h1
          obtain ⟨la, L, g0⟩ := z
          obtain ⟨lb, L', g0'⟩ := z'
          have hla : la < 3 := hz.1
          have hlb : lb < 3 := hz'.1
          have hL60 : L ≤ 60 := hz.2
          have hL60' : L' ≤ 60 := hz'.2
          have h4 : ∀ t, t < L → f t = g0 t := h4
          have g4 : ∀ t, t < L' → f' t = g0' t := g4
          have hfz : ∀ t, t < L → fits (lT la) (.int (g0 t)) = true := hfz
          have h3x : (xw d B (put2 τ 0 0 0) ea hs ρ)[jj + 14]? = some (fa, .inl (lnC d la, L, .inl f)) := h3
          have g3x : (xw d B (put2 τ 0 0 0) ea hs ρ)[jj' + 14]? = some (fa', .inl (lnC d lb, L', .inl f')) := g3
          have hcs : H[fa]? = some (vp_cell (lnC d la) (L, .inl f)) := hu.1 _ _ h3x
          have hcd : H[fa']? = some (vp_cell (lnC d lb) (L', .inl f')) := hu.1 _ _ g3x
          obtain ⟨ks, cms, hks, hkk⟩ := sh_cls hK.1.1.1 hla L f
          obtain ⟨kd, cmd, hkd, hkk'⟩ := sh_cls hK.1.1.1 hlb L' f'
          have es : (vp_cell (lnC d la) (L, .inl f)).slots.size = L := arrV_size _ _ _
          have es' : (vp_cell (lnC d lb) (L', .inl f')).slots.size = L' := arrV_size _ _ _
          have huq : ∀ (x y : Nat) (e1 e2 : Nat × va_E), ρ[x]? = some e1 → ρ[y]? = some e2 → e1.1 = e2.1 → x = y := fun x y e1 e2 hx1 hy1 he => by
            have := hu.2.1.1 (x + 14) (y + 14) e1 e2 hx1 hy1 he
            omega
          by_cases hle : la = lb
          · subst hle
            have hout : (pBeyond i n.toInt64 (nI L) = true ∨ (¬ pBeyond i n.toInt64 (nI L) = true ∧ pBeyond j n.toInt64 (nI L') = true)) → W p l e (rx 2 3 1000) s m [.ref (B 0), .int (nI jk), .int i, .int (nI jo), .int j, .int n].toArray below meth c H locs 0 0 (MQX below (qX D A (xw d B τ ea hs ρ) (xPost d B e0 (some (.int (f_copy σ (nI jk) i (nI jo) j n).1)) (f_copy σ (nI jk) i (nI jo) j n).2) (fun _ => False)) s 3 1000 A) (F0 m 44 ls [.int n, .int j, .ref fa', .int i, .ref fa]) := by
              intro hbe
              have hf : f_copy σ (nI jk) i (nI jo) j n = (-10 - 3, uI σ 0 3) := by
                unfold f_copy
                rw [if_neg (bt_nf c1), if_neg (bt_nf c2), ejk, ejo, h1, g1]
                simp only [not_true_eq_false, if_false]
                rcases hbe with hbe | ⟨hb1, hb2⟩
                · rw [if_pos hbe]; rfl
                · rw [if_neg hb1, if_pos hb2]; rfl
              refine tV_M (rest := []) (at_A hts hK hZ) (by decide) (by decide) (by decide) (by decide) (by decide) hx hb hv hml hl hu ⟨Nat.le_of_ble_eq_true rfl, Nat.le_of_ble_eq_true rfl, Nat.le_of_ble_eq_true rfl, Nat.le_of_ble_eq_true rfl⟩ hown (cp_out hcs hcd (fun _ h9 => by cases h9) (fun _ h9 => by cases h9) hks hkd hkk hkk' (lT_eq hla) (by rw [es]; omega) (by rw [es']; omega) ?_) dX0_copy_44 (hcA hf)
              rw [es, es']
              rcases hbe with hbe | ⟨-, hbe⟩
              · rcases bey_cp hL60 hbe with h | h | h
                · exact Or.inl h
                · exact Or.inr (Or.inr (Or.inl h))
                · exact Or.inr (Or.inr (Or.inr (Or.inl h)))
              · rcases bey_cp hL60' hbe with h | h | h
                · exact Or.inr (Or.inl h)
                · exact Or.inr (Or.inr (Or.inl h))
                · exact Or.inr (Or.inr (Or.inr (Or.inr h)))
            by_cases hb1 : pBeyond i n.toInt64 (nI L) = true
            · exact hout (Or.inl hb1)
            · by_cases hb2 : pBeyond j n.toInt64 (nI L') = true
              · exact hout (Or.inr ⟨hb1, hb2⟩)
              · obtain ⟨a, b, ea1, eb1, hab⟩ := bey_ix hL60 (Bool.eq_false_iff.mpr hb1)
                obtain ⟨a', b', ea2, eb2, hab'⟩ := bey_ix hL60' (Bool.eq_false_iff.mpr hb2)
                have ebb : b = b' := by
                  have h9 : nI b = nI b' := eb1.symm.trans eb2
                  exact (nI_eq (by omega) (by omega)).mp h9
                subst ebb
                have hf : f_copy σ (nI jk) i (nI jo) j n = (n, uI (uS σ jo (some (la, L', va_cpy g0 g0' (ix i) (ix j) (ix n)))) 0 0) := by
                  unfold f_copy
                  rw [if_neg (bt_nf c1), if_neg (bt_nf c2), ejk, ejo, h1, g1]
                  simp only [not_true_eq_false, if_false]
                  rw [if_neg hb1, if_neg hb2]
                rw [hf]
                clear hf hcN hcT hcA hmid hend hout
                subst ea1 eb1 ea2
                have hx1 : (nI a).toNatClampNeg = a := nI_clamp (by omega)
                have hx2 : (nI b).toNatClampNeg = b := nI_clamp (by omega)
                have hx3 : (nI a').toNatClampNeg = a' := nI_clamp (by omega)
                refine va_copyi (rest := []) hx hb (by rw [hml]; exact hl.1.symm) hown (hts _ q399) (hts _ q401) (hts _ q400) (hts _ q67) hK.1.1.1 hu.1 hu.2.1 hu.2.2 (jj + 14) (jj' + 14) (lX la) (lX la) h3x g3x (lX_at d hla) (lX_at d hla) (lT_prim hla) (nI_nn (by omega)) (nI_nn (by omega)) (nI_nn (by omega)) (by rw [hx1, hx2]; exact hab) (by rw [hx3, hx2]; exact hab') (fun t ht => by rw [hx2] at ht; rw [hx1, h4 _ (by omega)]; exact hfz _ (by omega)) (Nat.le_of_ble_eq_true rfl) (Nat.le_of_ble_eq_true rfl) dX0_copy_44 (fun H locs u1 u2 u3 => ?_)
                rw [hx1, hx2, hx3] at u1 u2
                have hu : uW D A s.heap H locs (xw d B (put2 τ 0 0 0) ea hs (ρ.set jj' (fa', .inl (lnC d la, L', .inl (va_cpy f f' a a' b))))) := ⟨u1, u2, u3⟩
                refine lv_iload hx hb dX0_copy_47 (lv_at hl 5 rfl) ?_
                refine rX_i hx hb hr hlk hu dX0_copy_49 (Nat.le_of_ble_eq_true rfl) (Nat.le_of_ble_eq_true rfl) ?_
                refine ⟨rfl, _, _, _, _, F, rfl, xRep_fault (xRep_sh hm jo (fun y hy => by injection hy with hy; rw [← hy]; exact ⟨hla, hL60'⟩) (set_ob g3) (xSh_upd (v := (la, L', g0')) hm.sh hjo g2 g3 huq (fun q hq => ?_))) 0⟩
                have hq : q < L' := hq
                show va_cpy f f' a a' b q = va_cpy g0 g0' (ix (nI a)) (ix (nI a')) (ix (nI b)) q
                rw [show ix (nI a) = a from hx1, show ix (nI a') = a' from hx3, show ix (nI b) = b from hx2]
                unfold va_cpy
                split
                · rename_i hin
                  exact h4 _ (by omega)
                · exact g4 q hq
          · have hf : f_copy σ (nI jk) i (nI jo) j n = (-10 - 2, uI σ 0 2) := by
              unfold f_copy
              rw [if_neg (bt_nf c1), if_neg (bt_nf c2), ejk, ejo, h1, g1]
              show (if ¬ la = lb then _ else _) = _
              rw [if_pos hle]
              rfl
            exact tV_M (rest := []) (at_T hts hK hZ) (by decide) (by decide) (by decide) (by decide) (by decide) hx hb hv hml hl hu ⟨Nat.le_of_ble_eq_true rfl, Nat.le_of_ble_eq_true rfl, Nat.le_of_ble_eq_true rfl, Nat.le_of_ble_eq_true rfl⟩ hown (cp_type hcs hcd (fun _ h9 => by cases h9) (fun _ h9 => by cases h9) hks hkd hkk hkk' (lT_ne hla hlb hle)) dX0_copy_44 (hcT hf)
    · exact hend (by unfold f_copy; rw [if_neg (bt_nf c1), if_pos c2])
