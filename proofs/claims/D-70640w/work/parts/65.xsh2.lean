/-! lose, sheet, put, cell -/
theorem xw_set (d : Nat → ClassId) (B : Nat → Nat) (τ : Nat → Nat → Int32) (ea : Nat) (hs : Nat → Option Nat) (ρ : va_W) (j : Nat) (y : Nat × va_E) : (xw d B τ ea hs ρ).set (j + 14) y = xw d B τ ea hs (ρ.set j y) := rfl
theorem xw_app (d : Nat → ClassId) (B : Nat → Nat) (τ : Nat → Nat → Int32) (ea : Nat) (hs : Nat → Option Nat) (ρ z : va_W) : (xw d B τ ea hs ρ) ++ z = xw d B τ ea hs (ρ ++ z) := rfl
theorem xRep_f2 {d : Nat → ClassId} {B : Nat → Nat} {e0 : Nat} {σ : ASt} {τ : Nat → Nat → Int32} {ea : Nat} {hs : Nat → Option Nat} {ρ : va_W} {F : Nat → Nat} (h : xRep d B e0 σ τ ea hs ρ F) (w v : Int32) : xRep d B e0 (uI σ 0 v) (put2 (put2 τ 0 0 w) 0 0 v) ea hs ρ F := ⟨h.1, rfl, h.2.2⟩
theorem lk_nil {own : String} {args : Array Value} {s : State} : ∀ (i : Nat) (q : Nat × Nat × Nat × Nat) (nm : String), ([] : List (Nat × Nat × Nat × Nat))[i]? = some q → ([] : List String)[i]? = some nm → (Cond.classLink own q.2.2.2 nm).before args s = true := fun i q nm h => by simp at h
theorem lk_cons {own : String} {args : Array Value} {s : State} {q0 : Nat × Nat × Nat × Nat} {nm0 : String} {tb : List (Nat × Nat × Nat × Nat)} {names : List String} (h0 : (Cond.classLink own q0.2.2.2 nm0).before args s = true) (h : ∀ (i : Nat) (q : Nat × Nat × Nat × Nat) (nm : String), tb[i]? = some q → names[i]? = some nm → (Cond.classLink own q.2.2.2 nm).before args s = true) : ∀ (i : Nat) (q : Nat × Nat × Nat × Nat) (nm : String), (q0 :: tb)[i]? = some q → (nm0 :: names)[i]? = some nm → (Cond.classLink own q.2.2.2 nm).before args s = true := by
  intro i q nm h1 h2
  cases i with
  | zero =>
    rw [List.getElem?_cons_zero] at h1 h2
    cases h1; cases h2; exact h0
  | succ i =>
    rw [List.getElem?_cons_succ] at h1 h2
    exact h i q nm h1 h2
theorem no_nil {cls : String} {names : List String} {s : State} : ∀ (i : Nat) (nm : String), i < 0 → names[i]? = some nm → va_Nc cls nm s := fun i nm h => absurd h (Nat.not_lt_zero _)
theorem no_cons {cls nm0 : String} {names : List String} {s : State} {j : Nat} (h0 : va_Nc cls nm0 s) (h : ∀ (i : Nat) (nm : String), i < j → names[i]? = some nm → va_Nc cls nm s) : ∀ (i : Nat) (nm : String), i < j + 1 → (nm0 :: names)[i]? = some nm → va_Nc cls nm s := by
  intro i nm hi h2
  cases i with
  | zero =>
    rw [List.getElem?_cons_zero] at h2
    cases h2; exact h0
  | succ i =>
    rw [List.getElem?_cons_succ] at h2
    exact h i nm (by omega) h2
set_option maxHeartbeats 4000000 in
set_option maxRecDepth 100000 in
theorem cX_lose (l : Launch) (D : va_G) (d : Nat → ClassId) (H00 : Heap) (B : Nat → Nat) (τ : Nat → Nat → Int32) (ea : Nat) (hs : Nat → Option Nat) (ρ : va_W) (e0 : Nat) (F : Nat → Nat) (σ : ASt) (k : Int32) (hm : xRep d B e0 σ τ ea hs ρ F) : cU l (KX D d) H00 D yX0_lose cX0_lose 3 (some .int) (rc 2 0 0) [.ref (B 0), .int k] (xw d B τ ea hs ρ) (xPost d B e0 (some (.int (f_lose σ k).1)) (f_lose σ k).2) := by
  refine cU_start RX0 rfl (by decide) (Nat.le_of_ble_eq_true rfl) ?_
  intro p e s m below meth c A hx hb hml hown hts hr hlk hnm hK hA hAN hZ hu ls hl
  have hl : lv_has ls 3 [(0, .ref (B 0)), (1, .int k)] := hl
  refine lv_iload_n hx hb dX0_lose_0 rfl (lv_at hl 1 rfl) ?_
  refine callR_S (rest := []) hx hb hml hown hts KX_st hK (cX_isSheet l D d k) (wX0_isSheet hts ⟨Nat.le_of_ble_eq_true rfl, Nat.le_of_ble_eq_true rfl⟩) trivial rfl hl.1 rfl (Nat.le_of_ble_eq_true rfl) dX0_lose_1 ⟨Nat.le_of_ble_eq_true rfl, Nat.le_of_ble_eq_true rfl⟩ ?_
  refine bz_ne (tgt := 9) hx hb dX0_lose_4 (by decide) (fun c1 => ?_) (fun c1 => ?_)
  · obtain ⟨j, hj, ej⟩ := sh_ix c1
    subst ej
    have ejx : ix (nI j) = j := nI_clamp (by omega)
    refine lv_aload_n hx hb dX0_lose_9 rfl (lv_at hl 0 rfl) ?_
    refine xg19 hx hb hts hown hK hu.1 dX0_lose_10 ?_
    refine lv_iload_n hx hb dX0_lose_13 rfl (lv_at hl 1 rfl) ?_
    refine xh_ald hx hb hK hu.1 hj dX0_lose_14 ?_
    rcases xSh_at hm.sh hj with ⟨h1, h2⟩ | ⟨v, fa, jj, f, h1, h2, h3, h4⟩
    · refine xh_get hx hb hts hown hK hu.1 hj (v := .null) (by rw [h2]; rfl) dX0_lose_15 ?_
      refine lv_ifnonnullN hx hb dX0_lose_18 ?_
      refine lv_iconst (v := 0) hx hb dX0_lose_21 (by decide) ?_
      refine lv_goto (tgt := 26) hx hb dX0_lose_22 (by decide) ?_
      refine lv_istore_n (lv' := [(2, .int 0), (0, .ref (B 0)), (1, .int (nI j))]) hx hb dX0_lose_26 rfl hl (by decide) rfl (fun ls hl => ?_)
      refine lv_aload_n hx hb dX0_lose_27 rfl (lv_at hl 1 rfl) ?_
      refine xg19 hx hb hts hown hK hu.1 dX0_lose_28 ?_
      refine lv_iload_n hx hb dX0_lose_31 rfl (lv_at hl 2 rfl) ?_
      refine xh_ald hx hb hK hu.1 hj dX0_lose_32 ?_
      refine lv_null hx hb dX0_lose_33 ?_
      refine xh_put hx hb hts hown hK hu hj none rfl dX0_lose_34 (fun H locs hu => ?_)
      refine lv_iload_n hx hb dX0_lose_37 rfl (lv_at hl 0 rfl) ?_
      refine rU_i hx hb hr hlk hu dX0_lose_38 (Nat.le_of_ble_eq_true rfl) (Nat.le_of_ble_eq_true rfl) ?_
      unfold f_lose
      rw [if_neg (bt_nf c1), ejx, h1]
      exact ⟨rfl, _, _, _, _, F, rfl, xRep_sh hm j (fun v hv => by cases hv) (xKp.rf ρ).ob (xSh_none hm.sh j)⟩
    · refine xh_get hx hb hts hown hK hu.1 hj (v := .ref fa) (by rw [h2]; rfl) dX0_lose_15 ?_
      refine lv_ifnonnull (tgt := 25) hx hb dX0_lose_18 (by decide) ?_
      refine lv_iconst (v := 1) hx hb dX0_lose_25 (by decide) ?_
      refine lv_istore_n (lv' := [(2, .int 1), (0, .ref (B 0)), (1, .int (nI j))]) hx hb dX0_lose_26 rfl hl (by decide) rfl (fun ls hl => ?_)
      refine lv_aload_n hx hb dX0_lose_27 rfl (lv_at hl 1 rfl) ?_
      refine xg19 hx hb hts hown hK hu.1 dX0_lose_28 ?_
      refine lv_iload_n hx hb dX0_lose_31 rfl (lv_at hl 2 rfl) ?_
      refine xh_ald hx hb hK hu.1 hj dX0_lose_32 ?_
      refine lv_null hx hb dX0_lose_33 ?_
      refine xh_put hx hb hts hown hK hu hj none rfl dX0_lose_34 (fun H locs hu => ?_)
      refine lv_iload_n hx hb dX0_lose_37 rfl (lv_at hl 0 rfl) ?_
      refine rU_i hx hb hr hlk hu dX0_lose_38 (Nat.le_of_ble_eq_true rfl) (Nat.le_of_ble_eq_true rfl) ?_
      unfold f_lose
      rw [if_neg (bt_nf c1), ejx, h1]
      exact ⟨rfl, _, _, _, _, F, rfl, xRep_sh hm j (fun v hv => by cases hv) (xKp.rf ρ).ob (xSh_none hm.sh j)⟩
  · refine lv_iconst (v := -1) hx hb dX0_lose_7 (by decide) ?_
    refine rU_i hx hb hr hlk hu dX0_lose_8 (Nat.le_of_ble_eq_true rfl) (Nat.le_of_ble_eq_true rfl) ?_
    unfold f_lose
    rw [if_pos c1]
    exact ⟨rfl, _, _, _, _, F, rfl, hm⟩
set_option maxHeartbeats 4000000 in
set_option maxRecDepth 100000 in
theorem cX_sheet (l : Launch) (D : va_G) (d : Nat → ClassId) (H00 : Heap) (B : Nat → Nat) (τ : Nat → Nat → Int32) (ea : Nat) (hs : Nat → Option Nat) (ρ : va_W) (e0 : Nat) (F : Nat → Nat) (σ : ASt) (k la n : Int32) (htr : ∀ e, l.admits e → e.platform.stackTraces = false) (hm : xRep d B e0 σ τ ea hs ρ F) : cX l (KE D d e0 H00) H00 D yX0_sheet cX0_sheet 5 (some .int) [(30, 64, 65, 184)] (rx 2 4 1060) [.ref (B 0), .int k, .int la, .int n] (xw d B τ ea hs ρ) (xPost d B e0 (some (.int (f_sheet σ k la n).1)) (f_sheet σ k la n).2) (fun _ => False) := by
  intro p e s m below meth c A hx had hb hml htb hown hts hr hlk hK hA hAN hZ hnS hu ls hl
  have hv : XV D d e0 H00 A e s [.ref (B 0), .int k, .int la, .int n].toArray := ⟨htr e had, hts, hK, hZ, hnS, hA⟩
  have hl : lv_has ls 5 [(0, .ref (B 0)), (1, .int k), (2, .int la), (3, .int n)] := hl
  have hm0 := xRep_fault hm 0
  refine lv_aload_n hx hb dX0_sheet_0 rfl (lv_at hl 0 rfl) ?_
  refine lv_iconst (v := 0) hx hb dX0_sheet_1 (by decide) ?_
  refine xp0 hx hb hts hown hK.1 hu dX0_sheet_2 (fun H locs hu => ?_)
  refine lv_iload_n hx hb dX0_sheet_5 rfl (lv_at hl 1 rfl) ?_
  refine callR_S (rest := []) hx hb hml hown hts KX_st hK.1 (cX_isSheet l D d k) (wX0_isSheet hts ⟨Nat.le_of_ble_eq_true rfl, Nat.le_of_ble_eq_true rfl⟩) trivial rfl hl.1 rfl (Nat.le_of_ble_eq_true rfl) dX0_sheet_6 ⟨Nat.le_of_ble_eq_true rfl, Nat.le_of_ble_eq_true rfl⟩ ?_
  refine bz_ne (tgt := 14) hx hb dX0_sheet_9 (by decide) (fun c1 => ?_) (fun c1 => ?_)
  · obtain ⟨j, hj, ej⟩ := sh_ix c1
    subst ej
    have ejx : ix (nI j) = j := nI_clamp (by omega)
    refine lv_iload_n hx hb dX0_sheet_14 rfl (lv_at hl 2 rfl) ?_
    refine callR_S (rest := []) hx hb hml hown hts KX_st hK.1 (cX_isLane l D d la) (wX0_isLane hts ⟨Nat.le_of_ble_eq_true rfl, Nat.le_of_ble_eq_true rfl⟩) trivial rfl hl.1 rfl (Nat.le_of_ble_eq_true rfl) dX0_sheet_15 ⟨Nat.le_of_ble_eq_true rfl, Nat.le_of_ble_eq_true rfl⟩ ?_
    refine bz_eq (tgt := 27) hx hb dX0_sheet_18 (by decide) (fun c2 => ?_) (fun c2 => ?_)
    · refine lv_bipush (v := -2) hx hb dX0_sheet_27 (by decide) ?_
      refine rX_i hx hb hr hlk hu dX0_sheet_29 (Nat.le_of_ble_eq_true rfl) (Nat.le_of_ble_eq_true rfl) ?_
      unfold f_sheet
      rw [if_neg (bt_nf c1), if_pos c2]
      exact ⟨rfl, _, _, _, _, F, rfl, hm0⟩
    · obtain ⟨jl, hjl, ejl⟩ := ln_ix c2
      subst ejl
      have ejlx : ix (nI jl) = jl := nI_clamp (by omega)
      refine lv_iload_n hx hb dX0_sheet_21 rfl (lv_at hl 3 rfl) ?_
      refine lv_bipush (v := 60) hx hb dX0_sheet_22 (by decide) ?_
      refine lv_icmp_le (tgt := 30) hx hb dX0_sheet_24 (by decide) (fun c3 => ?_) (fun c3 => ?_)
      · have c3' : ¬ 60 < n := Int32.not_lt.mpr c3
        refine lv_aload_n hx hb dX0_sheet_30 rfl (lv_at hl 0 rfl) ?_
        refine xg19 hx hb hts hown hK.1 hu.1 dX0_sheet_31 ?_
        refine lv_iload_n hx hb dX0_sheet_34 rfl (lv_at hl 1 rfl) ?_
        refine xh_ald hx hb hK.1 hu.1 hj dX0_sheet_35 ?_
        refine lv_iload_n hx hb dX0_sheet_36 rfl (lv_at hl 2 rfl) ?_
        have hneg : n < 0 → ∀ (pc : Nat), 30 ≤ pc → pc < 64 → ∀ (H : Heap) (locs : List Loc) (ls : Array Slot), lv_has ls 5 [(0, .ref (B 0)), (1, .int (nI j)), (2, .int (nI jl)), (3, .int n)] → kT p l e (rx 2 4 1060) s m [.ref (B 0), .int (nI j), .int (nI jl), .int n].toArray below meth c (0 + 3) (0 + 1000) (MQX below (qX D A (xw d B τ ea hs ρ) (xPost d B e0 (some (.int (f_sheet σ (nI j) (nI jl) n).1)) (f_sheet σ (nI j) (nI jl) n).2) (fun _ => False)) s 4 1060 A) D A (xw d B (put2 τ 0 0 0) ea hs ρ) nmS (F0 m pc ls [.ref (B (10 + j))]) := by
          intro hn pc hp1 hp2 H locs ls hl
          refine kT_take hown htb [nmS] (by intro q hq; rw [List.mem_singleton] at hq; subst hq; exact ⟨hp1, hp2, by decide⟩) (lk_cons (hts _ q305) lk_nil) 0 rfl rfl no_nil (hK.cw 1 rfl) (fun H locs a hu => ?_)
          refine lv_astore (lv' := [(4, .ref a), (0, .ref (B 0)), (1, .int (nI j)), (2, .int (nI jl)), (3, .int n)]) hx hb dX0_sheet_65 hl (by decide) rfl (fun ls hl => ?_)
          refine lv_aload_n hx hb dX0_sheet_67 rfl (lv_at hl 1 rfl) ?_
          refine lv_iconst (v := 4) hx hb dX0_sheet_68 (by decide) ?_
          refine callU_V (rest := []) hx hb hml hown hts KX_st hK.1 hA hAN hZ (cX_faulty l D d H00 B (put2 τ 0 0 0) ea hs ρ 4) (wX0_faulty hts ⟨Nat.le_of_ble_eq_true rfl, Nat.le_of_ble_eq_true rfl⟩) (x_recv hK.1 hu.1) hu rfl hl.1 rfl (Nat.le_of_ble_eq_true rfl) dX0_sheet_69 ⟨Nat.le_of_ble_eq_true rfl, Nat.le_of_ble_eq_true rfl⟩ (fun r ws H locs hpo hu => ?_)
          obtain ⟨rfl, rfl⟩ := hpo
          refine rX_i hx hb hr hlk hu dX0_sheet_72 (Nat.le_of_ble_eq_true rfl) (Nat.le_of_ble_eq_true rfl) ?_
          unfold f_sheet
          rw [if_neg (bt_nf c1), if_neg (bt_nf c2), if_neg c3', if_pos hn]
          exact ⟨rfl, _, _, _, _, F, rfl, xRep_f2 hm 0 4⟩
        by_cases hn : n < 0
        · rcases k3 hjl with h | h | h
          · subst h
            refine lv_if_ne (tgt := 46) hx hb dX0_sheet_37 (by decide) (fun c4 => absurd rfl c4) (fun c4 => ?_)
            refine lv_iload_n hx hb dX0_sheet_40 rfl (lv_at hl 3 rfl) ?_
            exact tS_newarray hx hb hv hml hl hu ⟨Nat.le_of_ble_eq_true rfl, Nat.le_of_ble_eq_true rfl, Nat.le_of_ble_eq_true rfl, Nat.le_of_ble_eq_true rfl⟩ hn dX0_sheet_41 (hneg hn 41 (by decide) (by decide) H locs ls hl)
          · subst h
            refine lv_if_ne (tgt := 46) hx hb dX0_sheet_37 (by decide) (fun c4 => ?_) (fun c4 => absurd c4 (by decide))
            refine lv_iload_n hx hb dX0_sheet_46 rfl (lv_at hl 2 rfl) ?_
            refine lv_iconst (v := 1) hx hb dX0_sheet_47 (by decide) ?_
            refine lv_icmp_ne (tgt := 57) hx hb dX0_sheet_48 (by decide) (fun c5 => absurd rfl c5) (fun c5 => ?_)
            refine lv_iload_n hx hb dX0_sheet_51 rfl (lv_at hl 3 rfl) ?_
            exact tS_newarray hx hb hv hml hl hu ⟨Nat.le_of_ble_eq_true rfl, Nat.le_of_ble_eq_true rfl, Nat.le_of_ble_eq_true rfl, Nat.le_of_ble_eq_true rfl⟩ hn dX0_sheet_52 (hneg hn 52 (by decide) (by decide) H locs ls hl)
          · subst h
            refine lv_if_ne (tgt := 46) hx hb dX0_sheet_37 (by decide) (fun c4 => ?_) (fun c4 => absurd c4 (by decide))
            refine lv_iload_n hx hb dX0_sheet_46 rfl (lv_at hl 2 rfl) ?_
            refine lv_iconst (v := 1) hx hb dX0_sheet_47 (by decide) ?_
            refine lv_icmp_ne (tgt := 57) hx hb dX0_sheet_48 (by decide) (fun c5 => ?_) (fun c5 => absurd c5 (by decide))
            refine lv_iload_n hx hb dX0_sheet_57 rfl (lv_at hl 3 rfl) ?_
            exact tS_newarray hx hb hv hml hl hu ⟨Nat.le_of_ble_eq_true rfl, Nat.le_of_ble_eq_true rfl, Nat.le_of_ble_eq_true rfl, Nat.le_of_ble_eq_true rfl⟩ hn dX0_sheet_58 (hneg hn 58 (by decide) (by decide) H locs ls hl)
        · obtain ⟨N, hN, rfl⟩ := nI_of2 (x := n) (M := 60) (n := 60) rfl hn c3
          have eN : ix (nI N) = N := nI_clamp (by omega)
          have hend : ∀ (q : Nat) (H : Heap) (locs : List Loc), uW D A s.heap H locs (xw d B (put2 τ 0 0 0) ea hs ρ ++ [(q, .inl (lnC d jl, N, .inl (fun _ => 0)))]) → W p l e (rx 2 4 1060) s m [.ref (B 0), .int (nI j), .int (nI jl), .int (nI N)].toArray below meth c H locs (0 + 1) (0 + N) (MQX below (qX D A (xw d B τ ea hs ρ) (xPost d B e0 (some (.int (f_sheet σ (nI j) (nI jl) (nI N)).1)) (f_sheet σ (nI j) (nI jl) (nI N)).2) (fun _ => False)) s 4 1060 A) (F0 m 60 ls [.ref q, .ref (B (10 + j))]) := by
            intro q H locs hu
            rw [xw_app] at hu
            have hfr : ∀ (t : Nat) (y : Nat × va_E), ρ[t]? = some y → y.1 ≠ q := by
              intro t y ht hq
              have h1 := hu.2.1.1 (t + 14) (ρ.length + 14) y (q, .inl (lnC d jl, N, .inl (fun _ => 0))) (app_at ht) app_last hq
              have h2 := (List.getElem?_eq_some_iff.mp ht).1
              omega
            refine xh_put hx hb hts hown hK.1 hu hj (some q) rfl dX0_sheet_60 (fun H locs hu => ?_)
            refine lv_iconst (v := 1) hx hb dX0_sheet_63 (by decide) ?_
            refine rX_i hx hb hr hlk hu dX0_sheet_64 (Nat.le_of_ble_eq_true rfl) (by show 0 + N ≤ 1060; omega) ?_
            unfold f_sheet
            rw [if_neg (bt_nf c1), if_neg (bt_nf c2), if_neg c3', if_neg hn, ejx, ejlx, eN]
            exact ⟨rfl, _, _, _, _, F, rfl, xRep_fault (xRep_sh hm j (fun v hv => by injection hv with hv; rw [← hv]; exact ⟨hjl, hN⟩) (xKp.app ρ _).ob (xSh_new hm.sh j hfr)) 0⟩
          rcases k3 hjl with h | h | h
          · subst h
            refine lv_if_ne (tgt := 46) hx hb dX0_sheet_37 (by decide) (fun c4 => absurd rfl c4) (fun c4 => ?_)
            refine lv_iload_n hx hb dX0_sheet_40 rfl (lv_at hl 3 rfl) ?_
            refine nw_b hx hb hts hK.1.1 hA hu (N := N) hn eN (by omega) (Nat.le_of_ble_eq_true rfl) (by show 0 + N ≤ 1060; omega) dX0_sheet_41 (fun q H hu => ?_)
            refine lv_goto (tgt := 60) hx hb dX0_sheet_43 (by decide) ?_
            exact hend q H locs hu
          · subst h
            refine lv_if_ne (tgt := 46) hx hb dX0_sheet_37 (by decide) (fun c4 => ?_) (fun c4 => absurd c4 (by decide))
            refine lv_iload_n hx hb dX0_sheet_46 rfl (lv_at hl 2 rfl) ?_
            refine lv_iconst (v := 1) hx hb dX0_sheet_47 (by decide) ?_
            refine lv_icmp_ne (tgt := 57) hx hb dX0_sheet_48 (by decide) (fun c5 => absurd rfl c5) (fun c5 => ?_)
            refine lv_iload_n hx hb dX0_sheet_51 rfl (lv_at hl 3 rfl) ?_
            refine nw_s hx hb hts hK.1.1 hA hu (N := N) hn eN (by omega) (Nat.le_of_ble_eq_true rfl) (by show 0 + N ≤ 1060; omega) dX0_sheet_52 (fun q H hu => ?_)
            refine lv_goto (tgt := 60) hx hb dX0_sheet_54 (by decide) ?_
            exact hend q H locs hu
          · subst h
            refine lv_if_ne (tgt := 46) hx hb dX0_sheet_37 (by decide) (fun c4 => ?_) (fun c4 => absurd c4 (by decide))
            refine lv_iload_n hx hb dX0_sheet_46 rfl (lv_at hl 2 rfl) ?_
            refine lv_iconst (v := 1) hx hb dX0_sheet_47 (by decide) ?_
            refine lv_icmp_ne (tgt := 57) hx hb dX0_sheet_48 (by decide) (fun c5 => ?_) (fun c5 => absurd c5 (by decide))
            refine lv_iload_n hx hb dX0_sheet_57 rfl (lv_at hl 3 rfl) ?_
            refine nw_i hx hb hts hK.1.1 hA hu (N := N) hn eN (by omega) (Nat.le_of_ble_eq_true rfl) (by show 0 + N ≤ 1060; omega) dX0_sheet_58 (fun q H hu => ?_)
            exact hend q H locs hu
      · refine lv_bipush (v := -2) hx hb dX0_sheet_27 (by decide) ?_
        refine rX_i hx hb hr hlk hu dX0_sheet_29 (Nat.le_of_ble_eq_true rfl) (Nat.le_of_ble_eq_true rfl) ?_
        unfold f_sheet
        rw [if_neg (bt_nf c1), if_neg (bt_nf c2), if_pos (Int32.not_le.mp c3)]
        exact ⟨rfl, _, _, _, _, F, rfl, hm0⟩
  · refine lv_iconst (v := -1) hx hb dX0_sheet_12 (by decide) ?_
    refine rX_i hx hb hr hlk hu dX0_sheet_13 (Nat.le_of_ble_eq_true rfl) (Nat.le_of_ble_eq_true rfl) ?_
    unfold f_sheet
    rw [if_pos c1]
    exact ⟨rfl, _, _, _, _, F, rfl, hm0⟩
