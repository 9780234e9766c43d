/-! the Model: plans -/
set_option maxHeartbeats 4000000 in
set_option maxRecDepth 100000 in
theorem cM_planBy (l : Launch) (D : va_G) (d : Nat → ClassId) (q : Nat) (Aq : Nat → Nat) (τ : Nat → Nat → Int32) (σ : ASt) (f : Nat) (r : Nat → Int32) (w : Int32) (hm : mRep σ τ) (htx : ∀ j, j < aE σ → τ 26 (f + j) = r j) (hf : f + aE σ ≤ 240) (hrs : ∀ j, j < aE σ → ix (r j) < 2 ^ aD σ ∧ r j = nI (ix (r j))) (hw : ¬ w < 10 → ∃ j, j < 6 ∧ w - 10 = nI j) : cR l (KM D d) yX2_planBy cX2_planBy 12 (some .int) (rk 4) [.ref q, .int (nI f), .int w] (va_P D vwCl (mw d q Aq τ)) (.int (pln σ r w)) := by
  refine cR_start RX2 rfl (by decide) (Nat.le_of_ble_eq_true rfl) ?_
  intro p e s m below meth c hx hb hml hown hts hr hlk hK hP ls hl
  have hl : lv_has ls 12 [(0, .ref q), (1, .int (nI f)), (2, .int w)] := hl
  have hok := hm.ok
  have hD6 : aD σ ≤ 6 := hok.1
  have hE4 : aE σ ≤ 4 := hok.2.1
  have h64 := pow6 hD6
  have hd := hm.day
  have he := hm.eat
  refine lv_iconst (v := nI 0) hx hb dX2_planBy_0 (by decide) ?_
  refine lv_istore_n (lv' := [(3, .int (nI 0)), (0, .ref q), (1, .int (nI f)), (2, .int w)]) hx hb dX2_planBy_1 rfl hl (by decide) rfl (fun ls hl => ?_)
  refine lv_bipush (v := (-9)) hx hb dX2_planBy_2 (by decide) ?_
  refine top_i (y := oI (lowB (anyN (pG σ r) 0) (aD σ))) (by rw [show lowB (anyN (pG σ r) 0) (aD σ) = none from lowB_0 _]; rfl) ?_
  refine lv_istore (lv' := [(4, .int (oI (lowB (anyN (pG σ r) 0) (aD σ)))), (3, .int (nI 0)), (0, .ref q), (1, .int (nI f)), (2, .int w)]) hx hb dX2_planBy_4 hl (by decide) rfl (fun ls hl => ?_)
  refine lv_iconst (v := nI 0) hx hb dX2_planBy_6 (by decide) ?_
  refine lv_istore (lv' := [(5, .int (nI 0)), (4, .int (oI (lowB (anyN (pG σ r) 0) (aD σ)))), (3, .int (nI 0)), (0, .ref q), (1, .int (nI f)), (2, .int w)]) hx hb dX2_planBy_7 hl (by decide) rfl (fun ls hl => ?_)
  refine lv_iconst (v := nI 0) hx hb dX2_planBy_9 (by decide) ?_
  refine lv_istore (lv' := [(6, .int (nI 0)), (5, .int (nI 0)), (4, .int (oI (lowB (anyN (pG σ r) 0) (aD σ)))), (3, .int (nI 0)), (0, .ref q), (1, .int (nI f)), (2, .int w)]) hx hb dX2_planBy_10 hl (by decide) rfl (fun ls hl => ?_)
  refine lv_iconst (v := 0) hx hb dX2_planBy_12 (by decide) ?_
  refine top_i (y := (if w < 10 then (0 : Int32) else nI (cntB (pG σ r) (ix (w - 10)) 0))) (by split <;> rfl) ?_
  refine lv_istore (lv' := [(7, .int (if w < 10 then (0 : Int32) else nI (cntB (pG σ r) (ix (w - 10)) 0))), (6, .int (nI 0)), (5, .int (nI 0)), (4, .int (oI (lowB (anyN (pG σ r) 0) (aD σ)))), (3, .int (nI 0)), (0, .ref q), (1, .int (nI f)), (2, .int w)]) hx hb dX2_planBy_13 hl (by decide) rfl (fun ls hl => ?_)
  refine lv_iconst (v := nI 0) hx hb dX2_planBy_15 (by decide) ?_
  refine lv_istore (lv' := [(8, .int (nI 0)), (7, .int (if w < 10 then (0 : Int32) else nI (cntB (pG σ r) (ix (w - 10)) 0))), (6, .int (nI 0)), (5, .int (nI 0)), (4, .int (oI (lowB (anyN (pG σ r) 0) (aD σ)))), (3, .int (nI 0)), (0, .ref q), (1, .int (nI f)), (2, .int w)]) hx hb dX2_planBy_16 hl (by decide) rfl (fun ls hl => ?_)
  refine lp_R (σ := Nat) (fun n18 zz => zz + n18 = aE σ) (fun zz => [(8, .int (nI zz)), (7, .int (if w < 10 then (0 : Int32) else nI (cntB (pG σ r) (ix (w - 10)) zz))), (6, .int (nI (setN (fun a => decide (popc (ix (r a)) < aN σ 3 a)) zz))), (5, .int (nI (setN (fun a => !(decide (pG σ r a = 0))) zz))), (4, .int (oI (lowB (anyN (pG σ r) zz) (aD σ)))), (3, .int (nI (sumN (fun a => fin (aN σ) (aD σ) (aF σ) a (ix (r a))) zz))), (0, .ref q), (1, .int (nI f)), (2, .int w)]) (fun n18 zz hI ih18 ls hl => ?_) (aE σ) 0 (by omega) hl
  obtain ⟨a0, rfl⟩ : ∃ y, y = zz := ⟨_, rfl⟩
  have hI : a0 + n18 = aE σ := hI
  obtain hi := hI
  have hl : lv_has ls 12 [(8, .int (nI a0)), (7, .int (if w < 10 then (0 : Int32) else nI (cntB (pG σ r) (ix (w - 10)) a0))), (6, .int (nI (setN (fun a => decide (popc (ix (r a)) < aN σ 3 a)) a0))), (5, .int (nI (setN (fun a => !(decide (pG σ r a = 0))) a0))), (4, .int (oI (lowB (anyN (pG σ r) a0) (aD σ)))), (3, .int (nI (sumN (fun a => fin (aN σ) (aD σ) (aF σ) a (ix (r a))) a0))), (0, .ref q), (1, .int (nI f)), (2, .int w)] := hl
  refine lv_iload hx hb dX2_planBy_18 (lv_at hl 0 rfl) ?_
  refine lv_aload_n hx hb dX2_planBy_20 rfl (lv_at hl 6 rfl) ?_
  refine mg4 hx hb hts hown hK hP dX2_planBy_21 ?_
  refine top_i (y := nI (aE σ)) (hm.eat.2.1) ?_
  refine nc_ge (tgt := 189) hx hb dX2_planBy_24 (by decide) (by omega) (by omega) (fun c1 => ?_) (fun c1 => ?_)
  · refine lv_iload_n hx hb dX2_planBy_189 rfl (lv_at hl 8 rfl) ?_
    refine lv_bipush (v := 10) hx hb dX2_planBy_190 (by decide) ?_
    refine lv_icmp_lt (tgt := 214) hx hb dX2_planBy_192 (by decide) (fun c2 => ?_) (fun c2 => ?_)
    · refine lv_iload_n hx hb dX2_planBy_214 rfl (lv_at hl 8 rfl) ?_
      refine lv_if_ne (tgt := 222) hx hb dX2_planBy_215 (by decide) (fun c3 => ?_) (fun c3 => ?_)
      · refine lv_iload_n hx hb dX2_planBy_222 rfl (lv_at hl 8 rfl) ?_
        refine lv_iconst (v := 1) hx hb dX2_planBy_223 (by decide) ?_
        refine lv_icmp_ne (tgt := 232) hx hb dX2_planBy_224 (by decide) (fun c4 => ?_) (fun c4 => ?_)
        · refine lv_iload_n hx hb dX2_planBy_232 rfl (lv_at hl 8 rfl) ?_
          refine lv_iconst (v := 2) hx hb dX2_planBy_233 (by decide) ?_
          refine lv_icmp_ne (tgt := 242) hx hb dX2_planBy_234 (by decide) (fun c5 => ?_) (fun c5 => ?_)
          · refine lv_iload hx hb dX2_planBy_242 (lv_at hl 2 rfl) ?_
            exact rR_i hx hb hr hlk dX2_planBy_244 (by rw [pln, if_pos c2, if_neg c3, if_neg c4, if_neg c5, show a0 = aE σ by omega])
          · refine lv_iload hx hb dX2_planBy_237 (lv_at hl 3 rfl) ?_
            refine lv_goto (tgt := 244) hx hb dX2_planBy_239 (by decide) ?_
            exact rR_i hx hb hr hlk dX2_planBy_244 (by rw [pln, if_pos c2, if_neg c3, if_neg c4, if_pos c5, show a0 = aE σ by omega])
        · refine lv_iload hx hb dX2_planBy_227 (lv_at hl 4 rfl) ?_
          refine lv_goto (tgt := 244) hx hb dX2_planBy_229 (by decide) ?_
          exact rR_i hx hb hr hlk dX2_planBy_244 (by rw [pln, if_pos c2, if_neg c3, if_pos c4, show a0 = aE σ by omega])
      · refine lv_iload_n hx hb dX2_planBy_218 rfl (lv_at hl 5 rfl) ?_
        refine lv_goto (tgt := 244) hx hb dX2_planBy_219 (by decide) ?_
        exact rR_i hx hb hr hlk dX2_planBy_244 (by rw [pln, if_pos c2, if_pos c3, show a0 = aE σ by omega])
    · refine lv_aload_n hx hb dX2_planBy_195 rfl (lv_at hl 6 rfl) ?_
      refine lv_iload_n hx hb dX2_planBy_196 rfl (lv_at hl 8 rfl) ?_
      refine lv_bipush (v := 10) hx hb dX2_planBy_197 (by decide) ?_
      refine lv_isub hx hb dX2_planBy_199 ?_
      refine callR_V (rest := []) hx hb hml hown hts KM_st hK (cM_noDay l D d q Aq τ (w - 10)) (wX2_noDay hts ⟨Nat.le_of_ble_eq_true rfl, Nat.le_of_ble_eq_true rfl⟩) (m_recv hK hP) hP rfl hl.1 rfl (Nat.le_of_ble_eq_true rfl) dX2_planBy_200 ⟨Nat.zero_le _, Nat.zero_le _⟩ ?_
      refine top_i (hm.isD (w - 10)) ?_
      refine bzn_eq (tgt := 211) hx hb dX2_planBy_203 (by decide) (fun c6 => ?_) (fun c6 => ?_)
      · refine lv_iload hx hb dX2_planBy_211 (lv_at hl 1 rfl) ?_
        exact rR_i hx hb hr hlk dX2_planBy_213 (by rw [pln, if_neg c2, if_neg c2, if_neg (bt_nf c6), show a0 = aE σ by omega])
      · refine lv_bipush (v := (-9)) hx hb dX2_planBy_206 (by decide) ?_
        refine lv_goto (tgt := 213) hx hb dX2_planBy_208 (by decide) ?_
        exact rR_i hx hb hr hlk dX2_planBy_213 (by rw [pln, if_neg c2, if_pos c6])
  · have hla : a0 < aE σ := by omega
    have hg : pG σ r a0 < 64 := fou_lt hD6 (hrs a0 hla).1
    have h7 := (he.2.2 a0 hla).2.2.2.2
    refine lv_aload_n hx hb dX2_planBy_27 rfl (lv_at hl 6 rfl) ?_
    refine mg26 hx hb hts hown hK hP dX2_planBy_28 ?_
    refine lv_iload_n hx hb dX2_planBy_31 rfl (lv_at hl 7 rfl) ?_
    refine lv_iload hx hb dX2_planBy_32 (lv_at hl 0 rfl) ?_
    refine lv_iadd hx hb dX2_planBy_34 ?_
    refine top_i (y := nI (f + a0)) (nI_add _ _) ?_
    refine ma26 hx hb hK hP (by omega) dX2_planBy_35 ?_
    refine top_i (y := nI (ix (r a0))) ((htx a0 hla).trans (hrs a0 hla).2) ?_
    refine lv_istore (lv' := [(9, .int (nI (ix (r a0)))), (8, .int (nI a0)), (7, .int (if w < 10 then (0 : Int32) else nI (cntB (pG σ r) (ix (w - 10)) a0))), (6, .int (nI (setN (fun a => decide (popc (ix (r a)) < aN σ 3 a)) a0))), (5, .int (nI (setN (fun a => !(decide (pG σ r a = 0))) a0))), (4, .int (oI (lowB (anyN (pG σ r) a0) (aD σ)))), (3, .int (nI (sumN (fun a => fin (aN σ) (aD σ) (aF σ) a (ix (r a))) a0))), (0, .ref q), (1, .int (nI f)), (2, .int w)]) hx hb dX2_planBy_36 hl (by decide) rfl (fun ls hl => ?_)
    refine lv_aload_n hx hb dX2_planBy_38 rfl (lv_at hl 7 rfl) ?_
    refine lv_iload hx hb dX2_planBy_39 (lv_at hl 1 rfl) ?_
    refine lv_iload hx hb dX2_planBy_41 (lv_at hl 0 rfl) ?_
    refine callR_V (rest := []) hx hb hml hown hts KM_st hK (cM_foundBy l D d q Aq τ (aD σ) (aE σ) (aN σ) a0 (ix (r a0)) hd he hla (hrs a0 hla).1) (wX2_foundBy hts ⟨Nat.le_of_ble_eq_true rfl, Nat.le_of_ble_eq_true rfl⟩) (m_recv hK hP) hP rfl hl.1 rfl (Nat.le_of_ble_eq_true rfl) dX2_planBy_43 ⟨Nat.zero_le _, Nat.zero_le _⟩ ?_
    refine top_i (y := nI (fou (aN σ) (aD σ) (aF σ) a0 (ix (r a0)))) (by rw [hm.fast]) ?_
    refine top_i (y := nI (pG σ r a0)) (rfl) ?_
    refine lv_istore (lv' := [(10, .int (nI (pG σ r a0))), (9, .int (nI (ix (r a0)))), (8, .int (nI a0)), (7, .int (if w < 10 then (0 : Int32) else nI (cntB (pG σ r) (ix (w - 10)) a0))), (6, .int (nI (setN (fun a => decide (popc (ix (r a)) < aN σ 3 a)) a0))), (5, .int (nI (setN (fun a => !(decide (pG σ r a = 0))) a0))), (4, .int (oI (lowB (anyN (pG σ r) a0) (aD σ)))), (3, .int (nI (sumN (fun a => fin (aN σ) (aD σ) (aF σ) a (ix (r a))) a0))), (0, .ref q), (1, .int (nI f)), (2, .int w)]) hx hb dX2_planBy_46 hl (by decide) rfl (fun ls hl => ?_)
    refine lv_iload_n hx hb dX2_planBy_48 rfl (lv_at hl 7 rfl) ?_
    refine lv_aload_n hx hb dX2_planBy_49 rfl (lv_at hl 8 rfl) ?_
    refine lv_iload hx hb dX2_planBy_50 (lv_at hl 2 rfl) ?_
    refine lv_iload hx hb dX2_planBy_52 (lv_at hl 1 rfl) ?_
    refine callR_V (rest := [.int (nI (sumN (fun a => fin (aN σ) (aD σ) (aF σ) a (ix (r a))) a0))]) hx hb hml hown hts KM_st hK (cM_fineOf l D d q Aq τ (aD σ) (aE σ) (aN σ) a0 (ix (r a0)) hd he hla (hrs a0 hla).1) (wX2_fineOf hts ⟨Nat.le_of_ble_eq_true rfl, Nat.le_of_ble_eq_true rfl⟩) (m_recv hK hP) hP rfl hl.1 rfl (Nat.le_of_ble_eq_true rfl) dX2_planBy_54 ⟨Nat.zero_le _, Nat.zero_le _⟩ ?_
    refine top_i (y := nI (fin (aN σ) (aD σ) (aF σ) a0 (ix (r a0)))) (by rw [hm.fast]) ?_
    refine lv_iadd hx hb dX2_planBy_57 ?_
    refine top_i (y := nI (sumN (fun a => fin (aN σ) (aD σ) (aF σ) a (ix (r a))) (a0 + 1))) (nI_add _ _) ?_
    refine lv_istore_n (lv' := [(3, .int (nI (sumN (fun a => fin (aN σ) (aD σ) (aF σ) a (ix (r a))) (a0 + 1)))), (10, .int (nI (pG σ r a0))), (9, .int (nI (ix (r a0)))), (8, .int (nI a0)), (7, .int (if w < 10 then (0 : Int32) else nI (cntB (pG σ r) (ix (w - 10)) a0))), (6, .int (nI (setN (fun a => decide (popc (ix (r a)) < aN σ 3 a)) a0))), (5, .int (nI (setN (fun a => !(decide (pG σ r a = 0))) a0))), (4, .int (oI (lowB (anyN (pG σ r) a0) (aD σ)))), (0, .ref q), (1, .int (nI f)), (2, .int w)]) hx hb dX2_planBy_58 rfl hl (by decide) rfl (fun ls hl => ?_)
    refine lv_iload hx hb dX2_planBy_59 (lv_at hl 6 rfl) ?_
    refine lv_iload hx hb dX2_planBy_61 (lv_at hl 1 rfl) ?_
    refine jn_i (ls := ls) (P := fun v1 => v1 = (if nI (pG σ r a0) ≤ 0 then (0 : Int32) else ((1 : Int32) <<< (nI a0 &&& 31)))) 74 [.int (nI (setN (fun a => !(decide (pG σ r a = 0))) a0))] (fun v1 ev1 => ?_) (fun kj7 => ?_)
    · refine lv_ior hx hb dX2_planBy_74 ?_
      refine top_i (y := nI (setN (fun a => !(decide (pG σ r a = 0))) (a0 + 1))) (by rw [ev1, who_step hg (by omega) rfl]) ?_
      refine lv_istore (lv' := [(5, .int (nI (setN (fun a => !(decide (pG σ r a = 0))) (a0 + 1)))), (3, .int (nI (sumN (fun a => fin (aN σ) (aD σ) (aF σ) a (ix (r a))) (a0 + 1)))), (10, .int (nI (pG σ r a0))), (9, .int (nI (ix (r a0)))), (8, .int (nI a0)), (7, .int (if w < 10 then (0 : Int32) else nI (cntB (pG σ r) (ix (w - 10)) a0))), (6, .int (nI (setN (fun a => decide (popc (ix (r a)) < aN σ 3 a)) a0))), (4, .int (oI (lowB (anyN (pG σ r) a0) (aD σ)))), (0, .ref q), (1, .int (nI f)), (2, .int w)]) hx hb dX2_planBy_75 hl (by decide) rfl (fun ls hl => ?_)
      refine lv_iload hx hb dX2_planBy_77 (lv_at hl 6 rfl) ?_
      refine lv_iload hx hb dX2_planBy_79 (lv_at hl 3 rfl) ?_
      refine callR_S (rest := [.int (nI (setN (fun a => decide (popc (ix (r a)) < aN σ 3 a)) a0))]) hx hb hml hown hts KM_st hK (cM_bits l D d (nI (ix (r a0)))) (wX2_bits hts ⟨Nat.le_of_ble_eq_true rfl, Nat.le_of_ble_eq_true rfl⟩) trivial rfl hl.1 rfl (Nat.le_of_ble_eq_true rfl) dX2_planBy_81 ⟨Nat.zero_le _, Nat.zero_le _⟩ ?_
      refine top_i (y := nI (popc (ix (r a0)))) (pBits_nI _ (Nat.lt_of_lt_of_le (hrs a0 hla).1 h64)) ?_
      refine lv_aload_n hx hb dX2_planBy_84 rfl (lv_at hl 8 rfl) ?_
      refine mg8 hx hb hts hown hK hP dX2_planBy_85 ?_
      refine lv_iload hx hb dX2_planBy_88 (lv_at hl 4 rfl) ?_
      refine ma8 hx hb hK hP (he.lt hla) dX2_planBy_90 ?_
      refine top_i (y := nI (aN σ 3 a0)) ((he.2.2 a0 hla).2.2.2.1) ?_
      refine jn_i (ls := ls) (P := fun v2 => v2 = (if nI (aN σ 3 a0) ≤ nI (popc (ix (r a0))) then (0 : Int32) else ((1 : Int32) <<< (nI a0 &&& 31)))) 102 [.int (nI (setN (fun a => decide (popc (ix (r a)) < aN σ 3 a)) a0))] (fun v2 ev2 => ?_) (fun kj8 => ?_)
      · refine lv_ior hx hb dX2_planBy_102 ?_
        refine top_i (y := nI (setN (fun a => decide (popc (ix (r a)) < aN σ 3 a)) (a0 + 1))) (by rw [ev2, hun_step (by have := popc_le (ix (r a0)); omega) (by omega) (by omega) rfl]) ?_
        refine lv_istore (lv' := [(6, .int (nI (setN (fun a => decide (popc (ix (r a)) < aN σ 3 a)) (a0 + 1)))), (5, .int (nI (setN (fun a => !(decide (pG σ r a = 0))) (a0 + 1)))), (3, .int (nI (sumN (fun a => fin (aN σ) (aD σ) (aF σ) a (ix (r a))) (a0 + 1)))), (10, .int (nI (pG σ r a0))), (9, .int (nI (ix (r a0)))), (8, .int (nI a0)), (7, .int (if w < 10 then (0 : Int32) else nI (cntB (pG σ r) (ix (w - 10)) a0))), (4, .int (oI (lowB (anyN (pG σ r) a0) (aD σ)))), (0, .ref q), (1, .int (nI f)), (2, .int w)]) hx hb dX2_planBy_103 hl (by decide) rfl (fun ls hl => ?_)
        refine lv_iload hx hb dX2_planBy_105 (lv_at hl 6 rfl) ?_
        refine lv_iload_n hx hb dX2_planBy_107 rfl (lv_at hl 10 rfl) ?_
        refine lv_bipush (v := 10) hx hb dX2_planBy_108 (by decide) ?_
        refine jn_i (ls := ls) (P := fun v3 => v3 = (if w < 10 then (0 : Int32) else (if (pBit (nI (pG σ r a0)) (w - 10)) = false then (0 : Int32) else (1 : Int32)))) 130 [.int (if w < 10 then (0 : Int32) else nI (cntB (pG σ r) (ix (w - 10)) a0))] (fun v3 ev3 => ?_) (fun kj9 => ?_)
        · refine lv_iadd hx hb dX2_planBy_130 ?_
          refine top_i (y := (if w < 10 then (0 : Int32) else nI (cntB (pG σ r) (ix (w - 10)) (a0 + 1)))) (by rw [ev3, onday_step hg hw]) ?_
          refine lv_istore (lv' := [(7, .int (if w < 10 then (0 : Int32) else nI (cntB (pG σ r) (ix (w - 10)) (a0 + 1)))), (6, .int (nI (setN (fun a => decide (popc (ix (r a)) < aN σ 3 a)) (a0 + 1)))), (5, .int (nI (setN (fun a => !(decide (pG σ r a = 0))) (a0 + 1)))), (3, .int (nI (sumN (fun a => fin (aN σ) (aD σ) (aF σ) a (ix (r a))) (a0 + 1)))), (10, .int (nI (pG σ r a0))), (9, .int (nI (ix (r a0)))), (8, .int (nI a0)), (4, .int (oI (lowB (anyN (pG σ r) a0) (aD σ)))), (0, .ref q), (1, .int (nI f)), (2, .int w)]) hx hb dX2_planBy_131 hl (by decide) rfl (fun ls hl => ?_)
          refine lv_aload_n hx hb dX2_planBy_133 rfl (lv_at hl 8 rfl) ?_
          refine mg2 hx hb hts hown hK hP dX2_planBy_134 ?_
          refine top_i (y := nI (aD σ)) (hm.day.2) ?_
          refine lv_iconst (v := 1) hx hb dX2_planBy_137 (by decide) ?_
          refine lv_isub hx hb dX2_planBy_138 ?_
          refine lv_istore (lv' := [(11, .int (nI (aD σ) - 1)), (7, .int (if w < 10 then (0 : Int32) else nI (cntB (pG σ r) (ix (w - 10)) (a0 + 1)))), (6, .int (nI (setN (fun a => decide (popc (ix (r a)) < aN σ 3 a)) (a0 + 1)))), (5, .int (nI (setN (fun a => !(decide (pG σ r a = 0))) (a0 + 1)))), (3, .int (nI (sumN (fun a => fin (aN σ) (aD σ) (aF σ) a (ix (r a))) (a0 + 1)))), (10, .int (nI (pG σ r a0))), (9, .int (nI (ix (r a0)))), (8, .int (nI a0)), (4, .int (oI (lowB (anyN (pG σ r) a0) (aD σ)))), (0, .ref q), (1, .int (nI f)), (2, .int w)]) hx hb dX2_planBy_139 hl (by decide) rfl (fun ls hl => ?_)
          refine lp_R (σ := Nat) (fun n141 zz => zz + n141 = aD σ) (fun zz => [(11, .int (nI (aD σ - zz) - 1)), (7, .int (if w < 10 then (0 : Int32) else nI (cntB (pG σ r) (ix (w - 10)) (a0 + 1)))), (6, .int (nI (setN (fun a => decide (popc (ix (r a)) < aN σ 3 a)) (a0 + 1)))), (5, .int (nI (setN (fun a => !(decide (pG σ r a = 0))) (a0 + 1)))), (3, .int (nI (sumN (fun a => fin (aN σ) (aD σ) (aF σ) a (ix (r a))) (a0 + 1)))), (10, .int (nI (pG σ r a0))), (9, .int (nI (ix (r a0)))), (8, .int (nI a0)), (4, .int (oI (lowD (pG σ r a0) (lowB (anyN (pG σ r) a0) (aD σ)) (aD σ) zz))), (0, .ref q), (1, .int (nI f)), (2, .int w)]) (fun n141 zz hI ih141 ls hl => ?_) (aD σ) 0 (by omega) hl
          obtain ⟨k, rfl⟩ : ∃ y, y = zz := ⟨_, rfl⟩
          have hI : k + n141 = aD σ := hI
          obtain hik := hI
          have hl : lv_has ls 12 [(11, .int (nI (aD σ - k) - 1)), (7, .int (if w < 10 then (0 : Int32) else nI (cntB (pG σ r) (ix (w - 10)) (a0 + 1)))), (6, .int (nI (setN (fun a => decide (popc (ix (r a)) < aN σ 3 a)) (a0 + 1)))), (5, .int (nI (setN (fun a => !(decide (pG σ r a = 0))) (a0 + 1)))), (3, .int (nI (sumN (fun a => fin (aN σ) (aD σ) (aF σ) a (ix (r a))) (a0 + 1)))), (10, .int (nI (pG σ r a0))), (9, .int (nI (ix (r a0)))), (8, .int (nI a0)), (4, .int (oI (lowD (pG σ r a0) (lowB (anyN (pG σ r) a0) (aD σ)) (aD σ) k))), (0, .ref q), (1, .int (nI f)), (2, .int w)] := hl
          refine lv_iload hx hb dX2_planBy_141 (lv_at hl 0 rfl) ?_
          refine lv_if_lt (tgt := 183) hx hb dX2_planBy_143 (by decide) (fun c10 => ?_) (fun c10 => ?_)
          · have hk0 : k = aD σ := by have hz : aD σ - k = 0 := (pd_neg (n := aD σ - k) (by omega)).mp c10; omega
            have el : (lowD (pG σ r a0) (lowB (anyN (pG σ r) a0) (aD σ)) (aD σ) k) = (lowB (anyN (pG σ r) (a0 + 1)) (aD σ)) := by rw [hk0]; exact lowD_eq _ (by omega) _ (anyN_lt (fun a ha => fou_lt hD6 (hrs a (by omega)).1)) _ hg
            rw [el] at hl
            have hl : lv_has ls 12 [(11, .int (nI (aD σ - k) - 1)), (7, .int (if w < 10 then (0 : Int32) else nI (cntB (pG σ r) (ix (w - 10)) (a0 + 1)))), (6, .int (nI (setN (fun a => decide (popc (ix (r a)) < aN σ 3 a)) (a0 + 1)))), (5, .int (nI (setN (fun a => !(decide (pG σ r a = 0))) (a0 + 1)))), (3, .int (nI (sumN (fun a => fin (aN σ) (aD σ) (aF σ) a (ix (r a))) (a0 + 1)))), (10, .int (nI (pG σ r a0))), (9, .int (nI (ix (r a0)))), (8, .int (nI a0)), (4, .int (oI (lowB (anyN (pG σ r) (a0 + 1)) (aD σ)))), (0, .ref q), (1, .int (nI f)), (2, .int w)] := hl
            refine lv_iinc (v := nI (a0 + 1)) (lv' := [(8, .int (nI (a0 + 1))), (11, .int (nI (aD σ - k) - 1)), (7, .int (if w < 10 then (0 : Int32) else nI (cntB (pG σ r) (ix (w - 10)) (a0 + 1)))), (6, .int (nI (setN (fun a => decide (popc (ix (r a)) < aN σ 3 a)) (a0 + 1)))), (5, .int (nI (setN (fun a => !(decide (pG σ r a = 0))) (a0 + 1)))), (3, .int (nI (sumN (fun a => fin (aN σ) (aD σ) (aF σ) a (ix (r a))) (a0 + 1)))), (10, .int (nI (pG σ r a0))), (9, .int (nI (ix (r a0)))), (4, .int (oI (lowB (anyN (pG σ r) (a0 + 1)) (aD σ)))), (0, .ref q), (1, .int (nI f)), (2, .int w)]) hx hb dX2_planBy_183 hl (k := 7) rfl (inc_nI _) (by decide) rfl (fun ls hl => ?_)
            refine lv_goto (tgt := 18) hx hb dX2_planBy_186 (by decide) ?_
            exact ih18 (n18 - 1) (a0 + 1) ls (by omega) (by omega) ((lv_sub hl [0, 2, 3, 4, 8, 5, 9, 10, 11] rfl))
          · have hkd : k < aD σ := by have hz : ¬ aD σ - k = 0 := fun z => absurd ((pd_neg (n := aD σ - k) (by omega)).mpr z) c10; omega
            have ed : nI (aD σ - k) - 1 = nI (aD σ - 1 - k) := by rw [show aD σ - k = (aD σ - 1 - k) + 1 by omega]; exact nI_pred _
            rw [ed] at hl
            have hl : lv_has ls 12 [(11, .int (nI (aD σ - 1 - k))), (7, .int (if w < 10 then (0 : Int32) else nI (cntB (pG σ r) (ix (w - 10)) (a0 + 1)))), (6, .int (nI (setN (fun a => decide (popc (ix (r a)) < aN σ 3 a)) (a0 + 1)))), (5, .int (nI (setN (fun a => !(decide (pG σ r a = 0))) (a0 + 1)))), (3, .int (nI (sumN (fun a => fin (aN σ) (aD σ) (aF σ) a (ix (r a))) (a0 + 1)))), (10, .int (nI (pG σ r a0))), (9, .int (nI (ix (r a0)))), (8, .int (nI a0)), (4, .int (oI (lowD (pG σ r a0) (lowB (anyN (pG σ r) a0) (aD σ)) (aD σ) k))), (0, .ref q), (1, .int (nI f)), (2, .int w)] := hl
            refine lv_iload hx hb dX2_planBy_146 (lv_at hl 5 rfl) ?_
            refine lv_iload hx hb dX2_planBy_148 (lv_at hl 0 rfl) ?_
            refine callR_S (rest := []) hx hb hml hown hts KM_st hK (cM_isIn l D d (nI (pG σ r a0)) (nI (aD σ - 1 - k))) (wX2_isIn hts ⟨Nat.le_of_ble_eq_true rfl, Nat.le_of_ble_eq_true rfl⟩) trivial rfl hl.1 rfl (Nat.le_of_ble_eq_true rfl) dX2_planBy_150 ⟨Nat.zero_le _, Nat.zero_le _⟩ ?_
            refine top_i (y := bI ((pG σ r a0).testBit (aD σ - 1 - k))) (by rw [pBit_nI _ hg _ (by omega)]) ?_
            refine bz_eq (tgt := 173) hx hb dX2_planBy_153 (by decide) (fun c11 => ?_) (fun c11 => ?_)
            · refine lv_iload hx hb dX2_planBy_173 (lv_at hl 8 rfl) ?_
              refine lv_istore (lv' := [(4, .int (oI (lowD (pG σ r a0) (lowB (anyN (pG σ r) a0) (aD σ)) (aD σ) k))), (11, .int (nI (aD σ - 1 - k))), (7, .int (if w < 10 then (0 : Int32) else nI (cntB (pG σ r) (ix (w - 10)) (a0 + 1)))), (6, .int (nI (setN (fun a => decide (popc (ix (r a)) < aN σ 3 a)) (a0 + 1)))), (5, .int (nI (setN (fun a => !(decide (pG σ r a = 0))) (a0 + 1)))), (3, .int (nI (sumN (fun a => fin (aN σ) (aD σ) (aF σ) a (ix (r a))) (a0 + 1)))), (10, .int (nI (pG σ r a0))), (9, .int (nI (ix (r a0)))), (8, .int (nI a0)), (0, .ref q), (1, .int (nI f)), (2, .int w)]) hx hb dX2_planBy_175 hl (by decide) rfl (fun ls hl => ?_)
              refine lv_iinc (v := (nI (aD σ - 1 - k)) + (-1)) (lv' := [(11, .int ((nI (aD σ - 1 - k)) + (-1))), (4, .int (oI (lowD (pG σ r a0) (lowB (anyN (pG σ r) a0) (aD σ)) (aD σ) k))), (7, .int (if w < 10 then (0 : Int32) else nI (cntB (pG σ r) (ix (w - 10)) (a0 + 1)))), (6, .int (nI (setN (fun a => decide (popc (ix (r a)) < aN σ 3 a)) (a0 + 1)))), (5, .int (nI (setN (fun a => !(decide (pG σ r a = 0))) (a0 + 1)))), (3, .int (nI (sumN (fun a => fin (aN σ) (aD σ) (aF σ) a (ix (r a))) (a0 + 1)))), (10, .int (nI (pG σ r a0))), (9, .int (nI (ix (r a0)))), (8, .int (nI a0)), (0, .ref q), (1, .int (nI f)), (2, .int w)]) hx hb dX2_planBy_177 hl (k := 1) rfl (rfl) (by decide) rfl (fun ls hl => ?_)
              refine lv_goto (tgt := 141) hx hb dX2_planBy_180 (by decide) ?_
              have es : (lowD (pG σ r a0) (lowB (anyN (pG σ r) a0) (aD σ)) (aD σ) (k + 1)) = (lowD (pG σ r a0) (lowB (anyN (pG σ r) a0) (aD σ)) (aD σ) k) := lowD_keep c11
              exact ih141 (n141 - 1) (k + 1) ls (by omega) (by omega) ((by rw [pd_dec _ _ hkd] at hl; rw [es]; exact (lv_sub hl [0, 2, 3, 4, 5, 6, 7, 8, 1, 9, 10, 11] rfl)))
            · rcases hb0 : lowD (pG σ r a0) (lowB (anyN (pG σ r) a0) (aD σ)) (aD σ) k with _ | b
              · rw [hb0] at hl
                have hl : lv_has ls 12 [(11, .int (nI (aD σ - 1 - k))), (7, .int (if w < 10 then (0 : Int32) else nI (cntB (pG σ r) (ix (w - 10)) (a0 + 1)))), (6, .int (nI (setN (fun a => decide (popc (ix (r a)) < aN σ 3 a)) (a0 + 1)))), (5, .int (nI (setN (fun a => !(decide (pG σ r a = 0))) (a0 + 1)))), (3, .int (nI (sumN (fun a => fin (aN σ) (aD σ) (aF σ) a (ix (r a))) (a0 + 1)))), (10, .int (nI (pG σ r a0))), (9, .int (nI (ix (r a0)))), (8, .int (nI a0)), (4, .int (-9)), (0, .ref q), (1, .int (nI f)), (2, .int w)] := hl
                refine lv_iload hx hb dX2_planBy_156 (lv_at hl 8 rfl) ?_
                refine lv_if_lt (tgt := 168) hx hb dX2_planBy_158 (by decide) (fun c0 => ?_) (fun c0 => absurd (by decide) c0)
                refine lv_iload hx hb dX2_planBy_168 (lv_at hl 0 rfl) ?_
                refine lv_goto (tgt := 175) hx hb dX2_planBy_170 (by decide) ?_
                refine lv_istore (lv' := [(4, .int (nI (aD σ - 1 - k))), (11, .int (nI (aD σ - 1 - k))), (7, .int (if w < 10 then (0 : Int32) else nI (cntB (pG σ r) (ix (w - 10)) (a0 + 1)))), (6, .int (nI (setN (fun a => decide (popc (ix (r a)) < aN σ 3 a)) (a0 + 1)))), (5, .int (nI (setN (fun a => !(decide (pG σ r a = 0))) (a0 + 1)))), (3, .int (nI (sumN (fun a => fin (aN σ) (aD σ) (aF σ) a (ix (r a))) (a0 + 1)))), (10, .int (nI (pG σ r a0))), (9, .int (nI (ix (r a0)))), (8, .int (nI a0)), (0, .ref q), (1, .int (nI f)), (2, .int w)]) hx hb dX2_planBy_175 hl (by decide) rfl (fun ls hl => ?_)
                refine lv_iinc (v := (nI (aD σ - 1 - k)) + (-1)) (lv' := [(11, .int ((nI (aD σ - 1 - k)) + (-1))), (4, .int (nI (aD σ - 1 - k))), (7, .int (if w < 10 then (0 : Int32) else nI (cntB (pG σ r) (ix (w - 10)) (a0 + 1)))), (6, .int (nI (setN (fun a => decide (popc (ix (r a)) < aN σ 3 a)) (a0 + 1)))), (5, .int (nI (setN (fun a => !(decide (pG σ r a = 0))) (a0 + 1)))), (3, .int (nI (sumN (fun a => fin (aN σ) (aD σ) (aF σ) a (ix (r a))) (a0 + 1)))), (10, .int (nI (pG σ r a0))), (9, .int (nI (ix (r a0)))), (8, .int (nI a0)), (0, .ref q), (1, .int (nI f)), (2, .int w)]) hx hb dX2_planBy_177 hl (k := 1) rfl (rfl) (by decide) rfl (fun ls hl => ?_)
                refine lv_goto (tgt := 141) hx hb dX2_planBy_180 (by decide) ?_
                have es : (lowD (pG σ r a0) (lowB (anyN (pG σ r) a0) (aD σ)) (aD σ) (k + 1)) = some (aD σ - 1 - k) := lowD_new c11 hb0
                exact ih141 (n141 - 1) (k + 1) ls (by omega) (by omega) ((by rw [pd_dec _ _ hkd] at hl; rw [es]; exact (lv_sub hl [0, 2, 3, 4, 5, 6, 7, 8, 1, 9, 10, 11] rfl)))
              · rw [hb0] at hl
                have hl : lv_has ls 12 [(11, .int (nI (aD σ - 1 - k))), (7, .int (if w < 10 then (0 : Int32) else nI (cntB (pG σ r) (ix (w - 10)) (a0 + 1)))), (6, .int (nI (setN (fun a => decide (popc (ix (r a)) < aN σ 3 a)) (a0 + 1)))), (5, .int (nI (setN (fun a => !(decide (pG σ r a = 0))) (a0 + 1)))), (3, .int (nI (sumN (fun a => fin (aN σ) (aD σ) (aF σ) a (ix (r a))) (a0 + 1)))), (10, .int (nI (pG σ r a0))), (9, .int (nI (ix (r a0)))), (8, .int (nI a0)), (4, .int (nI b)), (0, .ref q), (1, .int (nI f)), (2, .int w)] := hl
                have hb1 := lowD_bd (fun b hb2 => by have := lowB_lt _ b hb2; omega) (by omega) k b hb0
                refine lv_iload hx hb dX2_planBy_156 (lv_at hl 8 rfl) ?_
                refine lv_if_lt (tgt := 168) hx hb dX2_planBy_158 (by decide) (fun c0 => absurd c0 (nI_pos (by omega))) (fun c0 => ?_)
                refine lv_iload hx hb dX2_planBy_161 (lv_at hl 0 rfl) ?_
                refine lv_iload hx hb dX2_planBy_163 (lv_at hl 8 rfl) ?_
                refine nc_ge (tgt := 173) hx hb dX2_planBy_165 (by decide) (by omega) (by omega) (fun c12 => ?_) (fun c12 => ?_)
                · refine lv_iload hx hb dX2_planBy_173 (lv_at hl 8 rfl) ?_
                  refine lv_istore (lv' := [(4, .int (nI b)), (11, .int (nI (aD σ - 1 - k))), (7, .int (if w < 10 then (0 : Int32) else nI (cntB (pG σ r) (ix (w - 10)) (a0 + 1)))), (6, .int (nI (setN (fun a => decide (popc (ix (r a)) < aN σ 3 a)) (a0 + 1)))), (5, .int (nI (setN (fun a => !(decide (pG σ r a = 0))) (a0 + 1)))), (3, .int (nI (sumN (fun a => fin (aN σ) (aD σ) (aF σ) a (ix (r a))) (a0 + 1)))), (10, .int (nI (pG σ r a0))), (9, .int (nI (ix (r a0)))), (8, .int (nI a0)), (0, .ref q), (1, .int (nI f)), (2, .int w)]) hx hb dX2_planBy_175 hl (by decide) rfl (fun ls hl => ?_)
                  refine lv_iinc (v := (nI (aD σ - 1 - k)) + (-1)) (lv' := [(11, .int ((nI (aD σ - 1 - k)) + (-1))), (4, .int (nI b)), (7, .int (if w < 10 then (0 : Int32) else nI (cntB (pG σ r) (ix (w - 10)) (a0 + 1)))), (6, .int (nI (setN (fun a => decide (popc (ix (r a)) < aN σ 3 a)) (a0 + 1)))), (5, .int (nI (setN (fun a => !(decide (pG σ r a = 0))) (a0 + 1)))), (3, .int (nI (sumN (fun a => fin (aN σ) (aD σ) (aF σ) a (ix (r a))) (a0 + 1)))), (10, .int (nI (pG σ r a0))), (9, .int (nI (ix (r a0)))), (8, .int (nI a0)), (0, .ref q), (1, .int (nI f)), (2, .int w)]) hx hb dX2_planBy_177 hl (k := 1) rfl (rfl) (by decide) rfl (fun ls hl => ?_)
                  refine lv_goto (tgt := 141) hx hb dX2_planBy_180 (by decide) ?_
                  have es : (lowD (pG σ r a0) (lowB (anyN (pG σ r) a0) (aD σ)) (aD σ) (k + 1)) = some b := lowD_ge c11 hb0 c12
                  exact ih141 (n141 - 1) (k + 1) ls (by omega) (by omega) ((by rw [pd_dec _ _ hkd] at hl; rw [es]; exact (lv_sub hl [0, 2, 3, 4, 5, 6, 7, 8, 1, 9, 10, 11] rfl)))
                · refine lv_iload hx hb dX2_planBy_168 (lv_at hl 0 rfl) ?_
                  refine lv_goto (tgt := 175) hx hb dX2_planBy_170 (by decide) ?_
                  refine lv_istore (lv' := [(4, .int (nI (aD σ - 1 - k))), (11, .int (nI (aD σ - 1 - k))), (7, .int (if w < 10 then (0 : Int32) else nI (cntB (pG σ r) (ix (w - 10)) (a0 + 1)))), (6, .int (nI (setN (fun a => decide (popc (ix (r a)) < aN σ 3 a)) (a0 + 1)))), (5, .int (nI (setN (fun a => !(decide (pG σ r a = 0))) (a0 + 1)))), (3, .int (nI (sumN (fun a => fin (aN σ) (aD σ) (aF σ) a (ix (r a))) (a0 + 1)))), (10, .int (nI (pG σ r a0))), (9, .int (nI (ix (r a0)))), (8, .int (nI a0)), (0, .ref q), (1, .int (nI f)), (2, .int w)]) hx hb dX2_planBy_175 hl (by decide) rfl (fun ls hl => ?_)
                  refine lv_iinc (v := (nI (aD σ - 1 - k)) + (-1)) (lv' := [(11, .int ((nI (aD σ - 1 - k)) + (-1))), (4, .int (nI (aD σ - 1 - k))), (7, .int (if w < 10 then (0 : Int32) else nI (cntB (pG σ r) (ix (w - 10)) (a0 + 1)))), (6, .int (nI (setN (fun a => decide (popc (ix (r a)) < aN σ 3 a)) (a0 + 1)))), (5, .int (nI (setN (fun a => !(decide (pG σ r a = 0))) (a0 + 1)))), (3, .int (nI (sumN (fun a => fin (aN σ) (aD σ) (aF σ) a (ix (r a))) (a0 + 1)))), (10, .int (nI (pG σ r a0))), (9, .int (nI (ix (r a0)))), (8, .int (nI a0)), (0, .ref q), (1, .int (nI f)), (2, .int w)]) hx hb dX2_planBy_177 hl (k := 1) rfl (rfl) (by decide) rfl (fun ls hl => ?_)
                  refine lv_goto (tgt := 141) hx hb dX2_planBy_180 (by decide) ?_
                  have es : (lowD (pG σ r a0) (lowB (anyN (pG σ r) a0) (aD σ)) (aD σ) (k + 1)) = some (aD σ - 1 - k) := lowD_lt c11 hb0 c12
                  exact ih141 (n141 - 1) (k + 1) ls (by omega) (by omega) ((by rw [pd_dec _ _ hkd] at hl; rw [es]; exact (lv_sub hl [0, 2, 3, 4, 5, 6, 7, 8, 1, 9, 10, 11] rfl)))
        · refine lv_icmp_lt (tgt := 129) hx hb dX2_planBy_110 (by decide) (fun c13 => ?_) (fun c13 => ?_)
          · refine lv_iconst (v := 0) hx hb dX2_planBy_129 (by decide) ?_
            exact kj9 _ (by rw [if_pos c13])
          · refine lv_iload hx hb dX2_planBy_113 (lv_at hl 3 rfl) ?_
            refine lv_iload_n hx hb dX2_planBy_115 rfl (lv_at hl 10 rfl) ?_
            refine lv_bipush (v := 10) hx hb dX2_planBy_116 (by decide) ?_
            refine lv_isub hx hb dX2_planBy_118 ?_
            refine callR_S (rest := [.int (if w < 10 then (0 : Int32) else nI (cntB (pG σ r) (ix (w - 10)) a0))]) hx hb hml hown hts KM_st hK (cM_isIn l D d (nI (pG σ r a0)) (w - 10)) (wX2_isIn hts ⟨Nat.le_of_ble_eq_true rfl, Nat.le_of_ble_eq_true rfl⟩) trivial rfl hl.1 rfl (Nat.le_of_ble_eq_true rfl) dX2_planBy_119 ⟨Nat.zero_le _, Nat.zero_le _⟩ ?_
            refine bz_eq (tgt := 129) hx hb dX2_planBy_122 (by decide) (fun c14 => ?_) (fun c14 => ?_)
            · refine lv_iconst (v := 0) hx hb dX2_planBy_129 (by decide) ?_
              exact kj9 _ (by rw [if_neg c13, if_pos c14])
            · refine lv_iconst (v := 1) hx hb dX2_planBy_125 (by decide) ?_
              refine lv_goto (tgt := 130) hx hb dX2_planBy_126 (by decide) ?_
              exact kj9 _ (by rw [if_neg c13, if_neg (bt_nf c14)])
      · refine lv_icmp_ge (tgt := 101) hx hb dX2_planBy_91 (by decide) (fun c15 => ?_) (fun c15 => ?_)
        · refine lv_iconst (v := 0) hx hb dX2_planBy_101 (by decide) ?_
          exact kj8 _ (by rw [if_pos c15])
        · refine lv_iconst (v := 1) hx hb dX2_planBy_94 (by decide) ?_
          refine lv_iload hx hb dX2_planBy_95 (lv_at hl 4 rfl) ?_
          refine lv_ishl hx hb dX2_planBy_97 ?_
          refine lv_goto (tgt := 102) hx hb dX2_planBy_98 (by decide) ?_
          exact kj8 _ (by rw [if_neg c15])
    · refine lv_if_le (tgt := 73) hx hb dX2_planBy_63 (by decide) (fun c16 => ?_) (fun c16 => ?_)
      · refine lv_iconst (v := 0) hx hb dX2_planBy_73 (by decide) ?_
        exact kj7 _ (by rw [if_pos c16])
      · refine lv_iconst (v := 1) hx hb dX2_planBy_66 (by decide) ?_
        refine lv_iload hx hb dX2_planBy_67 (lv_at hl 3 rfl) ?_
        refine lv_ishl hx hb dX2_planBy_69 ?_
        refine lv_goto (tgt := 74) hx hb dX2_planBy_70 (by decide) ?_
        exact kj7 _ (by rw [if_neg c16])

set_option maxHeartbeats 4000000 in
set_option maxRecDepth 100000 in
theorem cM_plan (l : Launch) (D : va_G) (d : Nat → ClassId) (H00 : Heap) (q : Nat) (Aq : Nat → Nat) (τ : Nat → Nat → Int32) (σ : ASt) (k x i n w : Int32) (hm : mRep σ τ)  : cU l (KM D d) H00 D yX2_plan cX2_plan 9 (some .int) (rc 5 0 0) [.ref q, .int k, .int x, .int i, .int n, .int w] (mw d q Aq τ) (mPost d q Aq (some (.int (f_plan σ k x i n w).1)) (f_plan σ k x i n w).2) := by
  refine cU_start RX2 rfl (by decide) (Nat.le_of_ble_eq_true rfl) ?_
  intro p e s m below meth c A hx hb hml hown hts hr hlk hnm hK hA hAN hZ hu ls hl
  have hl : lv_has ls 9 [(0, .ref q), (1, .int k), (2, .int x), (3, .int i), (4, .int n), (5, .int w)] := hl
  have hok := hm.ok
  have hD6 : aD σ ≤ 6 := hok.1
  have hE4 : aE σ ≤ 4 := hok.2.1
  have h64 := pow6 hD6
  have hd := hm.day
  have he := hm.eat
  refine lv_iload_n hx hb dX2_plan_0 rfl (lv_at hl 1 rfl) ?_
  refine callR_S (rest := []) hx hb hml hown hts KM_st hK (cM_noSheet l D d k) (wX2_noSheet hts ⟨Nat.le_of_ble_eq_true rfl, Nat.le_of_ble_eq_true rfl⟩) trivial rfl hl.1 rfl (Nat.le_of_ble_eq_true rfl) dX2_plan_1 ⟨Nat.le_of_ble_eq_true rfl, Nat.le_of_ble_eq_true rfl⟩ ?_
  refine bzn_eq (tgt := 13) hx hb dX2_plan_4 (by decide) (fun c1 => ?_) (fun c1 => ?_)
  · obtain ⟨jk, hjk, ej⟩ := pIn_k (k := 3) (by decide) (by decide) c1
    subst ej
    have ejk : ix (nI jk) = jk := nI_clamp (by omega)
    refine lv_iload hx hb dX2_plan_13 (lv_at hl 5 rfl) ?_
    refine lv_i2l (v := w.toInt64) hx hb dX2_plan_15 rfl ?_
    refine lv_lconst (v := 0) hx hb dX2_plan_16 (by decide) ?_
    refine lv_ldc2 (v := 3) hx hb hown (hts _ q999) dX2_plan_17 ?_
    refine callR_S (rest := []) hx hb hml hown hts KM_st hK (cM_in l D d w.toInt64 0 3) (wX2_in hts ⟨Nat.le_of_ble_eq_true rfl, Nat.le_of_ble_eq_true rfl⟩) trivial rfl hl.1 rfl (Nat.le_of_ble_eq_true rfl) dX2_plan_20 ⟨Nat.le_of_ble_eq_true rfl, Nat.le_of_ble_eq_true rfl⟩ ?_
    refine jn_i (ls := ls) (P := fun v6 => v6 = (if (pIn w.toInt64 0 3) = true then (1 : Int32) else (if (pIn w.toInt64 10 15) = false then (0 : Int32) else (1 : Int32)))) 46 [] (fun v6 ev6 => ?_) (fun kj2 => ?_)
    · refine top_i (y := bI (okW w)) (by rw [ev6, okW]; exact okW_if _ _) ?_
      refine lv_istore (lv' := [(6, .int (bI (okW w))), (0, .ref q), (1, .int (nI jk)), (2, .int x), (3, .int i), (4, .int n), (5, .int w)]) hx hb dX2_plan_46 hl (by decide) rfl (fun ls hl => ?_)
      refine lv_iload_n hx hb dX2_plan_48 rfl (lv_at hl 3 rfl) ?_
      refine lv_i2l (v := x.toInt64) hx hb dX2_plan_49 rfl ?_
      refine lv_lconst (v := 0) hx hb dX2_plan_50 (by decide) ?_
      refine lv_ldc2 (v := 2) hx hb hown (hts _ q1007) dX2_plan_51 ?_
      refine callR_S (rest := []) hx hb hml hown hts KM_st hK (cM_in l D d x.toInt64 0 2) (wX2_in hts ⟨Nat.le_of_ble_eq_true rfl, Nat.le_of_ble_eq_true rfl⟩) trivial rfl hl.1 rfl (Nat.le_of_ble_eq_true rfl) dX2_plan_54 ⟨Nat.le_of_ble_eq_true rfl, Nat.le_of_ble_eq_true rfl⟩ ?_
      refine bz_eq (tgt := 65) hx hb dX2_plan_57 (by decide) (fun c3 => ?_) (fun c3 => ?_)
      · refine lv_aload_n hx hb dX2_plan_65 rfl (lv_at hl 1 rfl) ?_
        refine lv_bipush (v := (-2)) hx hb dX2_plan_66 (by decide) ?_
        refine callU_V (rest := []) hx hb hml hown hts KM_st hK hA hAN hZ (cM_refused l D d H00 q Aq τ (-2)) (wX2_refused hts ⟨Nat.le_of_ble_eq_true rfl, Nat.le_of_ble_eq_true rfl⟩) (m_recv hK hu.1) hu rfl hl.1 rfl (Nat.le_of_ble_eq_true rfl) dX2_plan_68 ⟨Nat.le_of_ble_eq_true rfl, Nat.le_of_ble_eq_true rfl⟩ (fun r ws H locs hpo hu => ?_)
        obtain ⟨rfl, rfl⟩ := hpo
        show W _ _ _ _ _ _ _ _ _ _ _ _ _ _ _ (F0 _ 71 _ [.int (-2)])
        exact rU_i hx hb hr hlk hu dX2_plan_71 (Nat.le_of_ble_eq_true rfl) (Nat.le_of_ble_eq_true rfl) (by rw [show f_plan σ (nI jk) x i n w = ((-2), uI σ 0 0) from by rw [f_plan, if_neg (bt_nf c1), if_pos c3]]; exact ⟨rfl, _, rfl, mRep_fault hm 0⟩)
      · obtain ⟨jx, hjx, ej⟩ := pIn_k (k := 2) (by decide) (by decide) c3
        subst ej
        have ejx : ix (nI jx) = jx := nI_clamp (by omega)
        refine lv_iload hx hb dX2_plan_60 (lv_at hl 0 rfl) ?_
        refine bz_ne (tgt := 72) hx hb dX2_plan_62 (by decide) (fun c4 => ?_) (fun c4 => ?_)
        · have how := c4
          refine lv_aload_n hx hb dX2_plan_72 rfl (lv_at hl 1 rfl) ?_
          refine mg4 hx hb hts hown hK hu.1 dX2_plan_73 ?_
          refine top_i (y := nI (aE σ)) (hm.eat.2.1) ?_
          refine nz_ne (tgt := 86) hx hb dX2_plan_76 (by decide) (by omega) (fun c5 => ?_) (fun c5 => ?_)
          · refine lv_aload_n hx hb dX2_plan_86 rfl (lv_at hl 1 rfl) ?_
            refine lv_iload_n hx hb dX2_plan_87 rfl (lv_at hl 2 rfl) ?_
            refine lv_iload_n hx hb dX2_plan_88 rfl (lv_at hl 3 rfl) ?_
            refine lv_iload_n hx hb dX2_plan_89 rfl (lv_at hl 4 rfl) ?_
            refine lv_iload hx hb dX2_plan_90 (lv_at hl 5 rfl) ?_
            refine lv_i2l (v := n.toInt64) hx hb dX2_plan_92 rfl ?_
            refine callU_V (rest := []) hx hb hml hown hts KM_st hK hA hAN hZ (cM_cellsBarred l D d H00 q Aq τ σ jk jx i n hm (by omega) (by omega)) (wX2_cellsBarred hts ⟨Nat.le_of_ble_eq_true rfl, Nat.le_of_ble_eq_true rfl⟩) (m_recv hK hu.1) hu rfl hl.1 rfl (Nat.le_of_ble_eq_true rfl) dX2_plan_93 ⟨Nat.le_of_ble_eq_true rfl, Nat.le_of_ble_eq_true rfl⟩ (fun r ws H locs hpo hu => ?_)
            obtain ⟨rfl, rfl⟩ := hpo
            show W _ _ _ _ _ _ _ _ _ _ _ _ _ _ _ (F0 _ 96 _ [.int (if bar σ jk jx i n = 0 then 0 else (-10) - nI (bar σ jk jx i n))])
            rcases Decidable.em (bar σ jk jx i n = 0) with hbr | hbr
            · rw [if_pos hbr] at hu
              refine top_i (y := 0) (if_pos hbr) ?_
              obtain ⟨ct, ji, jn, hs, hla, h60, ei, en, hle, htt⟩ := bar_ok hok hbr
              subst ei
              subst en
              have eji : ix (nI ji) = ji := nI_clamp (by omega)
              have ejn : ix (nI jn) = jn := nI_clamp (by omega)
              have h26 := hm.sh jk (by omega)
              rw [hs] at h26
              refine lv_istore (lv' := [(7, .int 0), (6, .int (bI (okW w))), (0, .ref q), (1, .int (nI jk)), (2, .int (nI jx)), (3, .int (nI ji)), (4, .int (nI jn)), (5, .int w)]) hx hb dX2_plan_96 hl (by decide) rfl (fun ls hl => ?_)
              refine lv_iload hx hb dX2_plan_98 (lv_at hl 0 rfl) ?_
              refine lv_if_ge (tgt := 106) hx hb dX2_plan_100 (by decide) (fun c0 => ?_) (fun c0 => absurd (by decide) c0)
              refine lv_iload hx hb dX2_plan_106 (lv_at hl 6 rfl) ?_
              refine lv_aload_n hx hb dX2_plan_108 rfl (lv_at hl 2 rfl) ?_
              refine mg4 hx hb hts hown hK hu.1 dX2_plan_109 ?_
              refine top_i (y := nI (aE σ)) (hm.eat.2.1) ?_
              refine nc_eq (tgt := 122) hx hb dX2_plan_112 (by decide) (by omega) (by omega) (fun c6 => ?_) (fun c6 => ?_)
              · refine lv_iconst (v := nI 0) hx hb dX2_plan_122 (by decide) ?_
                refine lv_istore (lv' := [(8, .int (nI 0)), (7, .int 0), (6, .int (bI (okW w))), (0, .ref q), (1, .int (nI jk)), (2, .int (nI jx)), (3, .int (nI ji)), (4, .int (nI jn)), (5, .int w)]) hx hb dX2_plan_123 hl (by decide) rfl (fun ls hl => ?_)
                refine lp_R (σ := Nat) (fun n125 zz => zz + n125 = jn ∧ allT σ (txt σ jk ji) zz = true) (fun zz => [(8, .int (nI zz)), (0, .ref q), (1, .int (nI jk)), (2, .int (nI jx)), (3, .int (nI ji)), (4, .int (nI jn)), (5, .int w)]) (fun n125 zz hI ih125 ls hl => ?_) jn 0 (⟨by omega, rfl⟩) (lv_sub hl [0, 3, 4, 5, 6, 7, 8] rfl)
                obtain ⟨a0, rfl⟩ : ∃ y, y = zz := ⟨_, rfl⟩
                have hI : a0 + n125 = jn ∧ allT σ (txt σ jk ji) a0 = true := hI
                obtain ⟨hi, hat⟩ := hI
                have hl : lv_has ls 9 [(8, .int (nI a0)), (0, .ref q), (1, .int (nI jk)), (2, .int (nI jx)), (3, .int (nI ji)), (4, .int (nI jn)), (5, .int w)] := hl
                refine lv_iload hx hb dX2_plan_125 (lv_at hl 0 rfl) ?_
                refine lv_iload hx hb dX2_plan_127 (lv_at hl 5 rfl) ?_
                refine nc_ge (tgt := 166) hx hb dX2_plan_129 (by decide) (by omega) (by omega) (fun c7 => ?_) (fun c7 => ?_)
                · refine lv_aload_n hx hb dX2_plan_166 rfl (lv_at hl 1 rfl) ?_
                  refine lv_aload_n hx hb dX2_plan_167 rfl (lv_at hl 1 rfl) ?_
                  refine lv_bipush (v := nI 60) hx hb dX2_plan_168 (by decide) ?_
                  refine lv_iload_n hx hb dX2_plan_170 rfl (lv_at hl 2 rfl) ?_
                  refine lv_imul hx hb dX2_plan_171 ?_
                  refine lv_iload_n hx hb dX2_plan_172 rfl (lv_at hl 4 rfl) ?_
                  refine lv_iadd hx hb dX2_plan_173 ?_
                  refine top_i (y := nI (60 * jk + ji)) (by rw [pk_mul, nI_add]) ?_
                  refine lv_iload hx hb dX2_plan_174 (lv_at hl 6 rfl) ?_
                  refine callR_V (rest := [.ref q]) hx hb hml hown hts KM_st hK (cM_planBy l D d q Aq τ σ (60 * jk + ji) (txt σ jk ji) w hm (fun j hj => by rw [htt, Nat.add_assoc]; exact h26.2.2 (ji + j) (by omega)) (by omega) (allT_ix hok (by rw [show aE σ = a0 by omega]; exact hat)) (okW_ge how)) (wX2_planBy hts ⟨Nat.le_of_ble_eq_true rfl, Nat.le_of_ble_eq_true rfl⟩) (m_recv hK hu.1) hu.1 rfl hl.1 rfl (Nat.le_of_ble_eq_true rfl) dX2_plan_176 ⟨Nat.le_of_ble_eq_true rfl, Nat.le_of_ble_eq_true rfl⟩ ?_
                  refine callU_V (rest := []) hx hb hml hown hts KM_st hK hA hAN hZ (cM_refused l D d H00 q Aq τ (pln σ (txt σ jk ji) w)) (wX2_refused hts ⟨Nat.le_of_ble_eq_true rfl, Nat.le_of_ble_eq_true rfl⟩) (m_recv hK hu.1) hu rfl hl.1 rfl (Nat.le_of_ble_eq_true rfl) dX2_plan_179 ⟨Nat.le_of_ble_eq_true rfl, Nat.le_of_ble_eq_true rfl⟩ (fun r ws H locs hpo hu => ?_)
                  obtain ⟨rfl, rfl⟩ := hpo
                  show W _ _ _ _ _ _ _ _ _ _ _ _ _ _ _ (F0 _ 182 _ [.int (pln σ (txt σ jk ji) w)])
                  exact rU_i hx hb hr hlk hu dX2_plan_182 (Nat.le_of_ble_eq_true rfl) (Nat.le_of_ble_eq_true rfl) (by rw [show f_plan σ (nI jk) (nI jx) (nI ji) (nI jn) w = (pln σ (txt σ jk ji) w, uI σ 0 0) from by rw [f_plan, if_neg (bt_nf c1), if_neg (bt_nf c3), if_neg (bt_nf c4), if_neg c5]; simp only [ejk, ejx, eji, ejn]; rw [if_neg (fun hh => hh hbr), if_neg (fun hh => hh c6), if_neg (bt_nf (by rw [show aE σ = a0 by omega]; exact hat))]]; exact ⟨rfl, _, rfl, mRep_fault hm 0⟩)
                · refine lv_aload_n hx hb dX2_plan_132 rfl (lv_at hl 1 rfl) ?_
                  refine lv_aload_n hx hb dX2_plan_133 rfl (lv_at hl 1 rfl) ?_
                  refine mg26 hx hb hts hown hK hu.1 dX2_plan_134 ?_
                  refine lv_bipush (v := nI 60) hx hb dX2_plan_137 (by decide) ?_
                  refine lv_iload_n hx hb dX2_plan_139 rfl (lv_at hl 2 rfl) ?_
                  refine lv_imul hx hb dX2_plan_140 ?_
                  refine lv_iload_n hx hb dX2_plan_141 rfl (lv_at hl 4 rfl) ?_
                  refine lv_iadd hx hb dX2_plan_142 ?_
                  refine top_i (y := nI (60 * jk + ji)) (by rw [pk_mul, nI_add]) ?_
                  refine lv_iload hx hb dX2_plan_143 (lv_at hl 0 rfl) ?_
                  refine lv_iadd hx hb dX2_plan_145 ?_
                  refine top_i (y := nI (60 * jk + ji + a0)) (nI_add _ _) ?_
                  refine ma26 hx hb hK hu.1 (by omega) dX2_plan_146 ?_
                  refine top_i (y := txt σ jk ji a0) (by rw [htt, Nat.add_assoc]; exact h26.2.2 (ji + a0) (by omega)) ?_
                  refine callR_V (rest := []) hx hb hml hown hts KM_st hK (cM_noSet l D d q Aq τ (txt σ jk ji a0)) (wX2_noSet hts ⟨Nat.le_of_ble_eq_true rfl, Nat.le_of_ble_eq_true rfl⟩) (m_recv hK hu.1) hu.1 rfl hl.1 rfl (Nat.le_of_ble_eq_true rfl) dX2_plan_147 ⟨Nat.le_of_ble_eq_true rfl, Nat.le_of_ble_eq_true rfl⟩ ?_
                  refine top_i (hm.isT (txt σ jk ji a0)) ?_
                  refine bzn_eq (tgt := 160) hx hb dX2_plan_150 (by decide) (fun c8 => ?_) (fun c8 => ?_)
                  · refine lv_iinc (v := nI (a0 + 1)) (lv' := [(8, .int (nI (a0 + 1))), (0, .ref q), (1, .int (nI jk)), (2, .int (nI jx)), (3, .int (nI ji)), (4, .int (nI jn)), (5, .int w)]) hx hb dX2_plan_160 hl (k := 0) rfl (inc_nI _) (by decide) rfl (fun ls hl => ?_)
                    refine lv_goto (tgt := 125) hx hb dX2_plan_163 (by decide) ?_
                    exact ih125 (n125 - 1) (a0 + 1) ls (by omega) (⟨by omega, by rw [allT, hat, c8]; rfl⟩) (hl)
                  · refine lv_aload_n hx hb dX2_plan_153 rfl (lv_at hl 1 rfl) ?_
                    refine lv_bipush (v := (-2)) hx hb dX2_plan_154 (by decide) ?_
                    refine callU_V (rest := []) hx hb hml hown hts KM_st hK hA hAN hZ (cM_refused l D d H00 q Aq τ (-2)) (wX2_refused hts ⟨Nat.le_of_ble_eq_true rfl, Nat.le_of_ble_eq_true rfl⟩) (m_recv hK hu.1) hu rfl hl.1 rfl (Nat.le_of_ble_eq_true rfl) dX2_plan_156 ⟨Nat.le_of_ble_eq_true rfl, Nat.le_of_ble_eq_true rfl⟩ (fun r ws H locs hpo hu => ?_)
                    obtain ⟨rfl, rfl⟩ := hpo
                    show W _ _ _ _ _ _ _ _ _ _ _ _ _ _ _ (F0 _ 159 _ [.int (-2)])
                    exact rU_i hx hb hr hlk hu dX2_plan_159 (Nat.le_of_ble_eq_true rfl) (Nat.le_of_ble_eq_true rfl) (by rw [show f_plan σ (nI jk) (nI jx) (nI ji) (nI jn) w = ((-2), uI σ 0 0) from by rw [f_plan, if_neg (bt_nf c1), if_neg (bt_nf c3), if_neg (bt_nf c4), if_neg c5]; simp only [ejk, ejx, eji, ejn]; rw [if_neg (fun hh => hh hbr), if_neg (fun hh => hh c6), if_pos (allT_no c8 (by omega))]]; exact ⟨rfl, _, rfl, mRep_fault hm 0⟩)
              · refine lv_aload_n hx hb dX2_plan_115 rfl (lv_at hl 2 rfl) ?_
                refine lv_bipush (v := (-2)) hx hb dX2_plan_116 (by decide) ?_
                refine callU_V (rest := []) hx hb hml hown hts KM_st hK hA hAN hZ (cM_refused l D d H00 q Aq τ (-2)) (wX2_refused hts ⟨Nat.le_of_ble_eq_true rfl, Nat.le_of_ble_eq_true rfl⟩) (m_recv hK hu.1) hu rfl hl.1 rfl (Nat.le_of_ble_eq_true rfl) dX2_plan_118 ⟨Nat.le_of_ble_eq_true rfl, Nat.le_of_ble_eq_true rfl⟩ (fun r ws H locs hpo hu => ?_)
                obtain ⟨rfl, rfl⟩ := hpo
                show W _ _ _ _ _ _ _ _ _ _ _ _ _ _ _ (F0 _ 121 _ [.int (-2)])
                exact rU_i hx hb hr hlk hu dX2_plan_121 (Nat.le_of_ble_eq_true rfl) (Nat.le_of_ble_eq_true rfl) (by rw [show f_plan σ (nI jk) (nI jx) (nI ji) (nI jn) w = ((-2), uI σ 0 0) from by rw [f_plan, if_neg (bt_nf c1), if_neg (bt_nf c3), if_neg (bt_nf c4), if_neg c5]; simp only [ejk, ejx, eji, ejn]; rw [if_neg (fun hh => hh hbr), if_pos c6]]; exact ⟨rfl, _, rfl, mRep_fault hm 0⟩)
            · rw [if_neg hbr] at hu
              refine top_i (y := ((-10) - nI (bar σ jk jx i n))) (if_neg hbr) ?_
              refine lv_istore (lv' := [(7, .int ((-10) - nI (bar σ jk jx i n))), (6, .int (bI (okW w))), (0, .ref q), (1, .int (nI jk)), (2, .int (nI jx)), (3, .int i), (4, .int n), (5, .int w)]) hx hb dX2_plan_96 hl (by decide) rfl (fun ls hl => ?_)
              refine lv_iload hx hb dX2_plan_98 (lv_at hl 0 rfl) ?_
              refine lv_if_ge (tgt := 106) hx hb dX2_plan_100 (by decide) (fun c0 => absurd c0 (bar_neg (bar_le _ _ _ _ _))) (fun c0 => ?_)
              refine lv_iload hx hb dX2_plan_103 (lv_at hl 0 rfl) ?_
              exact rU_i hx hb hr hlk hu dX2_plan_105 (Nat.le_of_ble_eq_true rfl) (Nat.le_of_ble_eq_true rfl) (by rw [show f_plan σ (nI jk) (nI jx) i n w = ((-10) - nI (bar σ jk jx i n), uI σ 0 (nI (bar σ jk jx i n))) from by rw [f_plan, if_neg (bt_nf c1), if_neg (bt_nf c3), if_neg (bt_nf c4), if_neg c5]; simp only [ejk, ejx]; rw [if_pos hbr]]; exact ⟨rfl, _, rfl, mRep_fault hm _⟩)
          · refine lv_aload_n hx hb dX2_plan_79 rfl (lv_at hl 1 rfl) ?_
            refine lv_bipush (v := (-3)) hx hb dX2_plan_80 (by decide) ?_
            refine callU_V (rest := []) hx hb hml hown hts KM_st hK hA hAN hZ (cM_refused l D d H00 q Aq τ (-3)) (wX2_refused hts ⟨Nat.le_of_ble_eq_true rfl, Nat.le_of_ble_eq_true rfl⟩) (m_recv hK hu.1) hu rfl hl.1 rfl (Nat.le_of_ble_eq_true rfl) dX2_plan_82 ⟨Nat.le_of_ble_eq_true rfl, Nat.le_of_ble_eq_true rfl⟩ (fun r ws H locs hpo hu => ?_)
            obtain ⟨rfl, rfl⟩ := hpo
            show W _ _ _ _ _ _ _ _ _ _ _ _ _ _ _ (F0 _ 85 _ [.int (-3)])
            exact rU_i hx hb hr hlk hu dX2_plan_85 (Nat.le_of_ble_eq_true rfl) (Nat.le_of_ble_eq_true rfl) (by rw [show f_plan σ (nI jk) (nI jx) i n w = ((-3), uI σ 0 0) from by rw [f_plan, if_neg (bt_nf c1), if_neg (bt_nf c3), if_neg (bt_nf c4), if_pos c5]]; exact ⟨rfl, _, rfl, mRep_fault hm 0⟩)
        · refine lv_aload_n hx hb dX2_plan_65 rfl (lv_at hl 1 rfl) ?_
          refine lv_bipush (v := (-2)) hx hb dX2_plan_66 (by decide) ?_
          refine callU_V (rest := []) hx hb hml hown hts KM_st hK hA hAN hZ (cM_refused l D d H00 q Aq τ (-2)) (wX2_refused hts ⟨Nat.le_of_ble_eq_true rfl, Nat.le_of_ble_eq_true rfl⟩) (m_recv hK hu.1) hu rfl hl.1 rfl (Nat.le_of_ble_eq_true rfl) dX2_plan_68 ⟨Nat.le_of_ble_eq_true rfl, Nat.le_of_ble_eq_true rfl⟩ (fun r ws H locs hpo hu => ?_)
          obtain ⟨rfl, rfl⟩ := hpo
          show W _ _ _ _ _ _ _ _ _ _ _ _ _ _ _ (F0 _ 71 _ [.int (-2)])
          exact rU_i hx hb hr hlk hu dX2_plan_71 (Nat.le_of_ble_eq_true rfl) (Nat.le_of_ble_eq_true rfl) (by rw [show f_plan σ (nI jk) (nI jx) i n w = ((-2), uI σ 0 0) from by rw [f_plan, if_neg (bt_nf c1), if_neg (bt_nf c3), if_pos c4]]; exact ⟨rfl, _, rfl, mRep_fault hm 0⟩)
    · refine bz_ne (tgt := 41) hx hb dX2_plan_23 (by decide) (fun c9 => ?_) (fun c9 => ?_)
      · refine lv_iconst (v := 1) hx hb dX2_plan_41 (by decide) ?_
        refine lv_goto (tgt := 46) hx hb dX2_plan_42 (by decide) ?_
        exact kj2 _ (by rw [if_pos c9])
      · refine lv_iload hx hb dX2_plan_26 (lv_at hl 5 rfl) ?_
        refine lv_i2l (v := w.toInt64) hx hb dX2_plan_28 rfl ?_
        refine lv_ldc2 (v := 10) hx hb hown (hts _ q1115) dX2_plan_29 ?_
        refine lv_ldc2 (v := 15) hx hb hown (hts _ q1116) dX2_plan_32 ?_
        refine callR_S (rest := []) hx hb hml hown hts KM_st hK (cM_in l D d w.toInt64 10 15) (wX2_in hts ⟨Nat.le_of_ble_eq_true rfl, Nat.le_of_ble_eq_true rfl⟩) trivial rfl hl.1 rfl (Nat.le_of_ble_eq_true rfl) dX2_plan_35 ⟨Nat.le_of_ble_eq_true rfl, Nat.le_of_ble_eq_true rfl⟩ ?_
        refine bz_eq (tgt := 45) hx hb dX2_plan_38 (by decide) (fun c10 => ?_) (fun c10 => ?_)
        · refine lv_iconst (v := 0) hx hb dX2_plan_45 (by decide) ?_
          exact kj2 _ (by rw [if_neg (bf_nt c9), if_pos c10])
        · refine lv_iconst (v := 1) hx hb dX2_plan_41 (by decide) ?_
          refine lv_goto (tgt := 46) hx hb dX2_plan_42 (by decide) ?_
          exact kj2 _ (by rw [if_neg (bf_nt c9), if_neg (bt_nf c10)])
  · refine lv_aload_n hx hb dX2_plan_7 rfl (lv_at hl 0 rfl) ?_
    refine lv_iconst (v := (-1)) hx hb dX2_plan_8 (by decide) ?_
    refine callU_V (rest := []) hx hb hml hown hts KM_st hK hA hAN hZ (cM_refused l D d H00 q Aq τ (-1)) (wX2_refused hts ⟨Nat.le_of_ble_eq_true rfl, Nat.le_of_ble_eq_true rfl⟩) (m_recv hK hu.1) hu rfl hl.1 rfl (Nat.le_of_ble_eq_true rfl) dX2_plan_9 ⟨Nat.le_of_ble_eq_true rfl, Nat.le_of_ble_eq_true rfl⟩ (fun r ws H locs hpo hu => ?_)
    obtain ⟨rfl, rfl⟩ := hpo
    show W _ _ _ _ _ _ _ _ _ _ _ _ _ _ _ (F0 _ 12 _ [.int (-1)])
    exact rU_i hx hb hr hlk hu dX2_plan_12 (Nat.le_of_ble_eq_true rfl) (Nat.le_of_ble_eq_true rfl) (by rw [show f_plan σ k x i n w = ((-1), uI σ 0 0) from by rw [f_plan, if_pos c1]]; exact ⟨rfl, _, rfl, mRep_fault hm 0⟩)
