/-! reading a text: an eater -/
def xEa (τ τ2 : Nat → Nat → Int32) (r : Nat → Int32) (nn b ne : Nat) : Prop := (∀ k, ¬ k = 8 → ¬ k = 11 → ¬ k = 13 → τ2 k = τ k) ∧ τ2 8 0 = nI (b + eAt r nn b) ∧ (∀ j, j < 4 * ne → τ2 13 j = τ 13 j) ∧ (eAt r nn b = 5 → τ2 11 0 = nI (ne + 1) ∧ τ2 13 (4 * ne) = nI (kdc (r (b + 1))) ∧ τ2 13 (4 * ne + 1) = r (b + 2) - 48 ∧ τ2 13 (4 * ne + 2) = r (b + 3) - 48 ∧ τ2 13 (4 * ne + 3) = r (b + 4) - 48)
theorem kdc_tok {r : Nat → Int32} {nn a : Nat} (h : ¬ kdc (tok r nn a) = 3) : a < nn ∧ tok r nn a = r a := by
  by_cases q : a < nn
  · exact ⟨q, by rw [tok, if_pos q]⟩
  · exfalso
    apply h
    rw [tok, if_neg q]
    decide
theorem nI_no9 : ∀ k, k < 3 → ¬ nI k = -9 := by decide +kernel
section XE
variable {τ : Nat → Nat → Int32} {ne j : Nat} {a0 a1 a2 a3 b1 b2 b3 v0 v1 v2 v3 : Int32}
theorem xE_low1 (hj : j < 4 * ne) : (put2 (put2 (put2 τ 8 0 a0) 13 (4 * ne) v0) 13 (4 * ne + 1) v1) 13 j = τ 13 j := by
  show upd (upd (τ 13) (4 * ne) v0) (4 * ne + 1) v1 j = _
  unfold upd; rw [if_neg (by omega), if_neg (by omega)]
theorem xE_low2 (hj : j < 4 * ne) : (put2 (put2 (put2 (put2 (put2 τ 8 0 a0) 13 (4 * ne) v0) 8 0 a1) 13 (4 * ne + 1) v1) 13 (4 * ne + 2) v2) 13 j = τ 13 j := by
  show upd (upd (upd (τ 13) (4 * ne) v0) (4 * ne + 1) v1) (4 * ne + 2) v2 j = _
  unfold upd; rw [if_neg (by omega), if_neg (by omega), if_neg (by omega)]
theorem xE_low3 {τ' : Nat → Nat → Int32} (h : τ' 13 = upd (upd (upd (upd (τ 13) (4 * ne) v0) (4 * ne + 1) v1) (4 * ne + 2) v2) (4 * ne + 3) v3 := by rfl) (hj : j < 4 * ne) : τ' 13 j = τ 13 j := by
  rw [h]
  unfold upd; rw [if_neg (by omega), if_neg (by omega), if_neg (by omega), if_neg (by omega)]
theorem xE_v {f : Nat → Int32} {i : Nat} : upd (upd (upd (upd f i v0) (i + 1) v1) (i + 2) v2) (i + 3) v3 i = v0 ∧ upd (upd (upd (upd f i v0) (i + 1) v1) (i + 2) v2) (i + 3) v3 (i + 1) = v1 ∧ upd (upd (upd (upd f i v0) (i + 1) v1) (i + 2) v2) (i + 3) v3 (i + 2) = v2 := by
  unfold upd
  refine ⟨?_, ?_, ?_⟩
  · rw [if_neg (by omega), if_neg (by omega), if_neg (by omega), if_pos rfl]
  · rw [if_neg (by omega), if_neg (by omega), if_pos rfl]
  · rw [if_neg (by omega), if_pos rfl]
end XE
set_option maxHeartbeats 4000000 in
set_option maxRecDepth 100000 in
theorem cX_readEater (l : Launch) (D : va_G) (d : Nat → ClassId) (H00 : Heap) (B : Nat → Nat) (τ : Nat → Nat → Int32) (ea : Nat) (hs : Nat → Option Nat) (ρ : va_W) (ra jr nn b ne : Nat) (r : Nat → Int32) (hra : ρ[jr]? = some (ra, .inl (d 0, nn, .inl r))) (h8 : τ 8 0 = nI (b + 1)) (h11 : τ 11 0 = nI ne) (hne : ne < 4) (h59 : tok r nn b = 59) (hb1 : b + 1 ≤ nn) (hnn : nn ≤ 60) : cU l (KX D d) H00 D yX0_readEater cX0_readEater 3 (some .boolean) (rc 2 0 0) [.ref (B 0), .ref ra] (xw d B τ ea hs ρ) (fun r0 ws => r0 = some (.int (bI (decide (eAt r nn b = 5)))) ∧ ∃ τ2, ws = xw d B τ2 ea hs ρ ∧ xEa τ τ2 r nn b ne) := by
  refine cU_start RX0 rfl (by decide) (Nat.le_of_ble_eq_true rfl) ?_
  intro p e s m below meth c A hx hb hml hown hts hr hlk hnm hK hA hAN hZ hu ls hl
  have hl : lv_has ls 3 [(0, .ref (B 0)), (1, .ref ra)] := hl
  refine lv_iconst (v := nI 4) hx hb dX0_readEater_0 (by decide) ?_
  refine lv_aload_n hx hb dX0_readEater_1 rfl (lv_at hl 0 rfl) ?_
  refine xg11 hx hb hts hown hK hu.1 dX0_readEater_2 ?_
  refine top_i h11 ?_
  refine lv_imul hx hb dX0_readEater_5 ?_
  refine top_i (y := nI (4 * ne)) (by rw [pk_mul]) ?_
  refine lv_istore_n (lv' := [(2, .int (nI (4 * ne))), (0, .ref (B 0)), (1, .ref ra)]) hx hb dX0_readEater_6 rfl hl (by decide) rfl (fun ls hl => ?_)
  have hret : ∀ (τ2 : Nat → Nat → Int32) (H : Heap) (locs : List Loc) (pc : Nat), ¬ eAt r nn b = 5 → xEa τ τ2 r nn b ne → uW D A s.heap H locs (xw d B τ2 ea hs ρ) → decode cX0_readEater pc = .ok (.ireturn, 1) → W p l e (rc 2 0 0) s m [.ref (B 0), .ref ra].toArray below meth c H locs 0 0 (MQ below (qU D A (fun r0 ws => r0 = some (.int (bI (decide (eAt r nn b = 5)))) ∧ ∃ τ2, ws = xw d B τ2 ea hs ρ ∧ xEa τ τ2 r nn b ne)) [.ref (B 0), .ref ra].toArray s 0 0 A) (F0 m pc ls [.int 0]) := by
    intro τ2 H locs pc h5 hE hu hdg
    exact rU_z hx hb hr hlk hu hdg (Nat.le_of_ble_eq_true rfl) (Nat.le_of_ble_eq_true rfl) (b := decide (eAt r nn b = 5)) (by rw [decide_eq_false h5]; rfl) ⟨rfl, τ2, rfl, hE⟩
  have h56 : ∀ (kv : Int32) (τ1 : Nat → Nat → Int32) (H : Heap) (locs : List Loc), (¬ kdc (tok r nn (b + 1)) = 3 ∧ kv = nI (kdc (tok r nn (b + 1))) ∧ kdc (tok r nn (b + 1)) < 3 ∧ τ1 = put2 τ 8 0 (nI (b + 2))) ∨ (kdc (tok r nn (b + 1)) = 3 ∧ kv = -9 ∧ τ = τ1) → uW D A s.heap H locs (xw d B τ1 ea hs ρ) → W p l e (rc 2 0 0) s m [.ref (B 0), .ref ra].toArray below meth c H locs 0 0 (MQ below (qU D A (fun r0 ws => r0 = some (.int (bI (decide (eAt r nn b = 5)))) ∧ ∃ τ2, ws = xw d B τ2 ea hs ρ ∧ xEa τ τ2 r nn b ne)) [.ref (B 0), .ref ra].toArray s 0 0 A) (F0 m 56 ls [.int kv, .int (nI (4 * ne)), .ref (B 4)]) := by
    intro kv τ1 H locs hcase hu
    refine xs13 hx hb hK hu (j := 4 * ne) (by omega) dX0_readEater_56 (fun H locs hu => ?_)
    refine lv_aload_n hx hb dX0_readEater_57 rfl (lv_at hl 1 rfl) ?_
    refine xg13 hx hb hts hown hK hu.1 dX0_readEater_58 ?_
    refine lv_iload_n hx hb dX0_readEater_61 rfl (lv_at hl 0 rfl) ?_
    refine xa13 hx hb hK hu.1 (j := 4 * ne) (by omega) dX0_readEater_62 ?_
    refine top_i (put2_eq τ1 13 (4 * ne) kv) ?_
    refine lv_bipush (v := -9) hx hb dX0_readEater_63 (by decide) ?_
    rcases hcase with ⟨hk, rfl, hk3, rfl⟩ | ⟨hk, rfl, rfl⟩
    · obtain ⟨hlt1, htk1⟩ := kdc_tok hk
      refine lv_icmp_ne (tgt := 70) hx hb dX0_readEater_65 (by decide) (fun _ => ?_) (fun c0 => absurd c0 (nI_no9 _ hk3))
      have h81 : (put2 (put2 τ 8 0 (nI (b + 2))) 13 (4 * ne) (nI (kdc (tok r nn (b + 1))))) 8 0 = nI (b + 2) := rfl
      refine lv_aload_n hx hb dX0_readEater_70 rfl (lv_at hl 1 rfl) ?_
      refine xg13 hx hb hts hown hK hu.1 dX0_readEater_71 ?_
      refine lv_iload_n hx hb dX0_readEater_74 rfl (lv_at hl 0 rfl) ?_
      refine lv_iconst (v := nI 1) hx hb dX0_readEater_75 (by decide) ?_
      refine lv_iadd hx hb dX0_readEater_76 ?_
      refine top_i (nI_add (4 * ne) 1) ?_
      refine lv_aload_n hx hb dX0_readEater_77 rfl (lv_at hl 1 rfl) ?_
      refine lv_aload_n hx hb dX0_readEater_78 rfl (lv_at hl 2 rfl) ?_
      refine lv_iconst (v := nI 0) hx hb dX0_readEater_79 (by decide) ?_
      refine lv_iconst (v := nI 5) hx hb dX0_readEater_80 (by decide) ?_
      refine callU_V (rest := [.int (nI (4 * ne + 1)), .ref (B 4)]) hx hb hml hown hts KX_st hK hA hAN hZ (cX_digit l D d H00 B (put2 (put2 τ 8 0 (nI (b + 2))) 13 (4 * ne) (nI (kdc (tok r nn (b + 1))))) ea hs ρ ra jr nn (b + 2) 0 5 r hra h81 (by omega) hnn (by decide) (by decide)) (wX0_digit hts ⟨Nat.le_of_ble_eq_true rfl, Nat.le_of_ble_eq_true rfl⟩) (x_recv hK hu.1) hu rfl hl.1 rfl (Nat.le_of_ble_eq_true rfl) dX0_readEater_81 ⟨Nat.le_of_ble_eq_true rfl, Nat.le_of_ble_eq_true rfl⟩ (fun r ws H locs hpo hu => ?_)
      obtain ⟨rfl, rfl⟩ := hpo
      cases hd1 : dig r nn (b + 2) (nI 0) (nI 5) with
      | false =>
        have e1 : eAt r nn b = 2 := by rw [eAt, if_neg (fun q => q h59), if_neg hk, if_pos (show dig r nn (b + 2) 0 5 = false from hd1)]
        simp only [hd1, Bool.false_eq_true, if_false] at hu ⊢
        refine xs13 hx hb hK hu (j := 4 * ne + 1) (by omega) dX0_readEater_84 (fun H locs hu => ?_)
        refine lv_aload_n hx hb dX0_readEater_85 rfl (lv_at hl 1 rfl) ?_
        refine xg13 hx hb hts hown hK hu.1 dX0_readEater_86 ?_
        refine lv_iload_n hx hb dX0_readEater_89 rfl (lv_at hl 0 rfl) ?_
        refine lv_iconst (v := nI 1) hx hb dX0_readEater_90 (by decide) ?_
        refine lv_iadd hx hb dX0_readEater_91 ?_
        refine top_i (nI_add (4 * ne) 1) ?_
        refine xa13 hx hb hK hu.1 (j := 4 * ne + 1) (by omega) dX0_readEater_92 ?_
        refine top_i (put2_eq _ 13 (4 * ne + 1) (-9)) ?_
        refine lv_bipush (v := -9) hx hb dX0_readEater_93 (by decide) ?_
        refine lv_icmp_ne (tgt := 100) hx hb dX0_readEater_95 (by decide) (fun c0 => absurd rfl c0) (fun _ => ?_)
        refine lv_iconst (v := 0) hx hb dX0_readEater_98 (by decide) ?_
        exact hret _ H locs 99 (by rw [e1]; decide) ⟨fun k k8 k11 k13 => by simp only [put2, if_neg k8, if_neg k11, if_neg k13], by rw [e1]; rfl, fun j hj => xE_low1 hj, fun q => by rw [e1] at q; cases q⟩ hu dX0_readEater_99
      | true =>
        have hlt2 := (dig_lt (lo := 0) (hi := 5) (by decide) hd1).1
        have hv1 := dig_no9 (by decide) (by decide) hd1
        simp only [hd1, if_true] at hu ⊢
        refine xs13 hx hb hK hu (j := 4 * ne + 1) (by omega) dX0_readEater_84 (fun H locs hu => ?_)
        refine lv_aload_n hx hb dX0_readEater_85 rfl (lv_at hl 1 rfl) ?_
        refine xg13 hx hb hts hown hK hu.1 dX0_readEater_86 ?_
        refine lv_iload_n hx hb dX0_readEater_89 rfl (lv_at hl 0 rfl) ?_
        refine lv_iconst (v := nI 1) hx hb dX0_readEater_90 (by decide) ?_
        refine lv_iadd hx hb dX0_readEater_91 ?_
        refine top_i (nI_add (4 * ne) 1) ?_
        refine xa13 hx hb hK hu.1 (j := 4 * ne + 1) (by omega) dX0_readEater_92 ?_
        refine top_i (put2_eq _ 13 (4 * ne + 1) (r (b + 2) - 48)) ?_
        refine lv_bipush (v := -9) hx hb dX0_readEater_93 (by decide) ?_
        refine lv_icmp_ne (tgt := 100) hx hb dX0_readEater_95 (by decide) (fun _ => ?_) (fun c0 => absurd c0 hv1)
        have h82 : (put2 (put2 (put2 (put2 τ 8 0 (nI (b + 2))) 13 (4 * ne) (nI (kdc (tok r nn (b + 1))))) 8 0 (nI (b + 3))) 13 (4 * ne + 1) (r (b + 2) - 48)) 8 0 = nI (b + 3) := rfl
        refine lv_aload_n hx hb dX0_readEater_100 rfl (lv_at hl 1 rfl) ?_
        refine xg13 hx hb hts hown hK hu.1 dX0_readEater_101 ?_
        refine lv_iload_n hx hb dX0_readEater_104 rfl (lv_at hl 0 rfl) ?_
        refine lv_iconst (v := nI 2) hx hb dX0_readEater_105 (by decide) ?_
        refine lv_iadd hx hb dX0_readEater_106 ?_
        refine top_i (nI_add (4 * ne) 2) ?_
        refine lv_aload_n hx hb dX0_readEater_107 rfl (lv_at hl 1 rfl) ?_
        refine lv_aload_n hx hb dX0_readEater_108 rfl (lv_at hl 2 rfl) ?_
        refine lv_iconst (v := nI 1) hx hb dX0_readEater_109 (by decide) ?_
        refine lv_bipush (v := nI 9) hx hb dX0_readEater_110 (by decide) ?_
        refine callU_V (rest := [.int (nI (4 * ne + 2)), .ref (B 4)]) hx hb hml hown hts KX_st hK hA hAN hZ (cX_digit l D d H00 B (put2 (put2 (put2 (put2 τ 8 0 (nI (b + 2))) 13 (4 * ne) (nI (kdc (tok r nn (b + 1))))) 8 0 (nI (b + 3))) 13 (4 * ne + 1) (r (b + 2) - 48)) ea hs ρ ra jr nn (b + 3) 1 9 r hra h82 (by omega) hnn (by decide) (by decide)) (wX0_digit hts ⟨Nat.le_of_ble_eq_true rfl, Nat.le_of_ble_eq_true rfl⟩) (x_recv hK hu.1) hu rfl hl.1 rfl (Nat.le_of_ble_eq_true rfl) dX0_readEater_112 ⟨Nat.le_of_ble_eq_true rfl, Nat.le_of_ble_eq_true rfl⟩ (fun r ws H locs hpo hu => ?_)
        obtain ⟨rfl, rfl⟩ := hpo
        cases hd2 : dig r nn (b + 3) (nI 1) (nI 9) with
        | false =>
          have e1 : eAt r nn b = 3 := by rw [eAt, if_neg (fun q => q h59), if_neg hk, if_neg (bt_nf (show dig r nn (b + 2) 0 5 = true from hd1)), if_pos (show dig r nn (b + 3) 1 9 = false from hd2)]
          simp only [hd2, Bool.false_eq_true, if_false] at hu ⊢
          refine xs13 hx hb hK hu (j := 4 * ne + 2) (by omega) dX0_readEater_115 (fun H locs hu => ?_)
          refine lv_aload_n hx hb dX0_readEater_116 rfl (lv_at hl 1 rfl) ?_
          refine xg13 hx hb hts hown hK hu.1 dX0_readEater_117 ?_
          refine lv_iload_n hx hb dX0_readEater_120 rfl (lv_at hl 0 rfl) ?_
          refine lv_iconst (v := nI 2) hx hb dX0_readEater_121 (by decide) ?_
          refine lv_iadd hx hb dX0_readEater_122 ?_
          refine top_i (nI_add (4 * ne) 2) ?_
          refine xa13 hx hb hK hu.1 (j := 4 * ne + 2) (by omega) dX0_readEater_123 ?_
          refine top_i (put2_eq _ 13 (4 * ne + 2) (-9)) ?_
          refine lv_bipush (v := -9) hx hb dX0_readEater_124 (by decide) ?_
          refine lv_icmp_ne (tgt := 131) hx hb dX0_readEater_126 (by decide) (fun c0 => absurd rfl c0) (fun _ => ?_)
          refine lv_iconst (v := 0) hx hb dX0_readEater_129 (by decide) ?_
          exact hret _ H locs 130 (by rw [e1]; decide) ⟨fun k k8 k11 k13 => by simp only [put2, if_neg k8, if_neg k11, if_neg k13], by rw [e1]; rfl, fun j hj => xE_low2 hj, fun q => by rw [e1] at q; cases q⟩ hu dX0_readEater_130
        | true =>
          have hlt3 := (dig_lt (lo := 1) (hi := 9) (by decide) hd2).1
          have hv2 := dig_no9 (by decide) (by decide) hd2
          simp only [hd2, if_true] at hu ⊢
          refine xs13 hx hb hK hu (j := 4 * ne + 2) (by omega) dX0_readEater_115 (fun H locs hu => ?_)
          refine lv_aload_n hx hb dX0_readEater_116 rfl (lv_at hl 1 rfl) ?_
          refine xg13 hx hb hts hown hK hu.1 dX0_readEater_117 ?_
          refine lv_iload_n hx hb dX0_readEater_120 rfl (lv_at hl 0 rfl) ?_
          refine lv_iconst (v := nI 2) hx hb dX0_readEater_121 (by decide) ?_
          refine lv_iadd hx hb dX0_readEater_122 ?_
          refine top_i (nI_add (4 * ne) 2) ?_
          refine xa13 hx hb hK hu.1 (j := 4 * ne + 2) (by omega) dX0_readEater_123 ?_
          refine top_i (put2_eq _ 13 (4 * ne + 2) (r (b + 3) - 48)) ?_
          refine lv_bipush (v := -9) hx hb dX0_readEater_124 (by decide) ?_
          refine lv_icmp_ne (tgt := 131) hx hb dX0_readEater_126 (by decide) (fun _ => ?_) (fun c0 => absurd c0 hv2)
          have h83 : (put2 (put2 (put2 (put2 (put2 (put2 τ 8 0 (nI (b + 2))) 13 (4 * ne) (nI (kdc (tok r nn (b + 1))))) 8 0 (nI (b + 3))) 13 (4 * ne + 1) (r (b + 2) - 48)) 8 0 (nI (b + 4))) 13 (4 * ne + 2) (r (b + 3) - 48)) 8 0 = nI (b + 4) := rfl
          refine lv_aload_n hx hb dX0_readEater_131 rfl (lv_at hl 1 rfl) ?_
          refine xg13 hx hb hts hown hK hu.1 dX0_readEater_132 ?_
          refine lv_iload_n hx hb dX0_readEater_135 rfl (lv_at hl 0 rfl) ?_
          refine lv_iconst (v := nI 3) hx hb dX0_readEater_136 (by decide) ?_
          refine lv_iadd hx hb dX0_readEater_137 ?_
          refine top_i (nI_add (4 * ne) 3) ?_
          refine lv_aload_n hx hb dX0_readEater_138 rfl (lv_at hl 1 rfl) ?_
          refine lv_aload_n hx hb dX0_readEater_139 rfl (lv_at hl 2 rfl) ?_
          refine lv_iconst (v := nI 0) hx hb dX0_readEater_140 (by decide) ?_
          refine lv_bipush (v := nI 6) hx hb dX0_readEater_141 (by decide) ?_
          refine callU_V (rest := [.int (nI (4 * ne + 3)), .ref (B 4)]) hx hb hml hown hts KX_st hK hA hAN hZ (cX_digit l D d H00 B (put2 (put2 (put2 (put2 (put2 (put2 τ 8 0 (nI (b + 2))) 13 (4 * ne) (nI (kdc (tok r nn (b + 1))))) 8 0 (nI (b + 3))) 13 (4 * ne + 1) (r (b + 2) - 48)) 8 0 (nI (b + 4))) 13 (4 * ne + 2) (r (b + 3) - 48)) ea hs ρ ra jr nn (b + 4) 0 6 r hra h83 (by omega) hnn (by decide) (by decide)) (wX0_digit hts ⟨Nat.le_of_ble_eq_true rfl, Nat.le_of_ble_eq_true rfl⟩) (x_recv hK hu.1) hu rfl hl.1 rfl (Nat.le_of_ble_eq_true rfl) dX0_readEater_143 ⟨Nat.le_of_ble_eq_true rfl, Nat.le_of_ble_eq_true rfl⟩ (fun r ws H locs hpo hu => ?_)
          obtain ⟨rfl, rfl⟩ := hpo
          cases hd3 : dig r nn (b + 4) (nI 0) (nI 6) with
          | false =>
            have e1 : eAt r nn b = 4 := by rw [eAt, if_neg (fun q => q h59), if_neg hk, if_neg (bt_nf (show dig r nn (b + 2) 0 5 = true from hd1)), if_neg (bt_nf (show dig r nn (b + 3) 1 9 = true from hd2)), if_pos (show dig r nn (b + 4) 0 6 = false from hd3)]
            simp only [hd3, Bool.false_eq_true, if_false] at hu ⊢
            refine xs13 hx hb hK hu (j := 4 * ne + 3) (by omega) dX0_readEater_146 (fun H locs hu => ?_)
            refine lv_aload_n hx hb dX0_readEater_147 rfl (lv_at hl 1 rfl) ?_
            refine lv_dup hx hb dX0_readEater_148 rfl ?_
            refine xg11 hx hb hts hown hK hu.1 dX0_readEater_149 ?_
            refine top_i (y := nI ne) h11 ?_
            refine lv_iconst (v := nI 1) hx hb dX0_readEater_152 (by decide) ?_
            refine lv_iadd hx hb dX0_readEater_153 ?_
            refine top_i (nI_add ne 1) ?_
            refine xp11 hx hb hts hown hK hu dX0_readEater_154 (fun H locs hu => ?_)
            refine lv_aload_n hx hb dX0_readEater_157 rfl (lv_at hl 1 rfl) ?_
            refine xg13 hx hb hts hown hK hu.1 dX0_readEater_158 ?_
            refine lv_iload_n hx hb dX0_readEater_161 rfl (lv_at hl 0 rfl) ?_
            refine lv_iconst (v := nI 3) hx hb dX0_readEater_162 (by decide) ?_
            refine lv_iadd hx hb dX0_readEater_163 ?_
            refine top_i (nI_add (4 * ne) 3) ?_
            refine xa13 hx hb hK hu.1 (j := 4 * ne + 3) (by omega) dX0_readEater_164 ?_
            refine top_i (y := -9) (put2_eq _ 13 (4 * ne + 3) (-9)) ?_
            refine lv_bipush (v := -9) hx hb dX0_readEater_165 (by decide) ?_
            refine lv_icmp_eq (tgt := 174) hx hb dX0_readEater_167 (by decide) (fun _ => ?_) (fun c0 => absurd rfl c0)
            refine lv_iconst (v := 0) hx hb dX0_readEater_174 (by decide) ?_
            exact hret _ H locs 175 (by rw [e1]; decide) ⟨fun k k8 k11 k13 => by simp only [put2, if_neg k8, if_neg k11, if_neg k13], by rw [e1]; rfl, fun j hj => xE_low3 rfl hj, fun q => by rw [e1] at q; cases q⟩ hu dX0_readEater_175
          | true =>
            have hlt4 := (dig_lt (lo := 0) (hi := 6) (by decide) hd3).1
            have hv3 := dig_no9 (by decide) (by decide) hd3
            simp only [hd3, if_true] at hu ⊢
            refine xs13 hx hb hK hu (j := 4 * ne + 3) (by omega) dX0_readEater_146 (fun H locs hu => ?_)
            refine lv_aload_n hx hb dX0_readEater_147 rfl (lv_at hl 1 rfl) ?_
            refine lv_dup hx hb dX0_readEater_148 rfl ?_
            refine xg11 hx hb hts hown hK hu.1 dX0_readEater_149 ?_
            refine top_i (y := nI ne) h11 ?_
            refine lv_iconst (v := nI 1) hx hb dX0_readEater_152 (by decide) ?_
            refine lv_iadd hx hb dX0_readEater_153 ?_
            refine top_i (nI_add ne 1) ?_
            refine xp11 hx hb hts hown hK hu dX0_readEater_154 (fun H locs hu => ?_)
            refine lv_aload_n hx hb dX0_readEater_157 rfl (lv_at hl 1 rfl) ?_
            refine xg13 hx hb hts hown hK hu.1 dX0_readEater_158 ?_
            refine lv_iload_n hx hb dX0_readEater_161 rfl (lv_at hl 0 rfl) ?_
            refine lv_iconst (v := nI 3) hx hb dX0_readEater_162 (by decide) ?_
            refine lv_iadd hx hb dX0_readEater_163 ?_
            refine top_i (nI_add (4 * ne) 3) ?_
            refine xa13 hx hb hK hu.1 (j := 4 * ne + 3) (by omega) dX0_readEater_164 ?_
            refine top_i (y := r (b + 4) - 48) (put2_eq _ 13 (4 * ne + 3) (r (b + 4) - 48)) ?_
            refine lv_bipush (v := -9) hx hb dX0_readEater_165 (by decide) ?_
            refine lv_icmp_eq (tgt := 174) hx hb dX0_readEater_167 (by decide) (fun c0 => absurd c0 hv3) (fun _ => ?_)
            refine lv_iconst (v := 1) hx hb dX0_readEater_170 (by decide) ?_
            refine lv_goto (tgt := 175) hx hb dX0_readEater_171 (by decide) ?_
            have e5 : eAt r nn b = 5 := by rw [eAt, if_neg (fun q => q h59), if_neg hk, if_neg (bt_nf (show dig r nn (b + 2) 0 5 = true from hd1)), if_neg (bt_nf (show dig r nn (b + 3) 1 9 = true from hd2)), if_neg (bt_nf (show dig r nn (b + 4) 0 6 = true from hd3))]
            refine rU_z hx hb hr hlk hu dX0_readEater_175 (Nat.le_of_ble_eq_true rfl) (Nat.le_of_ble_eq_true rfl) (b := decide (eAt r nn b = 5)) (by rw [e5]; rfl) ⟨rfl, _, rfl, fun k k8 k11 k13 => by simp only [put2, if_neg k8, if_neg k11, if_neg k13], by rw [e5]; rfl, fun j hj => xE_low3 rfl hj, fun _ => ⟨rfl, ?_, ?_, ?_, ?_⟩⟩
            · rw [← htk1]; exact xE_v.1
            · exact xE_v.2.1
            · exact xE_v.2.2
            · exact put2_eq _ 13 (4 * ne + 3) (r (b + 4) - 48)
    · have e1 : eAt r nn b = 1 := by rw [eAt, if_neg (fun q => q h59), if_pos hk]
      refine lv_icmp_ne (tgt := 70) hx hb dX0_readEater_65 (by decide) (fun c0 => absurd rfl c0) (fun _ => ?_)
      refine lv_iconst (v := 0) hx hb dX0_readEater_68 (by decide) ?_
      exact hret _ H locs 69 (by rw [e1]; decide) ⟨fun k k8 k11 k13 => by simp only [put2]; rw [if_neg k13], by rw [e1]; exact h8, fun j hj => by show upd (τ 13) (4 * ne) _ j = _; unfold upd; rw [if_neg (by omega)], fun q => by rw [e1] at q; cases q⟩ hu dX0_readEater_69
  refine lv_aload_n hx hb dX0_readEater_7 rfl (lv_at hl 1 rfl) ?_
  refine xg13 hx hb hts hown hK hu.1 dX0_readEater_8 ?_
  refine lv_iload_n hx hb dX0_readEater_11 rfl (lv_at hl 0 rfl) ?_
  refine lv_aload_n hx hb dX0_readEater_12 rfl (lv_at hl 1 rfl) ?_
  refine lv_aload_n hx hb dX0_readEater_13 rfl (lv_at hl 2 rfl) ?_
  refine lv_bipush (v := 101) hx hb dX0_readEater_14 (by decide) ?_
  refine callU_V (rest := [.int (nI (4 * ne)), .ref (B 4)]) hx hb hml hown hts KX_st hK hA hAN hZ (cX_isSign l D d H00 B τ ea hs ρ ra jr nn (b + 1) r 101 hra h8 hb1 hnn (by decide)) (wX0_isSign hts ⟨Nat.le_of_ble_eq_true rfl, Nat.le_of_ble_eq_true rfl⟩) (x_recv hK hu.1) hu rfl hl.1 rfl (Nat.le_of_ble_eq_true rfl) dX0_readEater_16 ⟨Nat.le_of_ble_eq_true rfl, Nat.le_of_ble_eq_true rfl⟩ (fun r ws H locs hpo hu => ?_)
  obtain ⟨rfl, rfl⟩ := hpo
  refine bz_eq (tgt := 26) hx hb dX0_readEater_19 (by decide) (fun c1 => ?_) (fun c1 => ?_)
  · have c1 : ¬ tok r nn (b + 1) = 101 := of_decide_eq_false c1
    simp only [if_neg c1] at hu
    refine lv_aload_n hx hb dX0_readEater_26 rfl (lv_at hl 1 rfl) ?_
    refine lv_aload_n hx hb dX0_readEater_27 rfl (lv_at hl 2 rfl) ?_
    refine lv_bipush (v := 115) hx hb dX0_readEater_28 (by decide) ?_
    refine callU_V (rest := [.int (nI (4 * ne)), .ref (B 4)]) hx hb hml hown hts KX_st hK hA hAN hZ (cX_isSign l D d H00 B τ ea hs ρ ra jr nn (b + 1) r 115 hra h8 hb1 hnn (by decide)) (wX0_isSign hts ⟨Nat.le_of_ble_eq_true rfl, Nat.le_of_ble_eq_true rfl⟩) (x_recv hK hu.1) hu rfl hl.1 rfl (Nat.le_of_ble_eq_true rfl) dX0_readEater_30 ⟨Nat.le_of_ble_eq_true rfl, Nat.le_of_ble_eq_true rfl⟩ (fun r ws H locs hpo hu => ?_)
    obtain ⟨rfl, rfl⟩ := hpo
    refine bz_eq (tgt := 40) hx hb dX0_readEater_33 (by decide) (fun c2 => ?_) (fun c2 => ?_)
    · have c2 : ¬ tok r nn (b + 1) = 115 := of_decide_eq_false c2
      simp only [if_neg c2] at hu
      refine lv_aload_n hx hb dX0_readEater_40 rfl (lv_at hl 1 rfl) ?_
      refine lv_aload_n hx hb dX0_readEater_41 rfl (lv_at hl 2 rfl) ?_
      refine lv_bipush (v := 108) hx hb dX0_readEater_42 (by decide) ?_
      refine callU_V (rest := [.int (nI (4 * ne)), .ref (B 4)]) hx hb hml hown hts KX_st hK hA hAN hZ (cX_isSign l D d H00 B τ ea hs ρ ra jr nn (b + 1) r 108 hra h8 hb1 hnn (by decide)) (wX0_isSign hts ⟨Nat.le_of_ble_eq_true rfl, Nat.le_of_ble_eq_true rfl⟩) (x_recv hK hu.1) hu rfl hl.1 rfl (Nat.le_of_ble_eq_true rfl) dX0_readEater_44 ⟨Nat.le_of_ble_eq_true rfl, Nat.le_of_ble_eq_true rfl⟩ (fun r ws H locs hpo hu => ?_)
      obtain ⟨rfl, rfl⟩ := hpo
      refine bz_eq (tgt := 54) hx hb dX0_readEater_47 (by decide) (fun c3 => ?_) (fun c3 => ?_)
      · have c3 : ¬ tok r nn (b + 1) = 108 := of_decide_eq_false c3
        simp only [if_neg c3] at hu
        refine lv_bipush (v := -9) hx hb dX0_readEater_54 (by decide) ?_
        exact h56 (-9) τ _ _ (Or.inr ⟨kdc_3 c1 c2 c3, rfl, rfl⟩) hu
      · have c3 : tok r nn (b + 1) = 108 := of_decide_eq_true c3
        simp only [if_pos c3] at hu
        have ek : kdc (tok r nn (b + 1)) = 2 := by rw [c3]; decide
        refine lv_iconst (v := nI 2) hx hb dX0_readEater_50 (by decide) ?_
        refine lv_goto (tgt := 56) hx hb dX0_readEater_51 (by decide) ?_
        exact h56 _ _ _ _ (Or.inl ⟨by rw [ek]; decide, by rw [ek], by rw [ek]; decide, rfl⟩) hu
    · have c2 : tok r nn (b + 1) = 115 := of_decide_eq_true c2
      simp only [if_pos c2] at hu
      have ek : kdc (tok r nn (b + 1)) = 1 := by rw [c2]; decide
      refine lv_iconst (v := nI 1) hx hb dX0_readEater_36 (by decide) ?_
      refine lv_goto (tgt := 56) hx hb dX0_readEater_37 (by decide) ?_
      exact h56 _ _ _ _ (Or.inl ⟨by rw [ek]; decide, by rw [ek], by rw [ek]; decide, rfl⟩) hu
  · have c1 : tok r nn (b + 1) = 101 := of_decide_eq_true c1
    simp only [if_pos c1] at hu
    have ek : kdc (tok r nn (b + 1)) = 0 := by rw [c1]; decide
    refine lv_iconst (v := nI 0) hx hb dX0_readEater_22 (by decide) ?_
    refine lv_goto (tgt := 56) hx hb dX0_readEater_23 (by decide) ?_
    exact h56 _ _ _ _ (Or.inl ⟨by rw [ek]; decide, by rw [ek], by rw [ek]; decide, rfl⟩) hu
