/-! a row out of a sheet, as duchy and plan ask for it; plan -/
theorem bey_out {i n : Int32} {L : Nat} (hL : L ≤ 60) (hn : ¬ n < 0) (h : pBeyond i n.toInt64 (nI L) = true) : i < 0 ∨ nI L - n < i := by
  by_cases hi : i < 0
  · exact Or.inl hi
  · right
    obtain ⟨a, ha, rfl⟩ := nI_of hi
    obtain ⟨b, hb, rfl⟩ := nI_of hn
    have ea : (nI a).toInt = (a : Int) := Int32.toInt_ofNat_of_lt ha
    have eb : (nI b).toInt = (b : Int) := Int32.toInt_ofNat_of_lt hb
    have eL : (nI L).toInt = (L : Int) := Int32.toInt_ofNat_of_lt (by omega)
    simp only [pBeyond, Bool.or_eq_true, decide_eq_true_eq] at h
    rcases h with h | h | h
    · exact absurd h hi
    · exfalso
      rw [i64_lt, Int32.toInt_toInt64, eb] at h
      have e9 : (0 : Int64).toInt = 0 := rfl
      omega
    · rw [nI_l ha, nI_l hb, nI_l (show L < 2 ^ 31 by omega), lN_add, i64_lt, lN_toInt (show L < 2 ^ 31 by omega)] at h
      have e3 : (lN (a + b)).toInt = ((a + b : Nat) : Int) := pk_lT (by omega)
      rw [e3] at h
      rw [Int32.lt_iff_toInt_lt, ea, Int32.toInt_sub, eL, eb, Int.bmod_eq_of_le (by omega) (by omega)]
      omega
section XRW
variable {p : Program} {l : Launch} {e : Env} {R : Room} {s : State} {m : MethodId} {args : Array Value} {below : List Frame} {meth : Method} {c : Code} {H : Heap} {locs : List Loc} {cells slots : Nat} {Q : State → Prop}
variable {cc : ByteArray} {pc nL : Nat} {ls : Array Slot} {rest : List Value} {D : va_G} {d : Nat → ClassId} {A : Nat → Prop} {H00 : Heap} {B : Nat → Nat} {τ : Nat → Nat → Int32} {ea e0 : Nat} {hs : Nat → Option Nat} {ρ : va_W} {F : Nat → Nat} {σ : ASt} {ws : va_W}
theorem kT.less {c1 c2 s1 s2 : Nat} {cls : String} {g : JFrame} (h : kT p l e R s m args below meth c c2 s2 Q D A ws cls g) (h1 : c1 ≤ c2) (h2 : s1 ≤ s2) : kT p l e R s m args below meth c c1 s1 Q D A ws cls g := fun H' locs' a hu hx T hT X => h H' locs' a hu hx T hT (X.more h1 h2)
theorem W.less {c1 c2 s1 s2 : Nat} {g : JFrame} (h : W p l e R s m args below meth c H locs c2 s2 Q g) (h1 : c1 ≤ c2) (h2 : s1 ≤ s2) : W p l e R s m args below meth c H locs c1 s1 Q g := fun T hT X => h T hT (X.more h1 h2)
set_option maxHeartbeats 4000000 in
theorem x_row  (htr : ∀ e, l.admits e → e.platform.stackTraces = false) (had : l.admits e) (hx : p.tables.exec = Jvm.exec) (hb : c.code = cc) (hml : c.maxLocals = nL) (hown : s.vm.findClass RX0 = some m.cls) (hts : ∀ w ∈ lw_all, w.before args s = true) (hK : KE D d e0 H00 s) (hA : ∀ q : Nat, s.heap.size ≤ q → A q) (hAN : ∀ q : Nat, A q → H00.size ≤ q) (hZ : H00.size ≤ s.heap.size ∧ ∀ q : Nat, q < H00.size → s.heap[q]? = H00[q]?) (hu : uW D A s.heap H locs (xw d B τ ea hs ρ)) (hm : xRep d B e0 σ τ ea hs ρ F)
    {j lx : Nat} {i n : Int32} {lv : List (Nat × Value)} (hj : j < 4) (hlx : lx < 3) (hl : lv_has ls nL lv) (l0 : ls[0]? = some (.val (.ref (B 0)))) (l1 : ls[1]? = some (.val (.int (nI j)))) (l2 : ls[2]? = some (.val (.int (nI lx)))) (l3 : ls[3]? = some (.val (.int i))) (l4 : ls[4]? = some (.val (.int n)))
    (hd0 : decode cc pc = .ok (.aload_n 0, 1)) (hd1 : decode cc (pc + 1) = .ok (.getfield 49, 3)) (hd4 : decode cc (pc + 1 + 3) = .ok (.iload_n 1, 1)) (hd5 : decode cc (pc + 1 + 3 + 1) = .ok (.aaload, 1)) (hd6 : decode cc (pc + 1 + 3 + 1 + 1) = .ok (.getfield 158, 3)) (hd9 : decode cc (pc + 1 + 3 + 1 + 1 + 3) = .ok (.iload_n 2, 1)) (hd10 : decode cc (pc + 1 + 3 + 1 + 1 + 3 + 1) = .ok (.invokestatic 164, 3)) (hd13 : decode cc (pc + 1 + 3 + 1 + 1 + 3 + 1 + 3) = .ok (.iload_n 3, 1)) (hd14 : decode cc (pc + 1 + 3 + 1 + 1 + 3 + 1 + 3 + 1) = .ok (.iload 4, 2)) (hd16 : decode cc (pc + 1 + 3 + 1 + 1 + 3 + 1 + 3 + 1 + 2) = .ok (.invokestatic 168, 3))
    (hW : (rest.map fun v => v.category).sum ≤ 4) (hR : 10 ≤ R.frames ∧ 10366 ≤ R.locals ∧ cells + 4 ≤ R.cells ∧ slots + 1061 ≤ R.slots)
    (kok : bar σ j lx i n = 0 → ∀ (q a b : Nat) (g : Nat → Int32) (H1 : Heap) (locs1 : List Loc), i = nI a → n = nI b → a ≤ 60 ∧ b ≤ 60 → (∀ t, t < b → g t = txt σ j a t) → uW D A s.heap H1 locs1 (xw d B τ ea hs (ρ ++ [(q, .inl (d 0, b, .inl g))])) → W p l e R s m args below meth c H1 locs1 (cells + 1) (slots + 60) Q (F0 m (pc + 1 + 3 + 1 + 1 + 3 + 1 + 3 + 1 + 2 + 3) ls (.ref q :: rest)))
    (kno : ∀ (cls : String) (w : Nat), (cls = nmC ∧ w = 2) ∨ (cls = nmN ∧ w = 1) ∨ (cls = nmS ∧ w = 4) ∨ (cls = nmA ∧ w = 3) → bar σ j lx i n = w → ∀ (pc' : Nat) (rest' : List Value), pc ≤ pc' → pc' < pc + 19 → kT p l e R s m args below meth c (cells + 4) (slots + 1061) Q D A (xw d B τ ea hs ρ) cls (F0 m pc' ls rest')) : W p l e R s m args below meth c H locs cells slots Q (F0 m pc ls rest) := by
  obtain ⟨hR1, hR2, hR3, hR4⟩ := hR
  refine lv_aload_n hx hb hd0 rfl l0 ?_
  refine xg19 hx hb hts hown hK.1 hu.1 hd1 ?_
  refine lv_iload_n hx hb hd4 rfl l1 ?_
  refine xh_ald hx hb hK.1 hu.1 hj hd5 ?_
  obtain ⟨mkr, hcr⟩ := xCode.of (hts _ q357)
  obtain ⟨mkl, hcl⟩ := xCode.of (hts _ q351)
  rcases xSh_at hm.sh hj with ⟨h1, h2⟩ | ⟨z, fa, jj, f, h1, h2, h3, h4⟩
  · refine xh_get hx hb hts hown hK.1 hu.1 hj (v := .null) (by rw [h2]; rfl) hd6 ?_
    refine lv_iload_n hx hb hd9 rfl l2 ?_
    refine callR_S (rest := rest) hx hb hml hown hts KX_st hK.1 (cY_laneN l D d (xw d B τ ea hs ρ) lx hlx) (wX0_asLane (rm := rk 0) hts ⟨by show 0 + 1 ≤ R.frames; omega, by show 8 + (2 + 11) + 40 * 0 ≤ R.locals; omega⟩) hu.1 rfl hl.1 rfl (by omega) hd10 ⟨by omega, by omega⟩ ?_
    refine lv_iload_n hx hb hd13 rfl l3 ?_
    refine lv_iload hx hb hd14 l4 ?_
    refine callX_S (own := RX0) (rest := rest) hx hb hml hown hts KE_st hK hA hAN hZ (cY_rowN l D d e0 H00 htr (xw d B τ ea hs ρ) i n) hcr q355 q356 q51 ⟨by decide, by decide, by decide, pd_rowOf⟩ (Nat.le_of_ble_eq_true rfl) hu hl.1 rfl (by omega) hd16 ⟨by show 9 + 1 ≤ R.frames; omega, by show 8 + (6 + 11) + 10340 ≤ R.locals; omega, hR3, hR4⟩ (fun r w H1 l1 hp _ => absurd hp id) (fun cls he => ?_)
    subst he
    exact kno nmN 1 (Or.inr (Or.inl ⟨rfl, rfl⟩)) (by unfold bar; rw [h1]) _ _ (by omega) (by omega)
  · have hz := hm.ok.2.2.2.2.2.2 j z h1
    obtain ⟨lz, L, g0⟩ := z
    have hlz : lz < 3 := hz.1
    have hL60 : L ≤ 60 := hz.2
    have h4 : ∀ t, t < L → f t = g0 t := h4
    have h3x : (xw d B τ ea hs ρ)[jj + 14]? = some (fa, .inl (lnC d lz, L, .inl f)) := h3
    refine xh_get hx hb hts hown hK.1 hu.1 hj (v := .ref fa) (by rw [h2]; rfl) hd6 ?_
    refine lv_iload_n hx hb hd9 rfl l2 ?_
    by_cases hle : lz = lx
    · subst hle
      refine callR_S (rest := rest) hx hb hml hown hts KX_st hK.1 (cY_lane l D d (xw d B τ ea hs ρ) fa (jj + 14) lz L f h3x hlz) (wX0_asLane (rm := rk 0) hts ⟨by show 0 + 1 ≤ R.frames; omega, by show 8 + (2 + 11) + 40 * 0 ≤ R.locals; omega⟩) hu.1 rfl hl.1 rfl (by omega) hd10 ⟨by omega, by omega⟩ ?_
      refine lv_iload_n hx hb hd13 rfl l3 ?_
      refine lv_iload hx hb hd14 l4 ?_
      have en : n.toInt64 < 0 ↔ n < 0 := by rw [i64_lt, Int32.toInt_toInt64, Int32.lt_iff_toInt_lt]; rfl
      by_cases hn : n < 0
      · refine callX_S (own := RX0) (rest := rest) hx hb hml hown hts KE_st hK hA hAN hZ (cY_rowS l D d e0 H00 htr (xw d B τ ea hs ρ) fa (jj + 14) lz L f h3x hlz i n hn) hcr q355 q356 q51 ⟨by decide, by decide, by decide, pd_rowOf⟩ (Nat.le_of_ble_eq_true rfl) hu hl.1 rfl (by omega) hd16 ⟨by show 9 + 1 ≤ R.frames; omega, by show 8 + (6 + 11) + 10340 ≤ R.locals; omega, hR3, hR4⟩ (fun r w H1 l1 hp _ => absurd hp id) (fun cls he => ?_)
        subst he
        refine kno nmS 4 (Or.inr (Or.inr (Or.inl ⟨rfl, rfl⟩))) ?_ _ _ (by omega) (by omega)
        unfold bar
        rw [h1]
        simp only [not_true_eq_false, if_false, if_pos (en.mpr hn)]
      · have hn' : ¬ n.toInt64 < 0 := fun q => hn (en.mp q)
        cases hbey : pBeyond i n.toInt64 (nI L) with
        | true =>
          refine callX_S (own := RX0) (rest := rest) hx hb hml hown hts KE_st hK hA hAN hZ (cY_rowO l D d e0 H00 htr (xw d B τ ea hs ρ) fa (jj + 14) lz L f h3x hlz i n hn (bey_out hL60 hn hbey)) hcr q355 q356 q51 ⟨by decide, by decide, by decide, pd_rowOf⟩ (Nat.le_of_ble_eq_true rfl) hu hl.1 rfl (by omega) hd16 ⟨by show 9 + 1 ≤ R.frames; omega, by show 8 + (6 + 11) + 10340 ≤ R.locals; omega, hR3, hR4⟩ (fun r w H1 l1 hp _ => absurd hp id) (fun cls he => ?_)
          subst he
          refine kno nmA 3 (Or.inr (Or.inr (Or.inr ⟨rfl, rfl⟩))) ?_ _ _ (by omega) (by omega)
          unfold bar
          rw [h1]
          simp only [not_true_eq_false, if_false, if_neg hn', hbey, if_true]
        | false =>
          obtain ⟨a, b, ea1, eb1, hab⟩ := bey_ix hL60 hbey
          subst ea1 eb1
          refine callU_S (rest := rest) hx hb hml hown hts KX_st hK.1 hA hAN hZ (cY_row l D d H00 (xw d B τ ea hs ρ) fa (jj + 14) lz L f h3x hlz hL60 a b hab) (wX0_rowOf (rm := rc 1 1 60) hts ⟨by show 1 + 1 ≤ R.frames; omega, by show 8 + (6 + 11) + 40 * 1 ≤ R.locals; omega⟩) hu rfl hl.1 rfl (by omega) hd16 ⟨by show cells + 1 ≤ R.cells; omega, by show slots + 60 ≤ R.slots; omega⟩ (fun r wx H1 locs1 hpo hu1 => ?_)
          obtain ⟨q, g, rfl, rfl, hg⟩ := hpo
          refine kok ?_ q a b g H1 locs1 rfl rfl ⟨by omega, by omega⟩ (fun t ht => ?_) hu1
          · unfold bar
            rw [h1]
            simp only [not_true_eq_false, if_false, if_neg hn', hbey, Bool.false_eq_true]
          · rw [hg t ht, h4 _ (by omega)]
            unfold txt
            rw [h1]
    · refine callX_S (own := RX0) (rest := rest) hx hb hml hown hts KE_st hK hA hAN hZ (cY_laneO l D d e0 H00 htr (xw d B τ ea hs ρ) fa (jj + 14) lz L f h3x hlz lx hlx hle) hcl q349 q350 q51 ⟨by decide, by decide, by decide, pd_asLane⟩ (Nat.le_of_ble_eq_true rfl) hu hl.1 rfl (by omega) hd10 ⟨by show 8 + 1 ≤ R.frames; omega, by show 8 + (2 + 11) + 10300 ≤ R.locals; omega, by show cells + 3 ≤ R.cells; omega, by show slots + 1000 ≤ R.slots; omega⟩ (fun r w H1 l1 hp _ => absurd hp id) (fun cls he => ?_)
      subst he
      refine (kno nmC 2 (Or.inl ⟨rfl, rfl⟩) ?_ _ _ (by omega) (by omega)).less (by show cells + 3 ≤ _; omega) (by show slots + 1000 ≤ _; omega)
      unfold bar
      rw [h1]
      simp only [hle, not_false_eq_true, if_true]
end XRW
