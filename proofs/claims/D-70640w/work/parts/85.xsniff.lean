/-! sniff: an interface call that lands in a default method -/
section SN
variable {p : Program} {l : Launch} {e : Env} {R : Room} {s : State} {m : MethodId} {args : Array Value} {below : List Frame} {meth : Method} {c : Code} {H : Heap} {locs : List Loc} {cells slots : Nat} {Q : State → Prop}
variable {cc cb : ByteArray} {pc nL nLb index n : Nat} {ls : Array Slot} {rest : List Value} {K : State → Prop} {D : va_G} {A : Nat → Prop} {y : MethodName} {ret : Option FieldType} {rm : Room} {As : List Value} {own C : String} {tb : List (Nat × Nat × Nat × Nat)} {H00 : Heap} {ws : va_W} {Post : Option Value → va_W → Prop} {Exc : String → Prop}
theorem callX_D {mk : MethodId} {b : Addr} {xm : MethodName} {count : Nat} {cC : ClassId} (hat : ClassAt s C cC) (hx : p.tables.exec = Jvm.exec) (hb : c.code = cc) (hml : c.maxLocals = nL) (hown : s.vm.findClass own = some m.cls) (hts : ∀ w ∈ lw_all, w.before args s = true) (hst : Kst K) (hK : K s) (hA : ∀ q : Nat, s.heap.size ≤ q → A q) (hAN : ∀ q : Nat, A q → H00.size ≤ q) (hZ : H00.size ≤ s.heap.size ∧ ∀ q : Nat, q < H00.size → s.heap[q]? = H00[q]?)
    (hM : cX l K H00 D y cb nLb ret tb rm (.ref b :: As) ws Post Exc) (hc : xCode y cb nLb ret tb s mk) (hlink : Cond.methodLink own index xm ∈ lw_all) (hinst : Cond.instanceMethod y ∈ lw_all) (hF : va_Fw C xm y s) (hD : dflt C xm y s) (hy : plainName y.cls = true ∧ xm.cls ≠ "java/lang/invoke/MethodHandle" ∧ xm.cls ≠ "java/lang/invoke/VarHandle" ∧ (parseMethodDescriptor xm.desc).map (fun d => d.parameters.length) = some As.length) (hlen : (lg_sl (.ref b :: As)).length ≤ nLb)
    (hrc : ∃ cellB : Cell, H[b]? = some cellB ∧ cellB.vm.isStatics = false ∧ s.vm.findClass C = some cellB.cls) (hu : uW D A s.heap H locs ws) (hl : ls.size = nL) {st0 : List Value} (hs0 : st0 = As.reverse ++ .ref b :: rest) (hW : (rest.map fun v => v.category).sum ≤ 8) (hdg : decode cc pc = .ok (.invokeinterface index count, 5)) (hf : rm.frames + 1 ≤ R.frames ∧ 8 + (nLb + 11) + rm.locals ≤ R.locals ∧ cells + rm.cells ≤ R.cells ∧ slots + rm.slots ≤ R.slots)
    (kr : ∀ (r : Option Value) (ws' : va_W) (H1 : Heap) (locs1 : List Loc), Post r ws' → uW D A s.heap H1 locs1 ws' → W p l e R s m args below meth c H1 locs1 (cells + rm.cells) (slots + rm.slots) Q (F0 m (pc + 5) ls (r.toList ++ rest)))
    (kt : ∀ cls : String, Exc cls → kT p l e R s m args below meth c (cells + rm.cells) (slots + rm.slots) Q D A ws cls (F0 m pc ls rest)) : W p l e R s m args below meth c H locs cells slots Q (F0 m pc ls st0) := by
  subst hs0
  intro T hT X
  have hc' := hc
  obtain ⟨mt, cd, k1, k2, k3, k4, k5, k6, k7, k8, k9⟩ := hc'
  obtain ⟨cellB, r1, r2, r3⟩ := hrc
  obtain ⟨hfc, kB, hkB, -⟩ := hat
  cases hfc.symm.trans r3
  obtain ⟨f1, f2, f3, f4, f5⟩ := hF
  obtain ⟨r0, r, hn, hrm, hstR, hsigR⟩ := Cond.declares_spec f1
  obtain ⟨cL, kL, rr, hcL, hkL, hiL, hfoundL, hn1⟩ := Cond.interfaceMethod_spec f2
  cases hn.symm.trans hn1
  have hr0cls : r0.cls = cL := Option.some.inj ((findClass_of_methodNamed hn).symm.trans hcL)
  obtain ⟨hnameR, hdescR⟩ := name_of_methodNamed hn hrm
  obtain ⟨mi, mti, i1, i2, -, i4⟩ := Cond.instanceMethod_spec (hts _ hinst)
  cases i1.symm.trans k1
  cases i2.symm.trans k2
  obtain ⟨c2, r2', m2, q1, q2, q3, q4⟩ := hD
  cases r3.symm.trans q1
  cases hfoundL.symm.trans q2
  cases k1.symm.trans q3
  have hselP : selectMethod e.platform s.vm cellB.cls r0 = .method mk := by rw [Launch.admits_selectMethod X.admits]; exact q4
  have hpubM : hasFlag mt.accessFlags Acc.public_ = true := Cond.publicMethod_spec k1 k2 f3
  have hway : ((cellB.cls :: s.vm.superclasses cellB.cls).any fun k => (declaredIn s.vm r.name r.desc k).any fun (_, z) => z.isPrivate || z.isStatic) = false := by
    rw [hnameR, hdescR]; exact Cond.unhidden_spec r3 f4
  obtain ⟨c3, t3, w1, w2, w3⟩ := Cond.castable_spec f5
  cases r3.symm.trans w1
  cases hcL.symm.trans w2
  obtain ⟨vm', X', st⟩ := X.invokeinterface hx hown (hts _ hlink) hn hrm hstR (by rw [hr0cls]; exact hkL) hiL ⟨hy.2.1, hy.2.2.1⟩ (a := b) (cell := cellB) (kcell := kB) (by rw [hT]; exact r1)
    (fun z h => by rw [h] at r2; cases r2) hkB (by rw [hr0cls]; exact w3) hselP k2 hway hpubM i4 (g := F0 m pc ls (As.reverse ++ .ref b :: rest)) rfl (argsL := As) (rest := rest) (by
    have := hy.2.2.2
    rw [hsigR] at this
    exact (Option.some.inj this).symm) rfl (by rw [hb]; exact hdg)
  obtain ⟨t, a1, a2⟩ := runX hx hb hml hts hst hK hA hAN hZ hM hc hy.1 hlen hu hl hW hdg hf kr kt (U := T.setVm vm') hT X'
  exact ⟨t, st t (fun acts => a1 acts), a2⟩
end SN
section SN2
variable {p : Program} {l : Launch} {e : Env} {R : Room} {s : State} {m : MethodId} {args : Array Value} {below : List Frame} {meth : Method} {c : Code} {H : Heap} {locs : List Loc} {cells slots : Nat} {Q : State → Prop}
variable {cc : ByteArray} {pc : Nat} {ls : Array Slot} {rest : List Value} {D : va_G} {d : Nat → ClassId} {ws : va_W} {fa j x kd nu sp st nd : Nat}
theorem scast {idx : Nat} (hx : p.tables.exec = Jvm.exec) (hb : c.code = cc) (hlk : (Cond.classLink RX0 idx RX6).before args s = true) (hown : s.vm.findClass RX0 = some m.cls) (hK : KX D d s) (hP : va_P D vwCl ws H) (hj : ws[j]? = some (fa, .inr (3 + kd, eF x kd nu sp st nd))) (hkd : kd < 3) (hdg : decode cc pc = .ok (.checkcast idx, 3)) (kk : W p l e R s m args below meth c H locs cells slots Q (F0 m (pc + 3) ls (.ref fa :: rest))) : W p l e R s m args below meth c H locs cells slots Q (F0 m pc ls (.ref fa :: rest)) := by
  rcases kd3 hkd with h | h | h
  · subst h; exact va_castY hx hb hown hlk (hK.c 6 rfl) (e_recv hK hP hj rfl) hdg kk
  · subst h; exact va_castY hx hb hown hlk (hK.c 7 rfl) (e_recv hK hP hj rfl) hdg kk
  · subst h; exact va_castY hx hb hown hlk (hK.c 8 rfl) (e_recv hK hP hj rfl) hdg kk
end SN2
theorem wX3_usual_F0 {D : va_G} {d : Nat → ClassId} {R : Room} {s : State} {args : Array Value} {rm : Room} (hts : ∀ w ∈ lw_all, w.before args s = true) (hK : KX D d s) (hR : rm.frames + 1 ≤ R.frames ∧ 8 + (1 + 11) + rm.locals ≤ R.locals) : va_CI R s args RX6 RX3 1 ySusual yX3_usual cX3_usual 1 (some .int) (ws_ yX3_usual cX3_usual 1 (some .int)) rm rm.cells rm.slots 0 :=
  va_cwF 0 hts (lw_app (lw_l4 q859 q862 q864 q68) (lw_meth q866)) rfl rfl rfl (hK.i 4 rfl) (by decide +kernel) hR
theorem wX3_usual_F1 {D : va_G} {d : Nat → ClassId} {R : Room} {s : State} {args : Array Value} {rm : Room} (hts : ∀ w ∈ lw_all, w.before args s = true) (hK : KX D d s) (hR : rm.frames + 1 ≤ R.frames ∧ 8 + (1 + 11) + rm.locals ≤ R.locals) : va_CI R s args RX6 RX4 1 ySusual yX3_usual cX3_usual 1 (some .int) (ws_ yX3_usual cX3_usual 1 (some .int)) rm rm.cells rm.slots 0 :=
  va_cwF 0 hts (lw_app (lw_l4 q859 q868 q864 q68) (lw_meth q866)) rfl rfl rfl (hK.i 5 rfl) (by decide +kernel) hR
theorem wX5_sniff_F {D : va_G} {d : Nat → ClassId} {R : Room} {s : State} {args : Array Value} {rm : Room} (hts : ∀ w ∈ lw_all, w.before args s = true) (hK : KX D d s) (hR : rm.frames + 1 ≤ R.frames ∧ 8 + (1 + 11) + rm.locals ≤ R.locals) : va_CI R s args RX0 RX5 310 yX6_sniff yX5_sniff cX5_sniff 1 (some .int) (ws_ yX5_sniff cX5_sniff 1 (some .int)) rm rm.cells rm.slots 0 :=
  va_cwF 0 hts (lw_app (lw_l4 q850 q874 q876 q70) (lw_meth q878)) rfl rfl rfl (hK.i 6 rfl) (by decide +kernel) hR
set_option maxHeartbeats 4000000 in
set_option maxRecDepth 100000 in
theorem cI_sniff (l : Launch) (D : va_G) (d : Nat → ClassId) (H00 : Heap) (B : Nat → Nat) (τ : Nat → Nat → Int32) (ea : Nat) (hs : Nat → Option Nat) (ρ : va_W) (fa j kd nu sp st nd : Nat) (hj : ρ[j]? = some (fa, .inr (3 + kd, eF (B 0) kd nu sp st nd))) (hkd : kd < 3) (h2 : kd < 2) : cX l (KX D d) H00 D yX6_sniff cX6_sniff 1 (some .int) [] (rc 2 0 0) [.ref fa] (xw d B τ ea hs ρ) (fun r0 ws => r0 = some (.int (nI nu)) ∧ ws = xw d B (put2 τ 1 0 (31 * τ 1 0 + 4)) ea hs ρ) (fun _ => False) := by
  intro p e s m below meth c A hx had hb hml htb hown hts hr hlk hK hA hAN hZ hnS hu ls hl
  have hl : lv_has ls 1 [(0, .ref fa)] := hl
  have hown : s.vm.findClass RX6 = some m.cls := hown
  refine lv_aload_n hx hb dX6_sniff_0 rfl (lv_at hl 0 rfl) ?_
  have hjw : (xw d B τ ea hs ρ)[j + 14]? = _ := hj
  rcases kd3 hkd with h | h | h
  · subst h
    obtain ⟨cC, hat⟩ := e_at (kd := 0) hK rfl
    refine callU_F (rest := []) hat hx hb hml hown hts KX_st hK hA hAN hZ (cE_usual l D d H00 B τ ea hs ρ fa j 0 nu sp st nd hj hkd) (wX3_usual_F0 hts hK ⟨Nat.le_of_ble_eq_true rfl, Nat.le_of_ble_eq_true rfl⟩) (e_recv hK hu.1 hjw rfl) hu rfl hl.1 rfl (Nat.le_of_ble_eq_true rfl) dX6_sniff_1 ⟨Nat.le_of_ble_eq_true rfl, Nat.le_of_ble_eq_true rfl⟩ (fun r ws H locs hpo hu => ?_)
    obtain ⟨rfl, rfl⟩ := hpo
    exact rX_i hx hb hr hlk hu dX6_sniff_6 (Nat.le_of_ble_eq_true rfl) (Nat.le_of_ble_eq_true rfl) ⟨rfl, rfl⟩
  · subst h
    obtain ⟨cC, hat⟩ := e_at (kd := 1) hK rfl
    refine callU_F (rest := []) hat hx hb hml hown hts KX_st hK hA hAN hZ (cE_usual l D d H00 B τ ea hs ρ fa j 1 nu sp st nd hj hkd) (wX3_usual_F1 hts hK ⟨Nat.le_of_ble_eq_true rfl, Nat.le_of_ble_eq_true rfl⟩) (e_recv hK hu.1 hjw rfl) hu rfl hl.1 rfl (Nat.le_of_ble_eq_true rfl) dX6_sniff_1 ⟨Nat.le_of_ble_eq_true rfl, Nat.le_of_ble_eq_true rfl⟩ (fun r ws H locs hpo hu => ?_)
    obtain ⟨rfl, rfl⟩ := hpo
    exact rX_i hx hb hr hlk hu dX6_sniff_6 (Nat.le_of_ble_eq_true rfl) (Nat.le_of_ble_eq_true rfl) ⟨rfl, rfl⟩
  · omega
theorem pd_sniffed : (parseMethodDescriptor yX0_sniffed.desc).map (fun d => d.parameters.length) = some 1 := by decide +kernel
theorem pd_Isniff : (parseMethodDescriptor yX6_sniff.desc).map (fun d => d.parameters.length) = some 0 := by decide +kernel
set_option maxHeartbeats 4000000 in
set_option maxRecDepth 100000 in
theorem cX_sniffed (l : Launch) (D : va_G) (d : Nat → ClassId) (H00 : Heap) (B : Nat → Nat) (τ : Nat → Nat → Int32) (ea : Nat) (hs : Nat → Option Nat) (ρ : va_W) (fa j kd nu sp st nd : Nat) (hj : ρ[j]? = some (fa, .inr (3 + kd, eF (B 0) kd nu sp st nd))) (hkd : kd < 3) : cX l (KX D d) H00 D yX0_sniffed cX0_sniffed 1 (some .int) [] (rc 3 0 0) [.ref fa] (xw d B τ ea hs ρ) (fun r0 ws => r0 = some (.int (if kd = 2 then 40 else nI nu)) ∧ ws = xw d B (put2 τ 1 0 (31 * τ 1 0 + (if kd = 2 then 5 else 4))) ea hs ρ) (fun _ => False) := by
  intro p e s m below meth c A hx had hb hml htb hown hts hr hlk hK hA hAN hZ hnS hu ls hl
  have hl : lv_has ls 1 [(0, .ref fa)] := hl
  have hown : s.vm.findClass RX0 = some m.cls := hown
  refine lv_aload_n hx hb dX0_sniffed_0 rfl (lv_at hl 0 rfl) ?_
  have hjw : (xw d B τ ea hs ρ)[j + 14]? = _ := hj
  obtain ⟨mki, hci⟩ := xCode.of (hts _ q857)
  rcases kd3 hkd with h | h | h
  · subst h
    obtain ⟨cC, hat⟩ := e_at (kd := 0) hK rfl
    refine callX_D (own := RX0) (xm := yX6_sniff) (As := []) (rest := []) hat hx hb hml hown hts KX_st hK hA hAN hZ (cI_sniff l D d H00 B τ ea hs ρ fa j 0 nu sp st nd hj hkd (by decide)) hci q850 q855 (hK.i 7 rfl) hK.2.2.2.2.2.2.2.2.2.1 ⟨by decide, by decide, by decide, pd_Isniff⟩ (Nat.le_of_ble_eq_true rfl) (e_recv hK hu.1 hjw rfl) hu hl.1 rfl (Nat.le_of_ble_eq_true rfl) dX0_sniffed_1 ⟨Nat.le_of_ble_eq_true rfl, Nat.le_of_ble_eq_true rfl, Nat.le_of_ble_eq_true rfl, Nat.le_of_ble_eq_true rfl⟩ (fun r ws H locs hpo hu => ?_) (fun cls he => absurd he id)
    obtain ⟨rfl, rfl⟩ := hpo
    exact rX_i hx hb hr hlk hu dX0_sniffed_6 (Nat.le_of_ble_eq_true rfl) (Nat.le_of_ble_eq_true rfl) ⟨rfl, rfl⟩
  · subst h
    obtain ⟨cC, hat⟩ := e_at (kd := 1) hK rfl
    refine callX_D (own := RX0) (xm := yX6_sniff) (As := []) (rest := []) hat hx hb hml hown hts KX_st hK hA hAN hZ (cI_sniff l D d H00 B τ ea hs ρ fa j 1 nu sp st nd hj hkd (by decide)) hci q850 q855 (hK.i 8 rfl) hK.2.2.2.2.2.2.2.2.2.2 ⟨by decide, by decide, by decide, pd_Isniff⟩ (Nat.le_of_ble_eq_true rfl) (e_recv hK hu.1 hjw rfl) hu hl.1 rfl (Nat.le_of_ble_eq_true rfl) dX0_sniffed_1 ⟨Nat.le_of_ble_eq_true rfl, Nat.le_of_ble_eq_true rfl, Nat.le_of_ble_eq_true rfl, Nat.le_of_ble_eq_true rfl⟩ (fun r ws H locs hpo hu => ?_) (fun cls he => absurd he id)
    obtain ⟨rfl, rfl⟩ := hpo
    exact rX_i hx hb hr hlk hu dX0_sniffed_6 (Nat.le_of_ble_eq_true rfl) (Nat.le_of_ble_eq_true rfl) ⟨rfl, rfl⟩
  · subst h
    obtain ⟨cC, hat⟩ := e_at (kd := 2) hK rfl
    refine callU_F (rest := []) hat hx hb hml hown hts KX_st hK hA hAN hZ (cT_sniff l D d H00 B τ ea hs ρ fa j 2 nu sp st nd hj hkd (by decide)) (wX5_sniff_F hts hK ⟨Nat.le_of_ble_eq_true rfl, Nat.le_of_ble_eq_true rfl⟩) (e_recv hK hu.1 hjw rfl) hu rfl hl.1 rfl (Nat.le_of_ble_eq_true rfl) dX0_sniffed_1 ⟨Nat.le_of_ble_eq_true rfl, Nat.le_of_ble_eq_true rfl⟩ (fun r ws H locs hpo hu => ?_)
    obtain ⟨rfl, rfl⟩ := hpo
    exact rX_i hx hb hr hlk hu dX0_sniffed_6 (Nat.le_of_ble_eq_true rfl) (Nat.le_of_ble_eq_true rfl) ⟨rfl, rfl⟩
set_option maxHeartbeats 4000000 in
set_option maxRecDepth 100000 in
theorem cX_sniff (l : Launch) (D : va_G) (d : Nat → ClassId) (H00 : Heap) (B : Nat → Nat) (τ : Nat → Nat → Int32) (ea : Nat) (hs : Nat → Option Nat) (ρ : va_W) (e0 : Nat) (F : Nat → Nat) (σ : ASt) (x : Int32) (hm : xRep d B e0 σ τ ea hs ρ F) : cX l (KX D d) H00 D yX0_sniff cX0_sniff 2 (some .int) [] (rc 5 0 0) [.ref (B 0), .int x] (xw d B τ ea hs ρ) (xPost d B e0 (some (.int (f_sniff σ x).1)) (f_sniff σ x).2) (fun _ => False) := by
  intro p e s m below meth c A hx had hb hml htb hown hts hr hlk hK hA hAN hZ hnS hu ls hl
  have hl : lv_has ls 2 [(0, .ref (B 0)), (1, .int x)] := hl
  have hown : s.vm.findClass RX0 = some m.cls := hown
  have hok := hm.ok
  have hE4 : aE σ ≤ 4 := hok.2.1
  refine lv_aload_n hx hb dX0_sniff_0 rfl (lv_at hl 0 rfl) ?_
  refine lv_iload_n hx hb dX0_sniff_1 rfl (lv_at hl 1 rfl) ?_
  refine callR_V (rest := []) hx hb hml hown hts KX_st hK (cX_isEater l D d B τ ea hs ρ e0 F (aE σ) (aD σ) (aN σ) x hm.eat hm.lst hm.day hok.1) (wX0_isEater hts ⟨Nat.le_of_ble_eq_true rfl, Nat.le_of_ble_eq_true rfl⟩) (x_recv hK hu.1) hu.1 rfl hl.1 rfl (Nat.le_of_ble_eq_true rfl) dX0_sniff_2 ⟨Nat.le_of_ble_eq_true rfl, Nat.le_of_ble_eq_true rfl⟩ ?_
  refine top_i (y := bI (isE σ x)) rfl ?_
  refine bz_eq (tgt := 27) hx hb dX0_sniff_5 (by decide) (fun c1 => ?_) (fun c1 => ?_)
  · refine lv_iconst (v := -1) hx hb dX0_sniff_27 (by decide) ?_
    refine rX_i hx hb hr hlk hu dX0_sniff_28 (Nat.le_of_ble_eq_true rfl) (Nat.le_of_ble_eq_true rfl) ?_
    unfold f_sniff
    rw [if_pos c1]
    exact ⟨rfl, _, _, _, _, F, rfl, hm⟩
  · obtain ⟨a, ha, ej⟩ := isE_ix hok c1
    subst ej
    have eax : ix (nI a) = a := nI_clamp (by omega)
    refine lv_aload_n hx hb dX0_sniff_8 rfl (lv_at hl 0 rfl) ?_
    refine xg2 hx hb hts hown hK hu.1 dX0_sniff_9 ?_
    refine lv_iload_n hx hb dX0_sniff_12 rfl (lv_at hl 1 rfl) ?_
    refine xr_get0 (rest := []) hx hb hml hown hts hK hu.1 hm.eat hm.lst ha ⟨Nat.le_of_ble_eq_true rfl, Nat.le_of_ble_eq_true rfl⟩ ⟨Nat.le_of_ble_eq_true rfl, Nat.le_of_ble_eq_true rfl⟩ hl.1 (Nat.le_of_ble_eq_true rfl) dX0_sniff_13 ?_
    obtain ⟨j, kd, hj, hkd, -, hsp, -, hek, -⟩ := hm.eat.2 a ha
    have hk0 : aN σ 0 a = kd := hek.elim (fun h => absurd (hm.no.symm.trans h.1).symm (n6 a (by omega))) (fun h => h.2)
    have hjw : (xw d B τ ea hs ρ)[j + 14]? = _ := hj
    refine scast hx hb (hts _ q845) hown hK hu.1 hjw hkd dX0_sniff_18 ?_
    obtain ⟨mks, hcs⟩ := xCode.of (hts _ q848)
    refine callX_S (own := RX0) (rest := []) hx hb hml hown hts KX_st hK hA hAN hZ (cX_sniffed l D d H00 B τ ea hs ρ (F a) j kd a (aN σ 2 a) (aN σ 1 a) (aN σ 3 a) hj hkd) hcs q846 q847 q51 ⟨by decide, by decide, by decide, pd_sniffed⟩ (Nat.le_of_ble_eq_true rfl) hu hl.1 rfl (Nat.le_of_ble_eq_true rfl) dX0_sniff_21 ⟨Nat.le_of_ble_eq_true rfl, Nat.le_of_ble_eq_true rfl, Nat.le_of_ble_eq_true rfl, Nat.le_of_ble_eq_true rfl⟩ (fun r ws H locs hpo hu => ?_) (fun cls he => absurd he id)
    obtain ⟨rfl, rfl⟩ := hpo
    refine lv_goto (tgt := 28) hx hb dX0_sniff_24 (by decide) ?_
    refine rX_i hx hb hr hlk hu dX0_sniff_28 (Nat.le_of_ble_eq_true rfl) (Nat.le_of_ble_eq_true rfl) ?_
    unfold f_sniff
    rw [if_neg (bt_nf c1), eax, hk0]
    by_cases h2 : kd = 2
    · rw [if_pos h2, if_pos h2, if_pos h2]
      exact ⟨rfl, _, _, _, _, F, rfl, xRep_tr hm 5⟩
    · rw [if_neg h2, if_neg h2, if_neg h2]
      exact ⟨rfl, _, _, _, _, F, rfl, xRep_tr hm 4⟩
