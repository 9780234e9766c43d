/-! the ArrayList: puts, clear -/
section LP
variable {p : Program} {l : Launch} {e : Env} {R : Room} {s : State} {m : MethodId} {args : Array Value} {below : List Frame} {meth : Method} {c : Code} {H : Heap} {locs : List Loc} {cells slots : Nat} {Q : State → Prop}
variable {cc : ByteArray} {pc : Nat} {ls : Array Slot} {rest : List Value} {D : va_G} {d : Nat → ClassId} {A : Nat → Prop} {H0 : Heap} {B : Nat → Nat} {τ : Nat → Nat → Int32} {ea : Nat} {hs : Nat → Option Nat} {ρ : va_W}
theorem lput0 {v : Int32} (hx : p.tables.exec = Jvm.exec) (hb : c.code = cc) (hts : ∀ w ∈ lw_all, w.before args s = true) (hown : s.vm.findClass RJ2 = some m.cls) (hK : KX D d s) (hu : uW D A H0 H locs (xw d B τ ea hs ρ)) (hdg : decode cc pc = .ok (.putfield 63, 3)) (kk : ∀ (H1 : Heap) (locs1 : List Loc), uW D A H0 H1 locs1 (xw d B (put2 τ 20 0 v) ea hs ρ) → W p l e R s m args below meth c H1 locs1 cells slots Q (F0 m (pc + 3) ls rest)) : W p l e R s m args below meth c H locs cells slots Q (F0 m pc ls (.int v :: .ref (B 1) :: rest)) :=
  va_put (D := D) (ci := 6) (v := .int v) (ty := .int) (C := RJ2) (T := TJ2) (N := 3) hx hb hts in_J2 tyJ2 tyJ2_ok nmJ2 hown hK.1.1 hu.1 hu.2.1 hu.2.2 1 rfl rfl 0 (by decide) (hts _ q101) (u_same (hts _ q102)) rfl (by decide +kernel) rfl rfl (Nat.le_of_ble_eq_true rfl) hdg (fun H1 locs1 hP hD hS => kk H1 locs1 ⟨hP, hD, hS⟩)
theorem lput2 {v : Int32} (hx : p.tables.exec = Jvm.exec) (hb : c.code = cc) (hts : ∀ w ∈ lw_all, w.before args s = true) (hown : s.vm.findClass RJ2 = some m.cls) (hK : KX D d s) (hu : uW D A H0 H locs (xw d B τ ea hs ρ)) (hdg : decode cc pc = .ok (.putfield 48, 3)) (kk : ∀ (H1 : Heap) (locs1 : List Loc), uW D A H0 H1 locs1 (xw d B (put2 τ 21 0 v) ea hs ρ) → W p l e R s m args below meth c H1 locs1 cells slots Q (F0 m (pc + 3) ls rest)) : W p l e R s m args below meth c H locs cells slots Q (F0 m pc ls (.int v :: .ref (B 1) :: rest)) :=
  va_put (D := D) (ci := 6) (v := .int v) (ty := .int) (C := RJ2) (T := TJ2) (N := 3) hx hb hts in_J2 tyJ2 tyJ2_ok nmJ2 hown hK.1.1 hu.1 hu.2.1 hu.2.2 1 rfl rfl 2 (by decide) (hts _ q99) (fun _ h9 => h9) rfl (by decide +kernel) rfl rfl (Nat.le_of_ble_eq_true rfl) hdg (fun H1 locs1 hP hD hS => kk H1 locs1 ⟨hP, hD, hS⟩)
theorem lput1 {v : Nat} (hx : p.tables.exec = Jvm.exec) (hb : c.code = cc) (hts : ∀ w ∈ lw_all, w.before args s = true) (hown : s.vm.findClass RJ2 = some m.cls) (hK : KX D d s) (hu : uW D A H0 H locs (xw d B τ ea hs ρ)) (hdg : decode cc pc = .ok (.putfield 9, 3)) (kk : ∀ (H1 : Heap) (locs1 : List Loc), uW D A H0 H1 locs1 (xw d B τ v hs ρ) → W p l e R s m args below meth c H1 locs1 cells slots Q (F0 m (pc + 3) ls rest)) : W p l e R s m args below meth c H locs cells slots Q (F0 m pc ls (.ref v :: .ref (B 1) :: rest)) :=
  va_put (D := D) (ci := 6) (v := .ref v) (ty := .array (.object "java/lang/Object")) (C := RJ2) (T := TJ2) (N := 3) hx hb hts in_J2 tyJ2 tyJ2_ok nmJ2 hown hK.1.1 hu.1 hu.2.1 hu.2.2 1 rfl rfl 1 (by decide) (hts _ q98) (fun _ h9 => h9) rfl (by decide +kernel) rfl rfl (Nat.le_of_ble_eq_true rfl) hdg (fun H1 locs1 hP hD hS => kk H1 locs1 ⟨hP, hD, hS⟩)
end LP
/-- all but arrays of references is kept -/
def xAr (ρ ρ' : va_W) : Prop := (∀ (j a : Nat) (o : Nat × List Value), ρ[j]? = some (a, .inr o) → ρ'[j]? = some (a, .inr o)) ∧ ∀ (j a n : Nat) (cA : ClassId) (f : Nat → Int32), ρ[j]? = some (a, .inl (cA, n, .inl f)) → ρ'[j]? = some (a, .inl (cA, n, .inl f))
theorem xAr.rf (ρ : va_W) : xAr ρ ρ := ⟨fun _ _ _ h => h, fun _ _ _ _ _ h => h⟩
theorem xAr.tr {ρ1 ρ2 ρ3 : va_W} (h1 : xAr ρ1 ρ2) (h2 : xAr ρ2 ρ3) : xAr ρ1 ρ3 := ⟨fun j a o h => h2.1 j a o (h1.1 j a o h), fun j a n cA f h => h2.2 j a n cA f (h1.2 j a n cA f h)⟩
theorem xAr_set {ρ : va_W} {j a n : Nat} {cA : ClassId} {f g : Nat → Option Nat} (h : ρ[j]? = some (a, rfE cA n f)) : xAr ρ (ρ.set j (a, rfE cA n g)) := by
  refine ⟨fun i b o hi => set_other hi (fun q => ?_), fun i b n' cA' f' hi => set_other hi (fun q => ?_)⟩
  · subst q; rw [h] at hi; cases hi
  · subst q; rw [h] at hi; cases hi
set_option maxHeartbeats 4000000 in
set_option maxRecDepth 100000 in
theorem cL_clear (l : Launch) (D : va_G) (d : Nat → ClassId) (H00 : Heap) (B : Nat → Nat) (τ : Nat → Nat → Int32) (ea : Nat) (hs : Nat → Option Nat) (ρ : va_W) (e0 n : Nat) (F : Nat → Nat) (hn : n ≤ 4) (hL : xLst d ρ τ ea e0 n F) : cU l (KX D d) H00 D yJ2_clear cJ2_clear 4 none (rc 0 0 0) [.ref (B 1)] (xw d B τ ea hs ρ) (fun r0 ws => r0 = none ∧ ∃ (v20 : Int32) (ρ2 : va_W), ws = xw d B (put2 (put2 τ 20 0 v20) 21 0 (nI 0)) ea hs ρ2 ∧ xAr ρ ρ2 ∧ xLst d ρ2 (put2 (put2 τ 20 0 v20) 21 0 (nI 0)) ea e0 0 F) := by
  refine cU_start RJ2 rfl (by decide) (Nat.le_of_ble_eq_true rfl) ?_
  intro p e s m below meth c A hx hb hml hown hts hr hlk hnm hK hA hAN hZ hu ls hl
  have hl : lv_has ls 4 [(0, .ref (B 1))] := hl
  refine lv_aload_n hx hb dJ2_clear_0 rfl (lv_at hl 0 rfl) ?_
  refine lv_dup hx hb dJ2_clear_1 rfl ?_
  refine lg0 hx hb hts hown hK hu.1 (u_same (hts _ q102)) dJ2_clear_2 ?_
  refine lv_iconst (v := 1) hx hb dJ2_clear_5 (by decide) ?_
  refine lv_iadd hx hb dJ2_clear_6 ?_
  refine lput0 hx hb hts hown hK hu dJ2_clear_7 (fun H locs hu => ?_)
  refine lv_aload_n hx hb dJ2_clear_10 rfl (lv_at hl 0 rfl) ?_
  refine lg1 hx hb hts hown hK hu.1 dJ2_clear_11 ?_
  refine lv_astore_n (lv' := [(1, .ref ea), (0, .ref (B 1))]) hx hb dJ2_clear_14 rfl hl (by decide) rfl (fun ls hl => ?_)
  refine lv_aload_n hx hb dJ2_clear_15 rfl (lv_at hl 1 rfl) ?_
  refine lg2 hx hb hts hown hK hu.1 dJ2_clear_16 ?_
  refine top_i (y := nI n) hL.1 ?_
  refine lv_istore_n (lv' := [(2, .int (nI n)), (1, .ref ea), (0, .ref (B 1))]) hx hb dJ2_clear_19 rfl hl (by decide) rfl (fun ls hl => ?_)
  refine lv_aload_n hx hb dJ2_clear_20 rfl (lv_at hl 2 rfl) ?_
  refine lv_iconst (v := nI 0) hx hb dJ2_clear_21 (by decide) ?_
  refine lv_dup_x1 hx hb dJ2_clear_22 rfl rfl ?_
  refine lput2 hx hb hts hown hK hu dJ2_clear_23 (fun H locs hu => ?_)
  refine lv_istore_n (lv' := [(3, .int (nI 0)), (2, .int (nI n)), (1, .ref ea), (0, .ref (B 1))]) hx hb dJ2_clear_26 rfl hl (by decide) rfl (fun ls hl => ?_)
  have hL0 : ∀ v20 : Int32, n = 0 → xLst d ρ (put2 (put2 τ 20 0 v20) 21 0 (nI 0)) ea e0 0 F := fun v20 h0 => by
    refine ⟨rfl, ?_⟩
    rcases hL.2 with h | ⟨je, f, h1, h2⟩
    · exact Or.inl ⟨h.1, rfl⟩
    · exact Or.inr ⟨je, f, h1, fun a ha => absurd ha (Nat.not_lt_zero _)⟩
  rcases hL.2 with ⟨-, h0⟩ | ⟨je, f, h1, h2⟩
  · subst h0
    refine lv_iload_n hx hb dJ2_clear_27 rfl (lv_at hl 0 rfl) ?_
    refine lv_iload_n hx hb dJ2_clear_28 rfl (lv_at hl 1 rfl) ?_
    refine nc_ge (tgt := 42) hx hb dJ2_clear_29 (by decide) (by decide) (by decide) (fun _ => ?_) (fun c0 => absurd c0 (by decide))
    exact rU_v hx hb hr hlk hu dJ2_clear_42 (Nat.le_of_ble_eq_true rfl) (Nat.le_of_ble_eq_true rfl) ⟨rfl, _, ρ, rfl, xAr.rf ρ, hL0 _ rfl⟩
  · refine lp_U (σ := Nat × va_W × (Nat → Option Nat)) (fun N x => x.1 + N = n ∧ xAr ρ x.2.1 ∧ x.2.1[je]? = some (ea, rfE (d 4) 10 x.2.2)) (fun x => [(3, .int (nI x.1)), (2, .int (nI n)), (1, .ref ea), (0, .ref (B 1))]) (fun x => xw d B (put2 (put2 τ 20 0 (τ 20 0 + 1)) 21 0 (nI 0)) ea hs x.2.1) ?_ n (0, ρ, f) ⟨by omega, xAr.rf ρ, h1⟩ hu hl
    intro N ⟨i, ρ1, f1⟩ ⟨hN, hAr, hje⟩ ih H locs ls hu hl
    have hN : i + N = n := hN
    have hAr : xAr ρ ρ1 := hAr
    have hje : ρ1[je]? = some (ea, rfE (d 4) 10 f1) := hje
    have hu : uW D A s.heap H locs (xw d B (put2 (put2 τ 20 0 (τ 20 0 + 1)) 21 0 (nI 0)) ea hs ρ1) := hu
    have hl : lv_has ls 4 [(3, .int (nI i)), (2, .int (nI n)), (1, .ref ea), (0, .ref (B 1))] := hl
    refine lv_iload_n hx hb dJ2_clear_27 rfl (lv_at hl 0 rfl) ?_
    refine lv_iload_n hx hb dJ2_clear_28 rfl (lv_at hl 1 rfl) ?_
    refine nc_ge (tgt := 42) hx hb dJ2_clear_29 (by decide) (by omega) (by omega) (fun c1 => ?_) (fun c1 => ?_)
    · exact rU_v hx hb hr hlk hu dJ2_clear_42 (Nat.le_of_ble_eq_true rfl) (Nat.le_of_ble_eq_true rfl) ⟨rfl, _, ρ1, rfl, hAr, rfl, Or.inr ⟨je, f1, hje, fun a ha => absurd ha (Nat.not_lt_zero _)⟩⟩
    · refine lv_aload_n hx hb dJ2_clear_32 rfl (lv_at hl 2 rfl) ?_
      refine lv_iload_n hx hb dJ2_clear_33 rfl (lv_at hl 0 rfl) ?_
      refine lv_null hx hb dJ2_clear_34 ?_
      refine va_astqN hx hb hK.1.1 hu.1 hu.2.1 hu.2.2 (je + 14) 4 (show (xw d B (put2 (put2 τ 20 0 (τ 20 0 + 1)) 21 0 (nI 0)) ea hs ρ1)[je + 14]? = some (ea, rfE (d 4) 10 f1) from hje) rfl (vp_in_nI (n := i) (by omega) (by decide)) dJ2_clear_35 (fun H locs g1 g2 g3 => ?_)
      refine lv_iinc (v := nI (i + 1)) (lv' := [(3, .int (nI (i + 1))), (2, .int (nI n)), (1, .ref ea), (0, .ref (B 1))]) hx hb dJ2_clear_36 hl (k := 0) rfl (inc_nI _) (by decide) rfl (fun ls hl => ?_)
      refine lv_goto (tgt := 27) hx hb dJ2_clear_39 (by decide) ?_
      exact ih (N - 1) (i + 1, ρ1.set je (ea, rfE (d 4) 10 _), _) H locs ls (by omega) ⟨by show i + 1 + (N - 1) = n; omega, hAr.tr (xAr_set hje), set_this hje⟩ ⟨g1, g2, g3⟩ hl
