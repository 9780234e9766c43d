/-! a sheet's array: its lane, its length, its cells -/
/-- room of a method that throws: k frames above -/
abbrev rx (k mc ms : Nat) : Room := { frames := 8 + k, cells := mc, slots := ms, locals := 10300 + 40 * k }
section SR
variable {p : Program} {l : Launch} {e : Env} {R : Room} {s : State} {m : MethodId} {args : Array Value} {below : List Frame} {meth : Method} {c : Code} {H : Heap} {locs : List Loc} {cells slots : Nat} {Q : State → Prop}
variable {cc : ByteArray} {pc nL : Nat} {ls : Array Slot} {rest : List Value} {D : va_G} {d : Nat → ClassId} {A : Nat → Prop} {ws : va_W} {a q0 n : Nat} {f : Nat → Int32}
theorem rR_an (hexec : p.tables.exec = Jvm.exec) (hb : c.code = cc) {rt : FieldType} (hr : meth.sig.returnType = some rt) (hrt : (∃ n, rt = .object n) ∨ ∃ t, rt = .array t) (hlocks : meth.locks = false) (hdg : decode cc pc = .ok (.areturn, 1)) : W p l e R s m args below meth c s.heap [] 0 0 (MQ below (qR .null) args s 0 0 (fun _ => False)) (F0 m pc ls [.null]) :=
  W.aret hexec hb hr hrt (Or.inl rfl) (fun t ht _ => ⟨rfl, ht⟩) (fun q h => by cases h) hdg hlocks
theorem s_recv0 (hK : KX D d s) (hP : va_P D vwCl ws H) (hq : ws[q0]? = some (a, .inl (d 0, n, .inl f))) : ∃ cell : Cell, H[a]? = some cell ∧ cell.vm.isStatics = false ∧ s.vm.findClass "[I" = some cell.cls := ⟨_, hP q0 _ hq, rfl, hK.1.2.1⟩
theorem s_recv2 (hK : KX D d s) (hP : va_P D vwCl ws H) (hq : ws[q0]? = some (a, .inl (d 2, n, .inl f))) : ∃ cell : Cell, H[a]? = some cell ∧ cell.vm.isStatics = false ∧ s.vm.findClass "[B" = some cell.cls := ⟨_, hP q0 _ hq, rfl, hK.1.2.2.2.1⟩
theorem s_recv3 (hK : KX D d s) (hP : va_P D vwCl ws H) (hq : ws[q0]? = some (a, .inl (d 3, n, .inl f))) : ∃ cell : Cell, H[a]? = some cell ∧ cell.vm.isStatics = false ∧ s.vm.findClass "[S" = some cell.cls := ⟨_, hP q0 _ hq, rfl, hK.1.2.2.2.2⟩
theorem kT_leave0 {Post : Option Value → va_W → Prop} {Exc : String → Prop} {cls : String} (hlk : meth.locks = false) (hout : tabOf c = []) (h1 : cells ≤ R.cells) (h2 : slots ≤ R.slots) (he : Exc cls) : kT p l e R s m args below meth c cells slots (MQX below (qX D A ws Post Exc) s R.cells R.slots A) D A ws cls (F0 m pc ls rest) := by
  have h := kT_leave (p := p) (l := l) (e := e) (s := s) (m := m) (args := args) (below := below) (D := D) (A := A) (ws := ws) (pc := pc) (ls := ls) (rest := rest) (Post := Post) (wx := []) hlk hout h1 h2 he
  rw [List.append_nil] at h
  exact h
end SR

set_option maxHeartbeats 4000000 in
set_option maxRecDepth 100000 in
theorem cY_length (l : Launch) (D : va_G) (d : Nat → ClassId) (ws : va_W) (fa q0 la n : Nat) (f : Nat → Int32) (hq : ws[q0]? = some (fa, .inl (lnC d la, n, .inl f))) (hla : la < 3) : cR l (KX D d) yX0_lengthOf cX0_lengthOf 2 (some .int) (rk 0) [.ref fa] (va_P D vwCl ws) (.int (nI n)) := by
  refine cR_start RX0 rfl (by decide) (Nat.le_of_ble_eq_true rfl) ?_
  intro p e s m below meth c hx hb hml hown hts hr hlk hK hP ls hl
  rcases k3 hla with h | h | h
  · subst h
    have hq : ws[q0]? = some (fa, .inl (d 2, n, .inl f)) := hq
    have hl : lv_has ls 2 [(0, .ref fa)] := hl
    refine lv_aload_n hx hb dX0_lengthOf_0 rfl (lv_at hl 0 rfl) ?_
    refine va_instE hx hb hown (hts _ q352) (s_recv2 hK hP hq) dX0_lengthOf_1 ?_
    refine lv_if_eq (tgt := 15) hx hb dX0_lengthOf_4 (by decide) (fun c0 => absurd c0 (by decide)) (fun c0 => ?_)
    refine lv_aload_n hx hb dX0_lengthOf_7 rfl (lv_at hl 0 rfl) ?_
    refine va_castE hx hb hown (hts _ q352) (s_recv2 hK hP hq) dX0_lengthOf_8 ?_
    refine lv_astore_n (lv' := [(1, .ref fa), (0, .ref fa)]) hx hb dX0_lengthOf_11 rfl hl (by decide) rfl (fun ls hl => ?_)
    refine lv_aload_n hx hb dX0_lengthOf_12 rfl (lv_at hl 0 rfl) ?_
    refine va_alen hx hb hK.1.1 hP q0 2 hq rfl rfl dX0_lengthOf_13 ?_
    exact rR_i hx hb hr hlk dX0_lengthOf_14 rfl
  · subst h
    have hq : ws[q0]? = some (fa, .inl (d 3, n, .inl f)) := hq
    have hl : lv_has ls 2 [(0, .ref fa)] := hl
    refine lv_aload_n hx hb dX0_lengthOf_0 rfl (lv_at hl 0 rfl) ?_
    refine va_instNo hx hb hown (hts _ q352) (hK.n 4 rfl) (s_recv3 hK hP hq) dX0_lengthOf_1 ?_
    refine lv_if_eq (tgt := 15) hx hb dX0_lengthOf_4 (by decide) (fun c0 => ?_) (fun c0 => absurd (by decide) c0)
    refine lv_aload_n hx hb dX0_lengthOf_15 rfl (lv_at hl 0 rfl) ?_
    refine va_instE hx hb hown (hts _ q353) (s_recv3 hK hP hq) dX0_lengthOf_16 ?_
    refine lv_if_eq (tgt := 30) hx hb dX0_lengthOf_19 (by decide) (fun c0 => absurd c0 (by decide)) (fun c0 => ?_)
    refine lv_aload_n hx hb dX0_lengthOf_22 rfl (lv_at hl 0 rfl) ?_
    refine va_castE hx hb hown (hts _ q353) (s_recv3 hK hP hq) dX0_lengthOf_23 ?_
    refine lv_astore_n (lv' := [(1, .ref fa), (0, .ref fa)]) hx hb dX0_lengthOf_26 rfl hl (by decide) rfl (fun ls hl => ?_)
    refine lv_aload_n hx hb dX0_lengthOf_27 rfl (lv_at hl 0 rfl) ?_
    refine va_alen hx hb hK.1.1 hP q0 3 hq rfl rfl dX0_lengthOf_28 ?_
    exact rR_i hx hb hr hlk dX0_lengthOf_29 rfl
  · subst h
    have hq : ws[q0]? = some (fa, .inl (d 0, n, .inl f)) := hq
    have hl : lv_has ls 2 [(0, .ref fa)] := hl
    refine lv_aload_n hx hb dX0_lengthOf_0 rfl (lv_at hl 0 rfl) ?_
    refine va_instNo hx hb hown (hts _ q352) (hK.n 3 rfl) (s_recv0 hK hP hq) dX0_lengthOf_1 ?_
    refine lv_if_eq (tgt := 15) hx hb dX0_lengthOf_4 (by decide) (fun c0 => ?_) (fun c0 => absurd (by decide) c0)
    refine lv_aload_n hx hb dX0_lengthOf_15 rfl (lv_at hl 0 rfl) ?_
    refine va_instNo hx hb hown (hts _ q353) (hK.n 5 rfl) (s_recv0 hK hP hq) dX0_lengthOf_16 ?_
    refine lv_if_eq (tgt := 30) hx hb dX0_lengthOf_19 (by decide) (fun c0 => ?_) (fun c0 => absurd (by decide) c0)
    refine lv_aload_n hx hb dX0_lengthOf_30 rfl (lv_at hl 0 rfl) ?_
    refine va_castE hx hb hown (hts _ q354) (s_recv0 hK hP hq) dX0_lengthOf_31 ?_
    refine va_alen hx hb hK.1.1 hP q0 0 hq rfl rfl dX0_lengthOf_34 ?_
    exact rR_i hx hb hr hlk dX0_lengthOf_35 rfl

set_option maxHeartbeats 4000000 in
set_option maxRecDepth 100000 in
theorem cY_cell (l : Launch) (D : va_G) (d : Nat → ClassId) (ws : va_W) (fa q0 la n : Nat) (f : Nat → Int32) (hq : ws[q0]? = some (fa, .inl (lnC d la, n, .inl f))) (hla : la < 3) (k : Nat) (hk : k < n) (hn : n ≤ 60) : cR l (KX D d) yX0_cellOf cX0_cellOf 3 (some .int) (rk 0) [.ref fa, .int (nI k)] (va_P D vwCl ws) (.int (f k)) := by
  refine cR_start RX0 rfl (by decide) (Nat.le_of_ble_eq_true rfl) ?_
  intro p e s m below meth c hx hb hml hown hts hr hlk hK hP ls hl
  rcases k3 hla with h | h | h
  · subst h
    have hq : ws[q0]? = some (fa, .inl (d 2, n, .inl f)) := hq
    have hl : lv_has ls 3 [(0, .ref fa), (1, .int (nI k))] := hl
    refine lv_aload_n hx hb dX0_cellOf_0 rfl (lv_at hl 0 rfl) ?_
    refine va_instE hx hb hown (hts _ q352) (s_recv2 hK hP hq) dX0_cellOf_1 ?_
    refine lv_if_eq (tgt := 16) hx hb dX0_cellOf_4 (by decide) (fun c0 => absurd c0 (by decide)) (fun c0 => ?_)
    refine lv_aload_n hx hb dX0_cellOf_7 rfl (lv_at hl 0 rfl) ?_
    refine va_castE hx hb hown (hts _ q352) (s_recv2 hK hP hq) dX0_cellOf_8 ?_
    refine lv_astore_n (lv' := [(2, .ref fa), (0, .ref fa), (1, .int (nI k))]) hx hb dX0_cellOf_11 rfl hl (by decide) rfl (fun ls hl => ?_)
    refine lv_aload_n hx hb dX0_cellOf_12 rfl (lv_at hl 0 rfl) ?_
    refine lv_iload_n hx hb dX0_cellOf_13 rfl (lv_at hl 2 rfl) ?_
    refine va_bald hx hb hK.1.1 hP q0 2 hq rfl (vp_in_nI hk (by omega)) dX0_cellOf_14 ?_
    rw [nI_clamp (by omega)]
    exact rR_i hx hb hr hlk dX0_cellOf_15 rfl
  · subst h
    have hq : ws[q0]? = some (fa, .inl (d 3, n, .inl f)) := hq
    have hl : lv_has ls 3 [(0, .ref fa), (1, .int (nI k))] := hl
    refine lv_aload_n hx hb dX0_cellOf_0 rfl (lv_at hl 0 rfl) ?_
    refine va_instNo hx hb hown (hts _ q352) (hK.n 4 rfl) (s_recv3 hK hP hq) dX0_cellOf_1 ?_
    refine lv_if_eq (tgt := 16) hx hb dX0_cellOf_4 (by decide) (fun c0 => ?_) (fun c0 => absurd (by decide) c0)
    refine lv_aload_n hx hb dX0_cellOf_16 rfl (lv_at hl 0 rfl) ?_
    refine va_instE hx hb hown (hts _ q353) (s_recv3 hK hP hq) dX0_cellOf_17 ?_
    refine lv_if_eq (tgt := 32) hx hb dX0_cellOf_20 (by decide) (fun c0 => absurd c0 (by decide)) (fun c0 => ?_)
    refine lv_aload_n hx hb dX0_cellOf_23 rfl (lv_at hl 0 rfl) ?_
    refine va_castE hx hb hown (hts _ q353) (s_recv3 hK hP hq) dX0_cellOf_24 ?_
    refine lv_astore_n (lv' := [(2, .ref fa), (0, .ref fa), (1, .int (nI k))]) hx hb dX0_cellOf_27 rfl hl (by decide) rfl (fun ls hl => ?_)
    refine lv_aload_n hx hb dX0_cellOf_28 rfl (lv_at hl 0 rfl) ?_
    refine lv_iload_n hx hb dX0_cellOf_29 rfl (lv_at hl 2 rfl) ?_
    refine va_sald hx hb hK.1.1 hP q0 3 hq rfl (vp_in_nI hk (by omega)) dX0_cellOf_30 ?_
    rw [nI_clamp (by omega)]
    exact rR_i hx hb hr hlk dX0_cellOf_31 rfl
  · subst h
    have hq : ws[q0]? = some (fa, .inl (d 0, n, .inl f)) := hq
    have hl : lv_has ls 3 [(0, .ref fa), (1, .int (nI k))] := hl
    refine lv_aload_n hx hb dX0_cellOf_0 rfl (lv_at hl 0 rfl) ?_
    refine va_instNo hx hb hown (hts _ q352) (hK.n 3 rfl) (s_recv0 hK hP hq) dX0_cellOf_1 ?_
    refine lv_if_eq (tgt := 16) hx hb dX0_cellOf_4 (by decide) (fun c0 => ?_) (fun c0 => absurd (by decide) c0)
    refine lv_aload_n hx hb dX0_cellOf_16 rfl (lv_at hl 0 rfl) ?_
    refine va_instNo hx hb hown (hts _ q353) (hK.n 5 rfl) (s_recv0 hK hP hq) dX0_cellOf_17 ?_
    refine lv_if_eq (tgt := 32) hx hb dX0_cellOf_20 (by decide) (fun c0 => ?_) (fun c0 => absurd (by decide) c0)
    refine lv_aload_n hx hb dX0_cellOf_32 rfl (lv_at hl 0 rfl) ?_
    refine va_castE hx hb hown (hts _ q354) (s_recv0 hK hP hq) dX0_cellOf_33 ?_
    refine lv_iload_n hx hb dX0_cellOf_36 rfl (lv_at hl 1 rfl) ?_
    refine va_iald hx hb hK.1.1 hP q0 0 hq rfl (vp_in_nI hk (by omega)) dX0_cellOf_37 ?_
    rw [nI_clamp (by omega)]
    exact rR_i hx hb hr hlk dX0_cellOf_38 rfl

set_option maxHeartbeats 4000000 in
set_option maxRecDepth 100000 in
theorem cY_lane (l : Launch) (D : va_G) (d : Nat → ClassId) (ws : va_W) (fa q0 la n : Nat) (f : Nat → Int32) (hq : ws[q0]? = some (fa, .inl (lnC d la, n, .inl f))) (hla : la < 3) : cR l (KX D d) yX0_asLane cX0_asLane 2 (some (.object "java/lang/Object")) (rk 0) [.ref fa, .int (nI la)] (va_P D vwCl ws) (.ref fa) := by
  refine cR_start RX0 rfl (by decide) (Nat.le_of_ble_eq_true rfl) ?_
  intro p e s m below meth c hx hb hml hown hts hr hlk hK hP ls hl
  rcases k3 hla with h | h | h
  · subst h
    have hq : ws[q0]? = some (fa, .inl (d 2, n, .inl f)) := hq
    have hl : lv_has ls 2 [(0, .ref fa), (1, .int (nI 0))] := hl
    refine lv_iload_n hx hb dX0_asLane_0 rfl (lv_at hl 1 rfl) ?_
    refine lv_lookup (tgt := 28) (off := 27) hx hb dX0_asLane_1 (by decide) (by decide) (by decide) ?_
    refine lv_aload_n hx hb dX0_asLane_28 rfl (lv_at hl 0 rfl) ?_
    refine va_castE hx hb hown (hts _ q352) (s_recv2 hK hP hq) dX0_asLane_29 ?_
    exact rR_a hx hb hr (Or.inl ⟨_, rfl⟩) hlk dX0_asLane_32 rfl
  · subst h
    have hq : ws[q0]? = some (fa, .inl (d 3, n, .inl f)) := hq
    have hl : lv_has ls 2 [(0, .ref fa), (1, .int (nI 1))] := hl
    refine lv_iload_n hx hb dX0_asLane_0 rfl (lv_at hl 1 rfl) ?_
    refine lv_lookup (tgt := 33) (off := 32) hx hb dX0_asLane_1 (by decide) (by decide) (by decide) ?_
    refine lv_aload_n hx hb dX0_asLane_33 rfl (lv_at hl 0 rfl) ?_
    refine va_castE hx hb hown (hts _ q353) (s_recv3 hK hP hq) dX0_asLane_34 ?_
    exact rR_a hx hb hr (Or.inl ⟨_, rfl⟩) hlk dX0_asLane_37 rfl
  · subst h
    have hq : ws[q0]? = some (fa, .inl (d 0, n, .inl f)) := hq
    have hl : lv_has ls 2 [(0, .ref fa), (1, .int (nI 2))] := hl
    refine lv_iload_n hx hb dX0_asLane_0 rfl (lv_at hl 1 rfl) ?_
    refine lv_lookup (tgt := 38) (off := 37) hx hb dX0_asLane_1 (by decide) (by decide) (by decide) ?_
    refine lv_aload_n hx hb dX0_asLane_38 rfl (lv_at hl 0 rfl) ?_
    refine va_castE hx hb hown (hts _ q354) (s_recv0 hK hP hq) dX0_asLane_39 ?_
    exact rR_a hx hb hr (Or.inl ⟨_, rfl⟩) hlk dX0_asLane_42 rfl

set_option maxHeartbeats 4000000 in
set_option maxRecDepth 100000 in
theorem cY_laneN (l : Launch) (D : va_G) (d : Nat → ClassId) (ws : va_W) (lx : Nat) (hlx : lx < 3) : cR l (KX D d) yX0_asLane cX0_asLane 2 (some (.object "java/lang/Object")) (rk 0) [.null, .int (nI lx)] (va_P D vwCl ws) (.null) := by
  refine cR_start RX0 rfl (by decide) (Nat.le_of_ble_eq_true rfl) ?_
  intro p e s m below meth c hx hb hml hown hts hr hlk hK hP ls hl
  rcases k3 hlx with h | h | h
  · subst h
    have hl : lv_has ls 2 [(0, .null), (1, .int (nI 0))] := hl
    refine lv_iload_n hx hb dX0_asLane_0 rfl (lv_at hl 1 rfl) ?_
    refine lv_lookup (tgt := 28) (off := 27) hx hb dX0_asLane_1 (by decide) (by decide) (by decide) ?_
    refine lv_aload_nN hx hb dX0_asLane_28 rfl (lv_at hl 0 rfl) ?_
    refine lv_castN hx hb dX0_asLane_29 ?_
    exact rR_an hx hb hr (Or.inl ⟨_, rfl⟩) hlk dX0_asLane_32
  · subst h
    have hl : lv_has ls 2 [(0, .null), (1, .int (nI 1))] := hl
    refine lv_iload_n hx hb dX0_asLane_0 rfl (lv_at hl 1 rfl) ?_
    refine lv_lookup (tgt := 33) (off := 32) hx hb dX0_asLane_1 (by decide) (by decide) (by decide) ?_
    refine lv_aload_nN hx hb dX0_asLane_33 rfl (lv_at hl 0 rfl) ?_
    refine lv_castN hx hb dX0_asLane_34 ?_
    exact rR_an hx hb hr (Or.inl ⟨_, rfl⟩) hlk dX0_asLane_37
  · subst h
    have hl : lv_has ls 2 [(0, .null), (1, .int (nI 2))] := hl
    refine lv_iload_n hx hb dX0_asLane_0 rfl (lv_at hl 1 rfl) ?_
    refine lv_lookup (tgt := 38) (off := 37) hx hb dX0_asLane_1 (by decide) (by decide) (by decide) ?_
    refine lv_aload_nN hx hb dX0_asLane_38 rfl (lv_at hl 0 rfl) ?_
    refine lv_castN hx hb dX0_asLane_39 ?_
    exact rR_an hx hb hr (Or.inl ⟨_, rfl⟩) hlk dX0_asLane_42

set_option maxHeartbeats 4000000 in
set_option maxRecDepth 100000 in
theorem cY_lengthN (l : Launch) (D : va_G) (d : Nat → ClassId) (e0 : Nat) (H00 : Heap) (htr : ∀ e, l.admits e → e.platform.stackTraces = false) (ws : va_W) : cX l (KE D d e0 H00) H00 D yX0_lengthOf cX0_lengthOf 2 (some .int) [] (rx 0 3 1000) [.null] ws (fun _ _ => False) (fun x => x = nmN) := by
  intro p e s m below meth c A hx had hb hml htb hown hts hr hlk hK hA hAN hZ hnS hu ls hl
  have hv : XV D d e0 H00 A e s [.null].toArray := ⟨htr e had, hts, hK, hZ, hnS, hA⟩
  have hl : lv_has ls 2 [(0, .null)] := hl
  refine lv_aload_nN hx hb dX0_lengthOf_0 rfl (lv_at hl 0 rfl) ?_
  refine lv_instN hx hb dX0_lengthOf_1 ?_
  refine lv_if_eq (tgt := 15) hx hb dX0_lengthOf_4 (by decide) (fun c0 => ?_) (fun c0 => absurd (by decide) c0)
  refine lv_aload_nN hx hb dX0_lengthOf_15 rfl (lv_at hl 0 rfl) ?_
  refine lv_instN hx hb dX0_lengthOf_16 ?_
  refine lv_if_eq (tgt := 30) hx hb dX0_lengthOf_19 (by decide) (fun c0 => ?_) (fun c0 => absurd (by decide) c0)
  refine lv_aload_nN hx hb dX0_lengthOf_30 rfl (lv_at hl 0 rfl) ?_
  refine lv_castN hx hb dX0_lengthOf_31 ?_
  exact tN_arraylength hx hb hv hml hl hu ⟨Nat.le_of_ble_eq_true rfl, Nat.le_of_ble_eq_true rfl, Nat.le_of_ble_eq_true rfl, Nat.le_of_ble_eq_true rfl⟩ dX0_lengthOf_34 (kT_leave0 hlk htb (Nat.le_of_ble_eq_true rfl) (Nat.le_of_ble_eq_true rfl) rfl)

set_option maxHeartbeats 4000000 in
set_option maxRecDepth 100000 in
theorem cY_cellN (l : Launch) (D : va_G) (d : Nat → ClassId) (e0 : Nat) (H00 : Heap) (htr : ∀ e, l.admits e → e.platform.stackTraces = false) (ws : va_W) (i : Int32) : cX l (KE D d e0 H00) H00 D yX0_cellOf cX0_cellOf 3 (some .int) [] (rx 0 3 1000) [.null, .int i] ws (fun _ _ => False) (fun x => x = nmN) := by
  intro p e s m below meth c A hx had hb hml htb hown hts hr hlk hK hA hAN hZ hnS hu ls hl
  have hv : XV D d e0 H00 A e s [.null, .int i].toArray := ⟨htr e had, hts, hK, hZ, hnS, hA⟩
  have hl : lv_has ls 3 [(0, .null), (1, .int i)] := hl
  refine lv_aload_nN hx hb dX0_cellOf_0 rfl (lv_at hl 0 rfl) ?_
  refine lv_instN hx hb dX0_cellOf_1 ?_
  refine lv_if_eq (tgt := 16) hx hb dX0_cellOf_4 (by decide) (fun c0 => ?_) (fun c0 => absurd (by decide) c0)
  refine lv_aload_nN hx hb dX0_cellOf_16 rfl (lv_at hl 0 rfl) ?_
  refine lv_instN hx hb dX0_cellOf_17 ?_
  refine lv_if_eq (tgt := 32) hx hb dX0_cellOf_20 (by decide) (fun c0 => ?_) (fun c0 => absurd (by decide) c0)
  refine lv_aload_nN hx hb dX0_cellOf_32 rfl (lv_at hl 0 rfl) ?_
  refine lv_castN hx hb dX0_cellOf_33 ?_
  refine lv_iload_n hx hb dX0_cellOf_36 rfl (lv_at hl 1 rfl) ?_
  exact tN_iaload hx hb hv hml hl hu ⟨Nat.le_of_ble_eq_true rfl, Nat.le_of_ble_eq_true rfl, Nat.le_of_ble_eq_true rfl, Nat.le_of_ble_eq_true rfl⟩ dX0_cellOf_37 (kT_leave0 hlk htb (Nat.le_of_ble_eq_true rfl) (Nat.le_of_ble_eq_true rfl) rfl)

set_option maxHeartbeats 4000000 in
set_option maxRecDepth 100000 in
theorem cY_cellO (l : Launch) (D : va_G) (d : Nat → ClassId) (e0 : Nat) (H00 : Heap) (htr : ∀ e, l.admits e → e.platform.stackTraces = false) (ws : va_W) (fa q0 la n : Nat) (f : Nat → Int32) (hq : ws[q0]? = some (fa, .inl (lnC d la, n, .inl f))) (hla : la < 3) (i : Int32) (hn : n ≤ 60) (hout : ¬ vp_in i n) : cX l (KE D d e0 H00) H00 D yX0_cellOf cX0_cellOf 3 (some .int) [] (rx 0 3 1000) [.ref fa, .int i] ws (fun _ _ => False) (fun x => x = nmA) := by
  intro p e s m below meth c A hx had hb hml htb hown hts hr hlk hK hA hAN hZ hnS hu ls hl
  have hv : XV D d e0 H00 A e s [.ref fa, .int i].toArray := ⟨htr e had, hts, hK, hZ, hnS, hA⟩
  rcases k3 hla with h | h | h
  · subst h
    have hq : ws[q0]? = some (fa, .inl (d 2, n, .inl f)) := hq
    have hl : lv_has ls 3 [(0, .ref fa), (1, .int i)] := hl
    refine lv_aload_n hx hb dX0_cellOf_0 rfl (lv_at hl 0 rfl) ?_
    refine va_instE hx hb hown (hts _ q352) (s_recv2 hK.1 hu.1 hq) dX0_cellOf_1 ?_
    refine lv_if_eq (tgt := 16) hx hb dX0_cellOf_4 (by decide) (fun c0 => absurd c0 (by decide)) (fun c0 => ?_)
    refine lv_aload_n hx hb dX0_cellOf_7 rfl (lv_at hl 0 rfl) ?_
    refine va_castE hx hb hown (hts _ q352) (s_recv2 hK.1 hu.1 hq) dX0_cellOf_8 ?_
    refine lv_astore_n (lv' := [(2, .ref fa), (0, .ref fa), (1, .int i)]) hx hb dX0_cellOf_11 rfl hl (by decide) rfl (fun ls hl => ?_)
    refine lv_aload_n hx hb dX0_cellOf_12 rfl (lv_at hl 0 rfl) ?_
    refine lv_iload_n hx hb dX0_cellOf_13 rfl (lv_at hl 2 rfl) ?_
    exact tA_baload hx hb hv hml hl hu ⟨Nat.le_of_ble_eq_true rfl, Nat.le_of_ble_eq_true rfl, Nat.le_of_ble_eq_true rfl, Nat.le_of_ble_eq_true rfl⟩ hK.1.1.1 q0 hq (by omega) hout dX0_cellOf_14 (kT_leave0 hlk htb (Nat.le_of_ble_eq_true rfl) (Nat.le_of_ble_eq_true rfl) rfl)
  · subst h
    have hq : ws[q0]? = some (fa, .inl (d 3, n, .inl f)) := hq
    have hl : lv_has ls 3 [(0, .ref fa), (1, .int i)] := hl
    refine lv_aload_n hx hb dX0_cellOf_0 rfl (lv_at hl 0 rfl) ?_
    refine va_instNo hx hb hown (hts _ q352) (hK.1.n 4 rfl) (s_recv3 hK.1 hu.1 hq) dX0_cellOf_1 ?_
    refine lv_if_eq (tgt := 16) hx hb dX0_cellOf_4 (by decide) (fun c0 => ?_) (fun c0 => absurd (by decide) c0)
    refine lv_aload_n hx hb dX0_cellOf_16 rfl (lv_at hl 0 rfl) ?_
    refine va_instE hx hb hown (hts _ q353) (s_recv3 hK.1 hu.1 hq) dX0_cellOf_17 ?_
    refine lv_if_eq (tgt := 32) hx hb dX0_cellOf_20 (by decide) (fun c0 => absurd c0 (by decide)) (fun c0 => ?_)
    refine lv_aload_n hx hb dX0_cellOf_23 rfl (lv_at hl 0 rfl) ?_
    refine va_castE hx hb hown (hts _ q353) (s_recv3 hK.1 hu.1 hq) dX0_cellOf_24 ?_
    refine lv_astore_n (lv' := [(2, .ref fa), (0, .ref fa), (1, .int i)]) hx hb dX0_cellOf_27 rfl hl (by decide) rfl (fun ls hl => ?_)
    refine lv_aload_n hx hb dX0_cellOf_28 rfl (lv_at hl 0 rfl) ?_
    refine lv_iload_n hx hb dX0_cellOf_29 rfl (lv_at hl 2 rfl) ?_
    exact tA_saload hx hb hv hml hl hu ⟨Nat.le_of_ble_eq_true rfl, Nat.le_of_ble_eq_true rfl, Nat.le_of_ble_eq_true rfl, Nat.le_of_ble_eq_true rfl⟩ hK.1.1.1 q0 hq (by omega) hout dX0_cellOf_30 (kT_leave0 hlk htb (Nat.le_of_ble_eq_true rfl) (Nat.le_of_ble_eq_true rfl) rfl)
  · subst h
    have hq : ws[q0]? = some (fa, .inl (d 0, n, .inl f)) := hq
    have hl : lv_has ls 3 [(0, .ref fa), (1, .int i)] := hl
    refine lv_aload_n hx hb dX0_cellOf_0 rfl (lv_at hl 0 rfl) ?_
    refine va_instNo hx hb hown (hts _ q352) (hK.1.n 3 rfl) (s_recv0 hK.1 hu.1 hq) dX0_cellOf_1 ?_
    refine lv_if_eq (tgt := 16) hx hb dX0_cellOf_4 (by decide) (fun c0 => ?_) (fun c0 => absurd (by decide) c0)
    refine lv_aload_n hx hb dX0_cellOf_16 rfl (lv_at hl 0 rfl) ?_
    refine va_instNo hx hb hown (hts _ q353) (hK.1.n 5 rfl) (s_recv0 hK.1 hu.1 hq) dX0_cellOf_17 ?_
    refine lv_if_eq (tgt := 32) hx hb dX0_cellOf_20 (by decide) (fun c0 => ?_) (fun c0 => absurd (by decide) c0)
    refine lv_aload_n hx hb dX0_cellOf_32 rfl (lv_at hl 0 rfl) ?_
    refine va_castE hx hb hown (hts _ q354) (s_recv0 hK.1 hu.1 hq) dX0_cellOf_33 ?_
    refine lv_iload_n hx hb dX0_cellOf_36 rfl (lv_at hl 1 rfl) ?_
    exact tA_iaload hx hb hv hml hl hu ⟨Nat.le_of_ble_eq_true rfl, Nat.le_of_ble_eq_true rfl, Nat.le_of_ble_eq_true rfl, Nat.le_of_ble_eq_true rfl⟩ hK.1.1.1 q0 hq (by omega) hout dX0_cellOf_37 (kT_leave0 hlk htb (Nat.le_of_ble_eq_true rfl) (Nat.le_of_ble_eq_true rfl) rfl)

set_option maxHeartbeats 4000000 in
set_option maxRecDepth 100000 in
theorem cY_laneO (l : Launch) (D : va_G) (d : Nat → ClassId) (e0 : Nat) (H00 : Heap) (htr : ∀ e, l.admits e → e.platform.stackTraces = false) (ws : va_W) (fa q0 la n : Nat) (f : Nat → Int32) (hq : ws[q0]? = some (fa, .inl (lnC d la, n, .inl f))) (hla : la < 3) (lx : Nat) (hlx : lx < 3) (hne : ¬ la = lx) : cX l (KE D d e0 H00) H00 D yX0_asLane cX0_asLane 2 (some (.object "java/lang/Object")) [] (rx 0 3 1000) [.ref fa, .int (nI lx)] ws (fun _ _ => False) (fun x => x = nmC) := by
  intro p e s m below meth c A hx had hb hml htb hown hts hr hlk hK hA hAN hZ hnS hu ls hl
  have hv : XV D d e0 H00 A e s [.ref fa, .int (nI lx)].toArray := ⟨htr e had, hts, hK, hZ, hnS, hA⟩
  have h9 : (la = 0 ∧ lx = 1) ∨ (la = 0 ∧ lx = 2) ∨ (la = 1 ∧ lx = 0) ∨ (la = 1 ∧ lx = 2) ∨ (la = 2 ∧ lx = 0) ∨ (la = 2 ∧ lx = 1) := by omega
  rcases h9 with ⟨h, h2⟩ | ⟨h, h2⟩ | ⟨h, h2⟩ | ⟨h, h2⟩ | ⟨h, h2⟩ | ⟨h, h2⟩
  · subst h h2
    have hq : ws[q0]? = some (fa, .inl (d 2, n, .inl f)) := hq
    have hl : lv_has ls 2 [(0, .ref fa), (1, .int (nI 1))] := hl
    refine lv_iload_n hx hb dX0_asLane_0 rfl (lv_at hl 1 rfl) ?_
    refine lv_lookup (tgt := 33) (off := 32) hx hb dX0_asLane_1 (by decide) (by decide) (by decide) ?_
    refine lv_aload_n hx hb dX0_asLane_33 rfl (lv_at hl 0 rfl) ?_
    exact tC_cast hx hb hv hml hl hu ⟨Nat.le_of_ble_eq_true rfl, Nat.le_of_ble_eq_true rfl, Nat.le_of_ble_eq_true rfl, Nat.le_of_ble_eq_true rfl⟩ hown (hts _ q353) (hK.1.n 6 rfl) (s_recv2 hK.1 hu.1 hq) ⟨by decide +kernel, by decide +kernel, by decide +kernel, by decide +kernel⟩ dX0_asLane_34 (kT_leave0 hlk htb (Nat.le_of_ble_eq_true rfl) (Nat.le_of_ble_eq_true rfl) rfl)
  · subst h h2
    have hq : ws[q0]? = some (fa, .inl (d 2, n, .inl f)) := hq
    have hl : lv_has ls 2 [(0, .ref fa), (1, .int (nI 2))] := hl
    refine lv_iload_n hx hb dX0_asLane_0 rfl (lv_at hl 1 rfl) ?_
    refine lv_lookup (tgt := 38) (off := 37) hx hb dX0_asLane_1 (by decide) (by decide) (by decide) ?_
    refine lv_aload_n hx hb dX0_asLane_38 rfl (lv_at hl 0 rfl) ?_
    exact tC_cast hx hb hv hml hl hu ⟨Nat.le_of_ble_eq_true rfl, Nat.le_of_ble_eq_true rfl, Nat.le_of_ble_eq_true rfl, Nat.le_of_ble_eq_true rfl⟩ hown (hts _ q354) (hK.1.n 7 rfl) (s_recv2 hK.1 hu.1 hq) ⟨by decide +kernel, by decide +kernel, by decide +kernel, by decide +kernel⟩ dX0_asLane_39 (kT_leave0 hlk htb (Nat.le_of_ble_eq_true rfl) (Nat.le_of_ble_eq_true rfl) rfl)
  · subst h h2
    have hq : ws[q0]? = some (fa, .inl (d 3, n, .inl f)) := hq
    have hl : lv_has ls 2 [(0, .ref fa), (1, .int (nI 0))] := hl
    refine lv_iload_n hx hb dX0_asLane_0 rfl (lv_at hl 1 rfl) ?_
    refine lv_lookup (tgt := 28) (off := 27) hx hb dX0_asLane_1 (by decide) (by decide) (by decide) ?_
    refine lv_aload_n hx hb dX0_asLane_28 rfl (lv_at hl 0 rfl) ?_
    exact tC_cast hx hb hv hml hl hu ⟨Nat.le_of_ble_eq_true rfl, Nat.le_of_ble_eq_true rfl, Nat.le_of_ble_eq_true rfl, Nat.le_of_ble_eq_true rfl⟩ hown (hts _ q352) (hK.1.n 4 rfl) (s_recv3 hK.1 hu.1 hq) ⟨by decide +kernel, by decide +kernel, by decide +kernel, by decide +kernel⟩ dX0_asLane_29 (kT_leave0 hlk htb (Nat.le_of_ble_eq_true rfl) (Nat.le_of_ble_eq_true rfl) rfl)
  · subst h h2
    have hq : ws[q0]? = some (fa, .inl (d 3, n, .inl f)) := hq
    have hl : lv_has ls 2 [(0, .ref fa), (1, .int (nI 2))] := hl
    refine lv_iload_n hx hb dX0_asLane_0 rfl (lv_at hl 1 rfl) ?_
    refine lv_lookup (tgt := 38) (off := 37) hx hb dX0_asLane_1 (by decide) (by decide) (by decide) ?_
    refine lv_aload_n hx hb dX0_asLane_38 rfl (lv_at hl 0 rfl) ?_
    exact tC_cast hx hb hv hml hl hu ⟨Nat.le_of_ble_eq_true rfl, Nat.le_of_ble_eq_true rfl, Nat.le_of_ble_eq_true rfl, Nat.le_of_ble_eq_true rfl⟩ hown (hts _ q354) (hK.1.n 8 rfl) (s_recv3 hK.1 hu.1 hq) ⟨by decide +kernel, by decide +kernel, by decide +kernel, by decide +kernel⟩ dX0_asLane_39 (kT_leave0 hlk htb (Nat.le_of_ble_eq_true rfl) (Nat.le_of_ble_eq_true rfl) rfl)
  · subst h h2
    have hq : ws[q0]? = some (fa, .inl (d 0, n, .inl f)) := hq
    have hl : lv_has ls 2 [(0, .ref fa), (1, .int (nI 0))] := hl
    refine lv_iload_n hx hb dX0_asLane_0 rfl (lv_at hl 1 rfl) ?_
    refine lv_lookup (tgt := 28) (off := 27) hx hb dX0_asLane_1 (by decide) (by decide) (by decide) ?_
    refine lv_aload_n hx hb dX0_asLane_28 rfl (lv_at hl 0 rfl) ?_
    exact tC_cast hx hb hv hml hl hu ⟨Nat.le_of_ble_eq_true rfl, Nat.le_of_ble_eq_true rfl, Nat.le_of_ble_eq_true rfl, Nat.le_of_ble_eq_true rfl⟩ hown (hts _ q352) (hK.1.n 3 rfl) (s_recv0 hK.1 hu.1 hq) ⟨by decide +kernel, by decide +kernel, by decide +kernel, by decide +kernel⟩ dX0_asLane_29 (kT_leave0 hlk htb (Nat.le_of_ble_eq_true rfl) (Nat.le_of_ble_eq_true rfl) rfl)
  · subst h h2
    have hq : ws[q0]? = some (fa, .inl (d 0, n, .inl f)) := hq
    have hl : lv_has ls 2 [(0, .ref fa), (1, .int (nI 1))] := hl
    refine lv_iload_n hx hb dX0_asLane_0 rfl (lv_at hl 1 rfl) ?_
    refine lv_lookup (tgt := 33) (off := 32) hx hb dX0_asLane_1 (by decide) (by decide) (by decide) ?_
    refine lv_aload_n hx hb dX0_asLane_33 rfl (lv_at hl 0 rfl) ?_
    exact tC_cast hx hb hv hml hl hu ⟨Nat.le_of_ble_eq_true rfl, Nat.le_of_ble_eq_true rfl, Nat.le_of_ble_eq_true rfl, Nat.le_of_ble_eq_true rfl⟩ hown (hts _ q353) (hK.1.n 5 rfl) (s_recv0 hK.1 hu.1 hq) ⟨by decide +kernel, by decide +kernel, by decide +kernel, by decide +kernel⟩ dX0_asLane_34 (kT_leave0 hlk htb (Nat.le_of_ble_eq_true rfl) (Nat.le_of_ble_eq_true rfl) rfl)
