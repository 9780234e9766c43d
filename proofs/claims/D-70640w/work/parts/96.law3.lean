/-! the law: its loop, its start -/
theorem and31 (x : Int32) : ∃ k, k < 32 ∧ x &&& 31 = nI k := by
  refine ⟨(x.toBitVec &&& 31#32).toNat, ?_, ?_⟩
  · rw [BitVec.toNat_and]
    exact Nat.lt_of_le_of_lt Nat.and_le_right (by decide)
  · apply Int32.toBitVec_inj.mp
    show x.toBitVec &&& (31 : Int32).toBitVec = BitVec.ofNat 32 (x.toBitVec &&& 31#32).toNat
    rw [BitVec.ofNat_toNat, BitVec.setWidth_eq]
    rfl
theorem lt_six {i L : Nat} (hi : i ≤ 400) (hL : L ≤ 384) : (nI L - 6 < nI i) ↔ L < i + 6 := by
  have ea : (nI i).toInt = (i : Int) := Int32.toInt_ofNat_of_lt (by omega)
  have eb : (nI L).toInt = (L : Int) := Int32.toInt_ofNat_of_lt (by omega)
  have e6 : (6 : Int32).toInt = 6 := by decide
  rw [Int32.lt_iff_toInt_lt, Int32.toInt_sub, ea, eb, e6, Int.bmod_eq_of_le (by omega) (by omega)]
  omega
def R_law : String := "MustardFastLaw"
def lw_P (b : Addr) (xs : List Int32) (args : Array Value) (s : State) : Prop := args = #[.ref b] ∧ s.IntsAt b xs ∧ xs.length ≤ 384 ∧ (Jvm.Cond.and given_1 narrow_1).before args s = true ∧ modulesRight_1 s = true
def lw_Q (_ : Array Value) (s : State) (o : Outcome) (t : State) : Prop := o = .returned (some (.int 1)) ∧ Framed s o t [] 656673 7101508
def lw_Z (below : List Frame) (a : Array Value) (s : State) : State → Prop := fun t => ∃ o, t.status = .running ∧ Ended t below o ∧ lw_Q a s o t
/-- the law's own end, with 1 on the stack, nothing written that was there before, its room as the claim has it -/
theorem lw_ret {p : Program} {l : Launch} {e : Env} {s : State} {m : MethodId} {below : List Frame} {meth : Method} {c : Code} {b : Nat} (hx : p.tables.exec = Jvm.exec) (hb : c.code = code) (hr : meth.sig.returnType = ret) (hlocks : meth.locks = false) {pc : Nat} {H : Heap} {ls : Array Slot} (hdg : decode code pc = .ok (.ireturn, 1)) : W p l e room_1 s m #[Value.ref b] below meth c H [] 656673 7101508 (lw_Z below #[Value.ref b] s) (F0 m pc ls [.int 1]) := by
  intro T hT X
  obtain ⟨fs, hret, hrun, hended, hW, hframe⟩ := X.leave (v := some (.int 1)) (hlocks := hlocks) (fun h => by rw [hr] at h; cases h)
  have hmeth' : T.vm.method? m = some meth := X.method'
  refine ⟨T.setFrames fs, ?_, .returned (some (.int 1)), hrun, hended, rfl, ⟨_, rfl⟩, hW, hframe⟩
  jvm_step X.here [X.here.top, hx, hb, hdg, hmeth', hr, ret, narrow_b1]
  (try refine ⟨rfl, ?_⟩); (try refine ⟨rfl, ?_⟩)
  first | (intro acts; rw [hret _ acts rfl rfl rfl]) | rw [hret _ _ rfl rfl rfl]
  exact Steps.refl _
/-- what holds at the law's entry: the machine, the code, the tables' words (any of lw_tbl by 'hts w (by decide +kernel)'), the script of L ints xs at the cell b, what the Statement gives of the start (any of its parts by flat_of_before) -/
def lw_At (p : Program) (s : State) (m : MethodId) (meth : Method) (c : Code) (b L : Nat) (xs : Nat → Int32) : Prop :=
  p.tables.exec = Jvm.exec ∧ c.code = code ∧ meth.sig.returnType = ret ∧ c.maxLocals = 4 ∧ s.vm.findClass R_law = some m.cls ∧ (∀ w ∈ lw_tbl, w.before #[Value.ref b] s = true) ∧ va_X b L xs s s.heap ∧ b < s.heap.size ∧ meth.locks = false ∧ (Jvm.Cond.and given_1 narrow_1).before #[Value.ref b] s = true
set_option maxHeartbeats 4000000 in
set_option maxRecDepth 100000 in
theorem law_loop {p : Program} {l : Launch} {e : Env} {s : State} {m : MethodId} {below : List Frame} {meth : Method} {c : Code} {b L : Nat} {xs : Nat → Int32} {D : va_G} {d : Nat → ClassId} {e0 : Nat} {B : Nat → Nat} {q : Nat} {Aq : Nat → Nat} (C : lwC p l s m meth c b L xs D d e0) (hL : L ≤ 384) (hr : meth.sig.returnType = ret) (hlocks : meth.locks = false) :
    ∀ (N t i : Nat) (σ : ASt) (H : Heap) (locs : List Loc) (ls : Array Slot), t + N = 64 → i = 6 * t → lwI D d e0 s B q Aq σ H locs → lv_has ls 4 [(3, .int (nI i)), (2, .ref q), (1, .ref (B 0)), (0, .ref b)] → W p l e room_1 s m #[Value.ref b] below meth c H locs (33 + 9 * t) (504 + 1061 * t) (lw_Z below #[Value.ref b] s) (F0 m 18 ls []) := by
  obtain ⟨hx, hb, hml, hown, hts, hX, hbl, hK, htr⟩ := id C
  have hbA : ¬ (fun q : Nat => s.heap.size ≤ q) b := Nat.not_le.mpr hbl
  intro N
  induction N with
  | zero =>
    intro t i σ H locs ls htN hi I hl
    obtain ⟨τ, ea, hs, ρ, F, τm, hm, hM, hft, hu⟩ := id I
    refine lv_iload_n hx hb dL_law_18 rfl (lv_at hl 0 rfl) ?_
    refine lv_aload_n hx hb dL_law_19 rfl (lv_at hl 3 rfl) ?_
    refine va_slen hx hb hX hbl hbA hu.2.2 dL_law_20 ?_
    refine lv_bipush (v := 6) hx hb dL_law_21 (by decide) ?_
    refine lv_isub hx hb dL_law_23 ?_
    refine lv_icmp_gt (tgt := 1132) hx hb dL_law_24 (by decide) (fun c0 => ?_) (fun c0 => ?_)
    · refine lv_iconst (v := 1) hx hb dL_law_1132 (by decide) ?_
      refine va_forget (fun q hq => hu.2.2.2.2 q hq) ?_
      refine W.widen (k := 656673) (n := 7101508) (by omega) (by omega) ?_
      exact lw_ret hx hb hr hlocks dL_law_1133
    · exact absurd ((lt_six (i := i) (L := L) (by omega) hL).mpr (by omega)) c0
  | succ N ih =>
    intro t i σ H locs ls htN hi I hl
    obtain ⟨τ, ea, hs, ρ, F, τm, hm, hM, hft, hu⟩ := id I
    refine lv_iload_n hx hb dL_law_18 rfl (lv_at hl 0 rfl) ?_
    refine lv_aload_n hx hb dL_law_19 rfl (lv_at hl 3 rfl) ?_
    refine va_slen hx hb hX hbl hbA hu.2.2 dL_law_20 ?_
    refine lv_bipush (v := 6) hx hb dL_law_21 (by decide) ?_
    refine lv_isub hx hb dL_law_23 ?_
    refine lv_icmp_gt (tgt := 1132) hx hb dL_law_24 (by decide) (fun c0 => ?_) (fun c0 => ?_)
    · refine lv_iconst (v := 1) hx hb dL_law_1132 (by decide) ?_
      refine va_forget (fun q hq => hu.2.2.2.2 q hq) ?_
      refine W.widen (k := 656673) (n := 7101508) (by omega) (by omega) ?_
      exact lw_ret hx hb hr hlocks dL_law_1133
    · have hi6 : i + 6 ≤ L := Nat.le_of_not_lt (fun h9 => c0 ((lt_six (i := i) (L := L) (by omega) hL).mpr h9))
      have kk : ∀ (σ' : ASt) (H1 : Heap) (locs1 : List Loc), lwI D d e0 s B q Aq σ' H1 locs1 → W p l e room_1 s m #[Value.ref b] below meth c H1 locs1 (33 + 9 * t + 9) (504 + 1061 * t + 1061) (lw_Z below #[Value.ref b] s) (F0 m 1126 ls []) := by
        intro σ' H1 locs1 I1
        refine lv_iinc (v := nI (i + 6)) (lv' := [(3, .int (nI (i + 6))), (2, .ref q), (1, .ref (B 0)), (0, .ref b)]) hx hb dL_law_1126 hl (k := 0) rfl (nI_pls i 6) (by decide) rfl (fun ls hl => ?_)
        refine lv_goto (tgt := 18) hx hb dL_law_1129 (by decide) ?_
        exact ih (t + 1) (i + 6) σ' H1 locs1 ls (by omega) (by omega) I1 hl
      refine lv_aload_n hx hb dL_law_27 rfl (lv_at hl 3 rfl) ?_
      refine lv_iload_n hx hb dL_law_28 rfl (lv_at hl 0 rfl) ?_
      refine va_sld hx hb hX hbl hbA hu.2.2 (vp_in_nI (show i < L by omega) (by omega)) dL_law_29 ?_
      refine lv_bipush (v := 31) hx hb dL_law_30 (by decide) ?_
      refine lv_iand hx hb dL_law_32 ?_
      obtain ⟨k, hk, ek⟩ := and31 (xs (nI i).toNatClampNeg)
      refine top_i (y := nI k) ek ?_
      have hk32 : k = 0 ∨ k = 1 ∨ k = 2 ∨ k = 3 ∨ k = 4 ∨ k = 5 ∨ k = 6 ∨ k = 7 ∨ k = 8 ∨ k = 9 ∨ k = 10 ∨ k = 11 ∨ k = 12 ∨ k = 13 ∨ k = 14 ∨ k = 15 ∨ k = 16 ∨ k = 17 ∨ k = 18 ∨ k = 19 ∨ k = 20 ∨ k = 21 ∨ k = 22 ∨ k = 23 ∨ k = 24 ∨ k = 25 ∨ k = 26 ∨ k = 27 ∨ k = 28 ∨ k = 29 ∨ k = 30 ∨ k = 31 := by omega
      rcases hk32 with h | h | h | h | h | h | h | h | h | h | h | h | h | h | h | h | h | h | h | h | h | h | h | h | h | h | h | h | h | h | h | h
      · subst h
        refine lv_tableIn (tgt := 168) hx hb dL_law_33 (by decide) (by decide) (by rfl) (by decide) ?_
        exact law_duchy C I hL hi6 hl (by omega) (by omega) kk
      · subst h
        refine lv_tableIn (tgt := 221) hx hb dL_law_33 (by decide) (by decide) (by rfl) (by decide) ?_
        exact law_ofEater C I hL hi6 hl (by omega) (by omega) kk
      · subst h
        refine lv_tableIn (tgt := 254) hx hb dL_law_33 (by decide) (by decide) (by rfl) (by decide) ?_
        exact law_look C I hL hi6 hl (by omega) (by omega) kk
      · subst h
        refine lv_tableIn (tgt := 277) hx hb dL_law_33 (by decide) (by decide) (by rfl) (by decide) ?_
        exact law_pull C I hL hi6 hl (by omega) (by omega) kk
      · subst h
        refine lv_tableIn (tgt := 310) hx hb dL_law_33 (by decide) (by decide) (by rfl) (by decide) ?_
        exact law_sour C I hL hi6 hl (by omega) (by omega) kk
      · subst h
        refine lv_tableIn (tgt := 333) hx hb dL_law_33 (by decide) (by decide) (by rfl) (by decide) ?_
        exact law_crave C I hL hi6 hl (by omega) (by omega) kk
      · subst h
        refine lv_tableIn (tgt := 366) hx hb dL_law_33 (by decide) (by decide) (by rfl) (by decide) ?_
        exact law_fasts C I hL hi6 hl (by omega) (by omega) kk
      · subst h
        refine lv_tableIn (tgt := 379) hx hb dL_law_33 (by decide) (by decide) (by rfl) (by decide) ?_
        exact law_yellow C I hL hi6 hl (by omega) (by omega) kk
      · subst h
        refine lv_tableIn (tgt := 412) hx hb dL_law_33 (by decide) (by decide) (by rfl) (by decide) ?_
        exact law_found C I hL hi6 hl (by omega) (by omega) kk
      · subst h
        refine lv_tableIn (tgt := 455) hx hb dL_law_33 (by decide) (by decide) (by rfl) (by decide) ?_
        exact law_plan C I hL hi6 hl (by omega) (by omega) kk
      · subst h
        refine lv_tableIn (tgt := 518) hx hb dL_law_33 (by decide) (by decide) (by rfl) (by decide) ?_
        exact law_best C I hL hi6 hl (by omega) (by omega) kk
      · subst h
        refine lv_tableIn (tgt := 551) hx hb dL_law_33 (by decide) (by decide) (by rfl) (by decide) ?_
        exact law_village C I hL hi6 hl (by omega) (by omega) kk
      · subst h
        refine lv_tableIn (tgt := 564) hx hb dL_law_33 (by decide) (by decide) (by rfl) (by decide) ?_
        exact law_smile C I hL hi6 hl (by omega) (by omega) kk
      · subst h
        refine lv_tableIn (tgt := 587) hx hb dL_law_33 (by decide) (by decide) (by rfl) (by decide) ?_
        exact law_reading C I hL hi6 hl (by omega) (by omega) kk
      · subst h
        refine lv_tableIn (tgt := 656) hx hb dL_law_33 (by decide) (by decide) (by rfl) (by decide) ?_
        exact law_back C I hL hi6 hl (by omega) (by omega) kk
      · subst h
        refine lv_tableIn (tgt := 679) hx hb dL_law_33 (by decide) (by decide) (by rfl) (by decide) ?_
        exact law_stays C I hL hi6 hl (by omega) (by omega) kk
      · subst h
        refine lv_tableIn (tgt := 702) hx hb dL_law_33 (by decide) (by decide) (by rfl) (by decide) ?_
        exact law_kinds C I hL hi6 hl (by omega) (by omega) kk
      · subst h
        refine lv_tableIn (tgt := 725) hx hb dL_law_33 (by decide) (by decide) (by rfl) (by decide) ?_
        exact law_sours C I hL hi6 hl (by omega) (by omega) kk
      · subst h
        refine lv_tableIn (tgt := 738) hx hb dL_law_33 (by decide) (by decide) (by rfl) (by decide) ?_
        exact law_odds C I hL hi6 hl (by omega) (by omega) kk
      · subst h
        refine lv_tableIn (tgt := 782) hx hb dL_law_33 (by decide) (by decide) (by rfl) (by decide) ?_
        exact law_sheet C I hL hi6 hl (by omega) (by omega) kk
      · subst h
        refine lv_tableIn (tgt := 825) hx hb dL_law_33 (by decide) (by decide) (by rfl) (by decide) ?_
        exact law_lose C I hL hi6 hl (by omega) (by omega) kk
      · subst h
        refine lv_tableIn (tgt := 848) hx hb dL_law_33 (by decide) (by decide) (by rfl) (by decide) ?_
        exact law_put C I hL hi6 hl (by omega) (by omega) kk
      · subst h
        refine lv_tableIn (tgt := 891) hx hb dL_law_33 (by decide) (by decide) (by rfl) (by decide) ?_
        exact law_cell C I hL hi6 hl (by omega) (by omega) kk
      · subst h
        refine lv_tableIn (tgt := 935) hx hb dL_law_33 (by decide) (by decide) (by rfl) (by decide) ?_
        exact law_copy C I hL hi6 hl (by omega) (by omega) kk
      · subst h
        refine lv_tableIn (tgt := 998) hx hb dL_law_33 (by decide) (by decide) (by rfl) (by decide) ?_
        exact law_tell C I hL hi6 hl (by omega) (by omega) kk
      · subst h
        refine lv_tableIn (tgt := 1021) hx hb dL_law_33 (by decide) (by decide) (by rfl) (by decide) ?_
        exact law_sniff C I hL hi6 hl (by omega) (by omega) kk
      · subst h
        refine lv_tableIn (tgt := 1044) hx hb dL_law_33 (by decide) (by decide) (by rfl) (by decide) ?_
        exact law_as C I hL hi6 hl (by omega) (by omega) kk
      · subst h
        refine lv_tableIn (tgt := 1077) hx hb dL_law_33 (by decide) (by decide) (by rfl) (by decide) ?_
        exact law_trace C I hL hi6 hl (by omega) (by omega) kk
      · subst h
        refine lv_tableIn (tgt := 1090) hx hb dL_law_33 (by decide) (by decide) (by rfl) (by decide) ?_
        exact law_fault C I hL hi6 hl (by omega) (by omega) kk
      · subst h
        refine lv_tableIn (tgt := 1103) hx hb dL_law_33 (by decide) (by decide) (by rfl) (by decide) ?_
        exact law_many C I hL hi6 hl (by omega) (by omega) kk
      · subst h
        refine lv_tableOut (tgt := 1126) hx hb dL_law_33 (by decide) (by decide) ?_
        exact W.widen (by omega) (by omega) (kk σ H locs I)
      · subst h
        refine lv_tableOut (tgt := 1126) hx hb dL_law_33 (by decide) (by decide) ?_
        exact W.widen (by omega) (by omega) (kk σ H locs I)
set_option maxHeartbeats 4000000 in
set_option maxRecDepth 100000 in
/-- the law, from its entry -/
theorem whole_start {p : Program} {e : Env} {s : State} {m : MethodId} {below : List Frame} {meth : Method} {c : Code} (l : Launch) (htr : ∀ e, l.admits e → e.platform.stackTraces = false) {b L : Nat} {xs : Nat → Int32} (hL : L ≤ 384) (C0 : lw_At p s m meth c b L xs) (hmd : modulesRight_1 s = true) : W p l e room_1 s m #[Value.ref b] below meth c s.heap [] 0 0 (lw_Z below #[Value.ref b] s) (entryFrame m ([Value.ref b] : List Value).toArray 4) := by
  obtain ⟨hx, hb, hr, hml, hown, htt, hX, hbl, hlocks, hgv⟩ := C0
  have hb : c.code = cL_law := hb
  have hown : s.vm.findClass RL = some m.cls := hown
  have hts : ∀ w ∈ lw_all, w.before #[Value.ref b] s = true := fun w hw => htt w (lw_all_tbl hw)
  obtain ⟨D, d, e0, hK⟩ := tabs htt hgv hmd
  have hA : ∀ q : Nat, s.heap.size ≤ q → (fun q : Nat => s.heap.size ≤ q) q := fun _ h => h
  have hZ : s.heap.size ≤ s.heap.size ∧ ∀ q : Nat, q < s.heap.size → s.heap[q]? = s.heap[q]? := ⟨Nat.le_refl _, fun _ _ => rfl⟩
  have hu : uW D (fun q : Nat => s.heap.size ≤ q) s.heap s.heap [] [] := ⟨fun k q h => by simp at h, ⟨fun i j p q h => by simp at h, fun k q h => by simp at h⟩, va_S.rf⟩
  have hl := lv_entry ([.ref b]) (n := 4) (Nat.le_of_ble_eq_true rfl)
  rw [lg_entry_eq]
  generalize (lg_sl ([.ref b]) ++ List.replicate (4 - (lg_sl ([.ref b])).length) Slot.unset).toArray = ls at hl ⊢
  have hl : lv_has ls 4 [(0, .ref b)] := hl
  refine va_new (D := D) (ci := 0) (C := RX0) (T := TX0) (N := 20) (fs := [.int 0, .int 0, .null, .int 0, .int 0, .null, .int 0, .int 0, .int 0, .int 0, .int 0, .int 0, .null, .null, .int 0, .null, .null, .null, .null, .null]) hx hb hts in_X0 tyX0 tyX0_ok hown (hts _ q76) (hts _ q77) (hts _ q51) hK.1.1.1 hu.1 hu.2.1 hu.2.2 hA rfl (by decide) (Nat.le_of_ble_eq_true rfl) (Nat.le_of_ble_eq_true rfl) dL_law_0 (fun x H g1 g2 g3 => ?_)
  have hu : uW D (fun q : Nat => s.heap.size ≤ q) s.heap H [] [(x, .inr (0, [.int 0, .int 0, .null, .int 0, .int 0, .null, .int 0, .int 0, .int 0, .int 0, .int 0, .int 0, .null, .null, .int 0, .null, .null, .null, .null, .null]))] := ⟨g1, g2, g3⟩
  refine lv_dup hx hb dL_law_3 rfl ?_
  refine callU_I (rest := [.ref x]) hx hb hml hown hts KE_st hK hA hA hZ (cX_init l D d e0 s.heap x) (wL_X_init hts ⟨Nat.le_of_ble_eq_true rfl, Nat.le_of_ble_eq_true rfl⟩) hu rfl hl.1 rfl (Nat.le_of_ble_eq_true rfl) dL_law_4 ⟨Nat.le_of_ble_eq_true rfl, Nat.le_of_ble_eq_true rfl⟩ (fun r ws H locs hpo hu2 => ?_)
  obtain ⟨rfl, B, τ, ea, hs, F, hB0, rfl, hm⟩ := hpo
  subst hB0
  have hu := hu2
  refine lv_astore_n (lv' := [(1, .ref (B 0)), (0, .ref b)]) hx hb dL_law_7 rfl hl (by decide) rfl (fun ls hl => ?_)
  refine va_new (D := D) (ci := 1) (C := RX2) (T := TX2) (N := 29) (fs := [.int 0, .int 0, .int 0, .null, .int 0, .null, .null, .null, .null, .int 0, .int 0, .int 0, .int 0, .int 0, .null, .null, .null, .null, .null, .int 0, .null, .null, .null, .null, .null, .null, .null, .null, .int 0]) hx hb hts in_X2 tyX2 tyX2_ok hown (hts _ q898) (hts _ q899) (hts _ q56) hK.1.1.1 hu.1 hu.2.1 hu.2.2 hA rfl (by decide) (Nat.le_of_ble_eq_true rfl) (Nat.le_of_ble_eq_true rfl) dL_law_8 (fun q H g1 g2 g3 => ?_)
  have hu : uW D (fun q : Nat => s.heap.size ≤ q) s.heap H locs (xw d B τ ea hs [] ++ [(q, .inr (1, [.int 0, .int 0, .int 0, .null, .int 0, .null, .null, .null, .null, .int 0, .int 0, .int 0, .int 0, .int 0, .null, .null, .null, .null, .null, .int 0, .null, .null, .null, .null, .null, .null, .null, .null, .int 0]))]) := ⟨g1, g2, g3⟩
  refine lv_dup hx hb dL_law_11 rfl ?_
  have hu := uW_sw hu
  refine callU_I (rest := [.ref q]) hx hb hml hown hts KM_st hK.1.1 hA hA hZ (cU_fr (cM_init l D d s.heap q) (xw d B τ ea hs [])) (wL_M_init hts ⟨Nat.le_of_ble_eq_true rfl, Nat.le_of_ble_eq_true rfl⟩) hu rfl hl.1 rfl (Nat.le_of_ble_eq_true rfl) dL_law_12 ⟨Nat.le_of_ble_eq_true rfl, Nat.le_of_ble_eq_true rfl⟩ (fun r ws H locs hpo hu => ?_)
  obtain ⟨wa, rfl, rfl, Aq, τm, rfl, hM⟩ := hpo
  have hu := uW_sw hu
  refine lv_astore_n (lv' := [(2, .ref q), (1, .ref (B 0)), (0, .ref b)]) hx hb dL_law_15 rfl hl (by decide) rfl (fun ls hl => ?_)
  refine lv_iconst (v := nI 0) hx hb dL_law_16 (by decide) ?_
  refine lv_istore_n (lv' := [(3, .int (nI 0)), (2, .ref q), (1, .ref (B 0)), (0, .ref b)]) hx hb dL_law_17 rfl hl (by decide) rfl (fun ls hl => ?_)
  refine W.widen (k := 33 + 9 * 0) (n := 504 + 1061 * 0) (Nat.le_of_ble_eq_true rfl) (Nat.le_of_ble_eq_true rfl) ?_
  exact law_loop ⟨hx, hb, hml, hown, hts, hX, hbl, hK, htr⟩ hL hr hlocks 64 0 0 s0 H locs ls rfl rfl ⟨τ, ea, hs, [], F, τm, hm, hM, fit_0, hu⟩ hl
