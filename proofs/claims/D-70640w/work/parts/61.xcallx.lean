/-! calls of methods that may throw or have handlers -/
/-- a method's code, with its handlers -/
def xCode (y : MethodName) (cb : ByteArray) (nLb : Nat) (ret : Option FieldType) (tb : List (Nat × Nat × Nat × Nat)) (s : State) (mk : MethodId) : Prop := ∃ (mt : Method) (cd : Code), s.methodNamed? y = some mk ∧ s.vm.method? mk = some mt ∧ mt.code = some cd ∧ cd.code = cb ∧ cd.maxLocals = nLb ∧ tabOf cd = tb ∧ mt.sig.returnType = ret ∧ mt.locks = false ∧ parseMethodDescriptor y.desc = some mt.sig
theorem xCode.of {y : MethodName} {cb : ByteArray} {nLb : Nat} {ret : Option FieldType} {s : State} {args : Array Value} (h : (Cond.code y cb nLb ret).before args s = true) : ∃ mk, xCode y cb nLb ret [] s mk := by
  obtain ⟨mk, hn⟩ := Cond.code_named h
  obtain ⟨mt, cd, h1, h2, h3, h4, h5, h6, h7, h8⟩ := Cond.code_spec hn h
  refine ⟨mk, mt, cd, hn, h1, h2, h3, h4, ?_, h5, h6, h8⟩
  unfold tabOf
  rw [List.map_eq_nil_iff]
  simpa using h7
theorem xCode.ofW {y : MethodName} {cb : ByteArray} {nLb : Nat} {ret : Option FieldType} {tb : List (Nat × Nat × Nat × Nat)} {s : State} {args : Array Value} (h : (Cond.codeWith y cb nLb ret tb).before args s = true) : ∃ mk, xCode y cb nLb ret tb s mk := by
  obtain ⟨mk, mt, cd, hn, h1, h2, h3, h4, h5, h6, h7, h8⟩ := Cond.codeWith_spec h
  exact ⟨mk, mt, cd, hn, h1, h2, h3, h4, h5, h6, h7, h8⟩
section XCC
variable {p : Program} {l : Launch} {e : Env} {R : Room} {s : State} {m : MethodId} {args : Array Value} {below : List Frame} {meth : Method} {c : Code} {H : Heap} {locs : List Loc} {cells slots : Nat} {Q : State → Prop}
variable {cc cb : ByteArray} {pc nL nLb index n : Nat} {ls : Array Slot} {rest : List Value} {K : State → Prop} {D : va_G} {A : Nat → Prop} {y : MethodName} {ret : Option FieldType} {rm : Room} {As : List Value} {own C : String} {tb : List (Nat × Nat × Nat × Nat)} {H00 : Heap} {ws : va_W} {Post : Option Value → va_W → Prop} {Exc : String → Prop}
theorem runX {mk : MethodId} {ig : Instr} {len : Nat} (hx : p.tables.exec = Jvm.exec) (hb : c.code = cc) (hml : c.maxLocals = nL) (hts : ∀ w ∈ lw_all, w.before args s = true) (hst : Kst K) (hK : K s) (hA : ∀ q : Nat, s.heap.size ≤ q → A q) (hAN : ∀ q : Nat, A q → H00.size ≤ q) (hZ : H00.size ≤ s.heap.size ∧ ∀ q : Nat, q < H00.size → s.heap[q]? = H00[q]?)
    (hM : cX l K H00 D y cb nLb ret tb rm As ws Post Exc) (hc : xCode y cb nLb ret tb s mk) (hy : plainName y.cls = true) (hlen : (lg_sl As).length ≤ nLb) (hu : uW D A s.heap H locs ws) (hl : ls.size = nL) (hW : (rest.map fun v => v.category).sum ≤ 8) (hdg : decode cc pc = .ok (ig, len)) (hf : rm.frames + 1 ≤ R.frames ∧ 8 + (nLb + 11) + rm.locals ≤ R.locals ∧ cells + rm.cells ≤ R.cells ∧ slots + rm.slots ≤ R.slots)
    (kr : ∀ (r : Option Value) (ws' : va_W) (H1 : Heap) (locs1 : List Loc), Post r ws' → uW D A s.heap H1 locs1 ws' → W p l e R s m args below meth c H1 locs1 (cells + rm.cells) (slots + rm.slots) Q (F0 m (pc + len) ls (r.toList ++ rest)))
    (kt : ∀ cls : String, Exc cls → kT p l e R s m args below meth c (cells + rm.cells) (slots + rm.slots) Q D A ws cls (F0 m pc ls rest))
    {U : State} (hU : U.heap = H) (X : Stand p l e R s m args below meth c U locs cells slots) : ∃ t, (∀ acts, Steps p.tables e below (doInvoke e (U.setTop (F0 m pc ls rest)) acts mk As.toArray).1 t) ∧ Q t := by
  obtain ⟨mt, cd, k1, k2, k3, k4, k5, k6, k7, k8, k9⟩ := hc
  have hls : (F0 m pc ls rest).locals.size = c.maxLocals := by show ls.size = _; rw [hml]; exact hl
  have hdg' : decode c.code (F0 m pc ls rest).pc = .ok (ig, len) := by rw [hb]; exact hdg
  have hal : s.WarmedH U.vm := X.warmed
  obtain ⟨o, t, T', L, hq, hL, hT', X', hend⟩ := goX X (g := F0 m pc ls rest) rfl hls hdg' k1 k2 k3 k8 hy hf.1 (by
      have e1 : (F0 m pc ls rest).monitorRoom = 0 := by simp [JFrame.monitorRoom, F0]
      rw [e1]
      show 2 * 0 + (rest.map fun v => v.category).sum + _ + _ ≤ _
      rw [k5]
      omega) hf.2.2.1 hf.2.2.2 (av := As.toArray) (Qc := qX D (va_A ws H.size) ws Post Exc) (free := va_A ws H.size) (fun T0 hT0 Y => by
      have hcall : (U.calling (F0 m pc ls rest) mk As.toArray).heap = H := hU
      have hZ' : H00.size ≤ H.size ∧ ∀ q : Nat, q < H00.size → H[q]? = H00[q]? := ⟨Nat.le_trans hZ.1 hu.2.2.1, fun q hq => by
        rw [hu.2.2.2.1 q (Nat.lt_of_lt_of_le hq hZ.1) (fun h => Nat.not_le.mpr hq (hAN q h))]
        exact hZ.2 q hq⟩
      have hWd := hM p e (U.calling (F0 m pc ls rest) mk As.toArray) mk (.java (F0 m pc ls rest) :: below) mt cd (va_A ws H.size) hx X.admits k4 k5 k6
        (by show U.vm.findClass _ = _; rw [hal.alike.findClass]; exact findClass_of_methodNamed k1)
        (fun w hw => pay_in hts lw_self w hw _ (U.calling (F0 m pc ls rest) mk As.toArray) hal) k7 k8 (hst s (U.calling (F0 m pc ls rest) mk As.toArray) hal hK)
        (fun q h => Or.inr (by rw [hcall] at h; exact h))
        (fun q h => hAN q (uSub hA hu q h))
        (by rw [hcall]; exact hZ')
        (by rw [hcall]; exact nS_A hu.1)
        (by rw [hcall]; exact ⟨hu.1, hu.2.1.self, va_S.rf⟩)
        _ (lv_entry As (n := nLb) hlen)
      obtain ⟨t, a1, a2⟩ := hWd T0 (hT0.trans rfl) Y
      refine ⟨t, ?_, a2⟩
      rw [k5, lg_entry_eq]
      exact a1)
  obtain ⟨hq1, hF⟩ := hq
  rcases hq1 with ⟨r, ws', ho, hp, hP, hD⟩ | ⟨a, ex, k, ce, ho, hex, z1, z2, z3, z4, hP, hD⟩
  · have hu' : uW D A s.heap t.heap (locs ++ L) ws' := uEnd hA hu (st0 := U.calling (F0 m pc ls rest) mk As.toArray) hU hP hD hF hL
    rcases hend with ⟨v, hv, hs⟩ | ⟨a, ha, -⟩
    · rw [ho] at hv
      cases hv
      obtain ⟨t2, b1, b2⟩ := kr r ws' t.heap (locs ++ L) hp hu' T' hT' X'
      exact ⟨t2, fun acts => (hs acts).trans b1, b2⟩
    · rw [ho] at ha
      cases ha
  · have hu' : uW D A s.heap t.heap (locs ++ L) ws := uEnd hA hu (st0 := U.calling (F0 m pc ls rest) mk As.toArray) hU hP hD hF hL
    rcases hend with ⟨v, hv, -⟩ | ⟨a', ha, hs⟩
    · rw [ho] at hv
      cases hv
    · rw [ho] at ha
      cases ha
      have z1' : s.vm.findClass ex = some k := by
        have e1 : (U.calling (F0 m pc ls rest) mk As.toArray).vm.findClass ex = s.vm.findClass ex := hal.alike.findClass ex none
        rw [← e1]; exact z1
      obtain ⟨t2, b1, b2⟩ := kt ex hex t.heap (locs ++ L) a hu' ⟨k, ce, z1', z2, z3, z4⟩ T' hT' X'
      exact ⟨t2, fun acts => (hs acts).trans b1, b2⟩
theorem callX_S {mk : MethodId} (hx : p.tables.exec = Jvm.exec) (hb : c.code = cc) (hml : c.maxLocals = nL) (hown : s.vm.findClass own = some m.cls) (hts : ∀ w ∈ lw_all, w.before args s = true) (hst : Kst K) (hK : K s) (hA : ∀ q : Nat, s.heap.size ≤ q → A q) (hAN : ∀ q : Nat, A q → H00.size ≤ q) (hZ : H00.size ≤ s.heap.size ∧ ∀ q : Nat, q < H00.size → s.heap[q]? = H00[q]?)
    (hM : cX l K H00 D y cb nLb ret tb rm As ws Post Exc) (hc : xCode y cb nLb ret tb s mk) (hlink : Cond.methodLink own index y ∈ lw_all) (hstat : Cond.static y ∈ lw_all) (hini : Cond.initialized y.cls ∈ lw_all) (hy : plainName y.cls = true ∧ y.cls ≠ "java/lang/invoke/MethodHandle" ∧ y.cls ≠ "java/lang/invoke/VarHandle" ∧ (parseMethodDescriptor y.desc).map (fun d => d.parameters.length) = some As.length) (hlen : (lg_sl As).length ≤ nLb) (hu : uW D A s.heap H locs ws) (hl : ls.size = nL) {st0 : List Value} (hs0 : st0 = As.reverse ++ rest) (hW : (rest.map fun v => v.category).sum ≤ 8) (hdg : decode cc pc = .ok (.invokestatic index, 3)) (hf : rm.frames + 1 ≤ R.frames ∧ 8 + (nLb + 11) + rm.locals ≤ R.locals ∧ cells + rm.cells ≤ R.cells ∧ slots + rm.slots ≤ R.slots)
    (kr : ∀ (r : Option Value) (ws' : va_W) (H1 : Heap) (locs1 : List Loc), Post r ws' → uW D A s.heap H1 locs1 ws' → W p l e R s m args below meth c H1 locs1 (cells + rm.cells) (slots + rm.slots) Q (F0 m (pc + 3) ls (r.toList ++ rest)))
    (kt : ∀ cls : String, Exc cls → kT p l e R s m args below meth c (cells + rm.cells) (slots + rm.slots) Q D A ws cls (F0 m pc ls rest)) : W p l e R s m args below meth c H locs cells slots Q (F0 m pc ls st0) := by
  subst hs0
  intro T hT X
  have hc' := hc
  obtain ⟨mt, cd, k1, k2, k3, k4, k5, k6, k7, k8, k9⟩ := hc'
  obtain ⟨kP, hkP, -⟩ := className_of_methodNamed k1
  obtain ⟨vm', X', st⟩ := X.invokestatic hx hown (hts _ hlink) k1 k2 (Cond.static_spec k1 k2 (hts _ hstat)) hkP (Cond.initialized_spec (findClass_of_methodNamed k1) hkP (hts _ hini)) ⟨hy.2.1, hy.2.2.1⟩ (g := F0 m pc ls (As.reverse ++ rest)) rfl (argsL := As) (rest := rest) (by
    have := hy.2.2.2
    rw [k9] at this
    exact (Option.some.inj this).symm) rfl (by rw [hb]; exact hdg)
  obtain ⟨t, a1, a2⟩ := runX hx hb hml hts hst hK hA hAN hZ hM hc hy.1 hlen hu hl hW hdg hf kr kt (U := T.setVm vm') hT X'
  exact ⟨t, st t (fun acts => a1 acts), a2⟩
theorem callX_V {mk : MethodId} {b : Addr} (hx : p.tables.exec = Jvm.exec) (hb : c.code = cc) (hml : c.maxLocals = nL) (hown : s.vm.findClass own = some m.cls) (hts : ∀ w ∈ lw_all, w.before args s = true) (hst : Kst K) (hK : K s) (hA : ∀ q : Nat, s.heap.size ≤ q → A q) (hAN : ∀ q : Nat, A q → H00.size ≤ q) (hZ : H00.size ≤ s.heap.size ∧ ∀ q : Nat, q < H00.size → s.heap[q]? = H00[q]?)
    (hM : cX l K H00 D y cb nLb ret tb rm (.ref b :: As) ws Post Exc) (hc : xCode y cb nLb ret tb s mk) (hlink : Cond.methodLink own index y ∈ lw_all) (hinst : Cond.instanceMethod y ∈ lw_all) (hsel : Cond.selects C y y ∈ lw_all) (hy : plainName y.cls = true ∧ y.cls ≠ "java/lang/invoke/MethodHandle" ∧ y.cls ≠ "java/lang/invoke/VarHandle" ∧ (parseMethodDescriptor y.desc).map (fun d => d.parameters.length) = some As.length) (hlen : (lg_sl (.ref b :: As)).length ≤ nLb)
    (hrc : ∃ cellB : Cell, H[b]? = some cellB ∧ cellB.vm.isStatics = false ∧ s.vm.findClass C = some cellB.cls) (hu : uW D A s.heap H locs ws) (hl : ls.size = nL) {st0 : List Value} (hs0 : st0 = As.reverse ++ .ref b :: rest) (hW : (rest.map fun v => v.category).sum ≤ 8) (hdg : decode cc pc = .ok (.invokevirtual index, 3)) (hf : rm.frames + 1 ≤ R.frames ∧ 8 + (nLb + 11) + rm.locals ≤ R.locals ∧ cells + rm.cells ≤ R.cells ∧ slots + rm.slots ≤ R.slots)
    (kr : ∀ (r : Option Value) (ws' : va_W) (H1 : Heap) (locs1 : List Loc), Post r ws' → uW D A s.heap H1 locs1 ws' → W p l e R s m args below meth c H1 locs1 (cells + rm.cells) (slots + rm.slots) Q (F0 m (pc + 3) ls (r.toList ++ rest)))
    (kt : ∀ cls : String, Exc cls → kT p l e R s m args below meth c (cells + rm.cells) (slots + rm.slots) Q D A ws cls (F0 m pc ls rest)) : W p l e R s m args below meth c H locs cells slots Q (F0 m pc ls st0) := by
  subst hs0
  intro T hT X
  have hc' := hc
  obtain ⟨mt, cd, k1, k2, k3, k4, k5, k6, k7, k8, k9⟩ := hc'
  obtain ⟨cellB, r1, r2, r3⟩ := hrc
  obtain ⟨c2, r0, m2, q1, q2, q3, q4, mkc, q5, q6⟩ := Cond.selects_spec (hts _ hsel)
  cases r3.symm.trans q1
  cases q3.symm.trans k1
  obtain ⟨mi, mti, i1, i2, i3, i4⟩ := Cond.instanceMethod_spec (hts _ hinst)
  cases i1.symm.trans k1
  cases i2.symm.trans k2
  have e0 : r0 = mk := Option.some.inj (q2.symm.trans (State.methodFound?_of_named k1 ⟨hy.2.1, hy.2.2.1⟩))
  subst e0
  obtain ⟨vm', X', st⟩ := X.invokevirtual hx hown (hts _ hlink) k1 k2 i3 q5 q6 ⟨hy.2.1, hy.2.2.1⟩ (by rw [hT]; exact r1) (VmData.noStatics_of r2) (by rw [Launch.admits_selectMethod X.admits]; exact q4) k2 i4 q5 q6 (g := F0 m pc ls (As.reverse ++ .ref b :: rest)) rfl (argsL := As) (rest := rest) (by
    have := hy.2.2.2
    rw [k9] at this
    exact (Option.some.inj this).symm) rfl (by rw [hb]; exact hdg)
  obtain ⟨t, a1, a2⟩ := runX hx hb hml hts hst hK hA hAN hZ hM hc hy.1 hlen hu hl hW hdg hf kr kt (U := T.setVm vm') hT X'
  exact ⟨t, st t (fun acts => a1 acts), a2⟩
end XCC
