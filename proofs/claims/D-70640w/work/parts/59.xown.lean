/-! an exception that the program makes itself, without a message -/
section XO
variable {p : Program} {l : Launch} {e : Env} {R : Room} {s : State} {m₀ : MethodId} {args : Array Value} {below : List Frame} {meth : Method} {c : Code} {T' : State} {locs : List Loc} {cells slots : Nat}
set_option maxHeartbeats 4000000 in
theorem ownNote (X : Stand p l e R s m₀ args below meth c T' locs cells slots) (hexec : p.tables.exec = Jvm.exec) (htr : e.platform.stackTraces = false) {own cls : String} {names : List String} {ic : Nat}
    (hown : s.vm.findClass own = some m₀.cls) (hcls : Bundle.fit cls = true) (hnames : ∀ n ∈ names, Bundle.fit n = true)
    (h : ∀ a ∈ Bundle.ownAtoms0 own ic cls names, a.before args s = true)
    (hlocs : ∀ x ∈ locs, ∀ cell, s.heap[x.base]? = some cell → cell.vm.isStatics = false)
    {a : Addr} {cX : ClassId} {kX : Class} (hfoundX : s.vm.findClass cls = some cX) (hkX : s.vm.classes[cX]? = some kX) (hcell : T'.heap[a]? = some (freshCell cX kX)) (hnew : s.heap.size ≤ a)
    {g : JFrame} (hg : g.method = m₀) (hsize : g.locals.size = c.maxLocals) {rest : List Value} (hstack : g.stack = .ref a :: .ref a :: rest)
    (hd6 : decode c.code g.pc = .ok (.invokespecial ic, 3))
    (hRframes : names.length + 3 < R.frames) (hRlocals : 2 * g.monitorRoom + ((Value.ref a :: rest).map fun v => v.category).sum + (13 * (names.length + 1) + 41) ≤ R.locals) :
    ∃ (U : State) (locs' : List Loc), Stand p l e R s m₀ args below meth c U locs' cells slots ∧ (∀ y ∈ locs', y ∈ locs ∨ y.base = a) ∧ (∀ q, q ≠ a → U.heap[q]? = T'.heap[q]?) ∧ U.heap.size = T'.heap.size ∧ (∃ ce, U.heap[a]? = some ce ∧ ce.cls = cX ∧ ce.vm = .none) ∧
      ∀ target, Steps p.tables e below (U.setTop { g with stack := .ref a :: rest, pc := g.pc + 3 }) target → Steps p.tables e below (T'.setTop g) target := by
  have howns : e.platform.frameOwnsMonitors = true := by rw [X.admits.platform]
  have hfin : e.platform.finalization = false := by rw [X.admits.platform]
  have hpl : e.platform.magicAccessors = ({} : Platform).magicAccessors := by rw [X.admits.platform]
  have a' : ∀ x, x ∈ Bundle.ownAtoms0 own ic cls names → x.holds args s none s [] = true := fun x hx => h x hx
  obtain ⟨Th, Z, LT, LZ, Y⟩ := ThrowableC.of_atoms (args := args) howns hfin hpl (fun x hx => h x (by simp [Bundle.ownAtoms0, hx]))
  obtain ⟨P1, Ps, hlen, L1, hL, hP1m, hlink1, hlink⟩ := Bundle.chain0 (args := args) hpl Y.init0 names cls hcls hnames (fun x hx => h x (by simp [Bundle.ownAtoms0, hx]))
  have hfound : s.vm.findClass cls = some P1.m.cls := findClass_of_methodNamed hP1m
  cases Option.some.inj (hfoundX.symm.trans hfound)
  obtain ⟨c1, kX', hc1, hk, hord, -, -, hn6⟩ := Cond.instantiable_spec (a' (.instantiable cls 6) (by simp [Bundle.ownAtoms0]))
  cases Option.some.inj (hc1.symm.trans hfound)
  cases Option.some.inj (hkX.symm.trans hk)
  have hsel0 : selectMethod e.platform s.vm P1.m.cls Th.fill0 = .method Th.fill0 := by
    obtain ⟨c2, r2, m2, q1, q2, q3, q4, -⟩ := Cond.selects_spec (a' (.selects cls Bundle.tFill0 Bundle.tFill0) (by simp [Bundle.ownAtoms0]))
    cases Option.some.inj (q1.symm.trans hfound)
    cases Option.some.inj (q2.symm.trans (State.methodFound?_of_named Y.fill0 (by decide)))
    cases Option.some.inj (q3.symm.trans Y.fill0)
    rw [Launch.admits_selectMethod X.admits]; exact q4
  have hselF : selectMethod e.platform s.vm P1.m.cls Th.fill = .method Th.fill := by
    obtain ⟨c2, r2, m2, q1, q2, q3, q4, -⟩ := Cond.selects_spec (a' (.selects cls Bundle.tFill Bundle.tFill) (by simp [Bundle.ownAtoms0]))
    cases Option.some.inj (q1.symm.trans hfound)
    cases Option.some.inj (q2.symm.trans (State.methodFound?_of_named Y.fill (by decide)))
    cases Option.some.inj (q3.symm.trans Y.fill)
    rw [Launch.admits_selectMethod X.admits]; exact q4
  obtain ⟨cellS0, hcS0, hiss⟩ := Y.statics
  obtain ⟨u0, hu0⟩ := Cond.staticRefV Y.unassigned LT.unassignedStatic LT.statics hcS0 hiss (a' (.isRef (.static Bundle.tN "UNASSIGNED_STACK" Bundle.steD)) (by simp [Bundle.ownAtoms0]))
  obtain ⟨sen, hsen⟩ := Cond.staticRefV Y.sentinel LT.sentinelStatic LT.statics hcS0 hiss (a' (.isRef (.static Bundle.tN "SUPPRESSED_SENTINEL" Bundle.listD)) (by simp [Bundle.ownAtoms0]))
  obtain ⟨ci198, i198, fB, hk198, hg198, ha198, hsB, -, hnB, htB, hffB⟩ := Cond.ownField (t := .object "java/lang/Object") Y.found LT.cls (by decide +kernel) (a' (.fieldLink Bundle.tN 198 Bundle.tN "backtrace" "Ljava/lang/Object;") (by simp [Bundle.ownAtoms0])) (a' (.lays Bundle.tN Bundle.tN "backtrace" "Ljava/lang/Object;") (by simp [Bundle.ownAtoms0])) e.platform hpl
  obtain ⟨cellS, hcS', heS, -, hkeep⟩ := X.same.2.2.2.2.2 Th.aS cellS0 hcS0
  have hcellS : T'.heap[Th.aS]? = some cellS := hcS'
  have hout' : ∀ i, (⟨Th.aS, i⟩ : Loc) ∉ locs := fun i hmem => by
    have := hlocs _ hmem cellS0 hcS0
    rw [hiss] at this; cases this
  have hknownS : cellS.vm ≠ .unknown := by
    rw [heS]; intro hu
    rw [show cellS0.vm = .unknown from hu] at hiss
    cases hiss
  have hneS : Th.aS ≠ a := Nat.ne_of_lt (Nat.lt_of_lt_of_le (Array.getElem?_eq_some_iff.mp hcS0).1 hnew)
  obtain ⟨tyC, dC, hdC, hdnC⟩ := Cond.laysAt hfound hk Y.cause (a' (.lays cls Bundle.tN "cause" "Ljava/lang/Throwable;") (by simp [Bundle.ownAtoms0]))
  obtain ⟨tyS, dS, hdS, hdnS⟩ := Cond.laysAt hfound hk Y.stack (a' (.lays cls Bundle.tN "stackTrace" Bundle.steD) (by simp [Bundle.ownAtoms0]))
  obtain ⟨tyP, dP, hdP, hdnP⟩ := Cond.laysAt hfound hk Y.supp (a' (.lays cls Bundle.tN "suppressedExceptions" Bundle.listD) (by simp [Bundle.ownAtoms0]))
  obtain ⟨tyB, dB, hdB, hdnB⟩ := Cond.laysAt hfound hk hffB (a' (.lays cls Bundle.tN "backtrace" "Ljava/lang/Object;") (by simp [Bundle.ownAtoms0]))
  have bC := Cond.laysApart hdB hdC hdnB hdnC (by rw [hnB, Y.causeName]; decide)
  have bS := Cond.laysApart hdB hdS hdnB hdnS (by rw [hnB, Y.stackName]; decide)
  have bP := Cond.laysApart hdB hdP hdnB hdnP (by rw [hnB, Y.suppName]; decide)
  have hskip : SkipFacts Th e.platform s (fun u => u) u0 ((preparedCellV Th.toThrowableT (freshCell P1.m.cls kX) a u0 sen).withEntry T'.cur) :=
    ⟨{ ci198 := ci198, i198 := i198, fBack := fB }, ⟨hk198, hg198, ha198, hsB⟩, by
      have := fresh_default (c := P1.m.cls) tyB
      rw [htB] at this
      simpa [preparedCellV, Cell.setSlot, Cell.withEntry, Array.getElem?_setIfInBounds, bC, bS, bP, bC.symm, bS.symm, bP.symm, defaultValue] using this, fun _ _ => rfl⟩
  obtain ⟨tm, methC, cdC, kC, vm₁, hnC, -, -, -, -, -, -, -, hW₁, st1⟩ := Steps.initCold (tb := p.tables) (e := e) (below := below) (s := s) (U := T') X.here hexec X.warmed hpl hown (t := Bundle.init0 cls) rfl rfl (Bundle.fit_spec hcls).2
    (a' (.methodLink own ic (Bundle.init0 cls)) (by simp [Bundle.ownAtoms0])) (h (.instanceMethod (Bundle.init0 cls)) (by cases names <;> simp [Bundle.ownAtoms0, Bundle.chain0Atoms, Bundle.passAtoms])) (bytes := Bundle.five) (maxL := 1) (h (.code (Bundle.init0 cls) Bundle.five 1 none) (by cases names <;> simp [Bundle.ownAtoms0, Bundle.chain0Atoms, Bundle.passAtoms]))
    (f := g) hg (a := a) (rest := .ref a :: rest) hstack hd6
  cases Option.some.inj (hnC.symm.trans hP1m)
  have X₁ := X.noted hW₁
  obtain ⟨vm₂, X₂, st2⟩ := X₁.ctorPlainOffV hexec (g := { g with stack := .ref a :: rest }) hg hsize Th LT Z LZ (P1 :: Ps)
    (fun P hP => by rcases List.mem_cons.mp hP with rfl | hP; exact L1; exact hL P hP) ⟨hlink1, hlink⟩ (u0 := u0) (sen := sen) (self := a) (cell := freshCell P1.m.cls kX) (cellS := cellS)
    hcell (fun _ => by simp) (by simp) rfl rfl hsel0 hselF hcellS hneS hknownS (by rw [hkeep _ (hout' _)]; exact hu0) (by rw [hkeep _ (hout' _)]; exact hsen)
    (Takes.of_laid hk hord tyC (by rw [Y.causeType]; rfl)) (Takes.of_laid hk hord tyS (by rw [Y.stackType]; exact fits_refV_array _ u0)) (Takes.of_laid hk hord tyP (by rw [Y.suppType]; exact fits_refV_object _ sen)) Y.objLocals hskip htr [] hd6
    (by simp only [List.length_cons, hlen]; omega) (by simp only [List.length_cons, hlen]; exact hRlocals)
  have hlt : a < ((T'.setVm vm₁).setVm vm₂).heap.size := (Array.getElem?_eq_some_iff.mp hcell).1
  have hU := heapAt_setCell_self (s := (T'.setVm vm₁).setVm vm₂) ((preparedCellV Th.toThrowableT (freshCell P1.m.cls kX) a u0 sen).setSlot Th.fStack.slot u0.v) hlt
  refine ⟨_, _, X₂, ?_, ?_, ?_, ⟨_, hU, rfl, rfl⟩, ?_⟩
  · intro y hy
    rcases List.mem_append.mp hy with h1 | h1
    · exact Or.inl h1
    · right
      simp only [List.mem_cons, List.not_mem_nil, or_false] at h1
      rcases h1 with rfl | rfl | rfl | rfl <;> rfl
  · intro q hq
    show (T'.heap.setIfInBounds _ _)[q]? = _
    rw [Array.getElem?_setIfInBounds_ne (fun h => hq h.symm)]
  · show (T'.heap.setIfInBounds _ _).size = _
    rw [Array.size_setIfInBounds]
  · intro target ht
    refine st1 _ (fun acts => ?_)
    rw [doInvoke_state]
    exact st2 _ ht
theorem athrowNote (X : Stand p l e R s m₀ args below meth c T' locs cells slots) (hexec : p.tables.exec = Jvm.exec) {g : JFrame} (hg : g.method = m₀) {a : Addr} {rest : List Value} (hstack : g.stack = .ref a :: rest) (hdg : decode c.code g.pc = .ok (.athrow, 1)) :
    ∀ target, Steps p.tables e below ((T'.setTop { g with stack := rest }).pushFrame (.throwing a)) target → Steps p.tables e below (T'.setTop g) target := by
  intro target hrest
  subst hg
  jvm_step X.here [hexec, hdg, athrow.wp_sem, hstack]
  exact hrest
end XO
section XP
variable {p : Program} {l : Launch} {e : Env} {R : Room} {s : State} {m : MethodId} {args : Array Value} {below : List Frame} {meth : Method} {c : Code} {H : Heap} {locs : List Loc} {cells slots : Nat} {Q : State → Prop}
variable {cc : ByteArray} {pc nL : Nat} {ls : Array Slot} {rest : List Value} {D : va_G} {d : Nat → ClassId} {e0 : Nat} {H00 : Heap} {A : Nat → Prop} {ws : va_W} {lv : List (Nat × Value)}
theorem thr_O (hx : p.tables.exec = Jvm.exec) (hb : c.code = cc) (hown : s.vm.findClass "MustardFast" = some m.cls) (hv : XV D d e0 H00 A e s args) (hml : c.maxLocals = nL) (hls : lv_has ls nL lv) (hu : uW D A s.heap H locs ws) (hR : 8 ≤ R.frames) (hlo : (rest.map fun v => v.category).sum + 10240 ≤ R.locals) (hc : cells + 3 ≤ R.cells) (hsl : slots + 1000 ≤ R.slots)
    (hd0 : decode cc pc = .ok (.new 186, 3)) (hd3 : decode cc (pc + 3) = .ok (.dup, 1)) (hd4 : decode cc (pc + 3 + 1) = .ok (.invokespecial 306, 3)) (hd7 : decode cc (pc + 3 + 1 + 3) = .ok (.athrow, 1))
    (kt : ∀ (H' : Heap) (locs' : List Loc) (a : Addr), uW D A s.heap H' locs' ws → XO "java/lang/ArrayIndexOutOfBoundsException" s H' a → WT p l e R s m args below meth c H' locs' (cells + 3) (slots + 1000) Q a (F0 m (pc + 3 + 1 + 3) ls rest)) : W p l e R s m args below meth c H locs cells slots Q (F0 m pc ls rest) := by
  intro T hT X
  subst hT
  obtain ⟨vm', cC, kC, h1, h2, h3, h4, X1, st1⟩ := X.newCold hx (C := "java/lang/ArrayIndexOutOfBoundsException") (n := 6) hown (hv.2.1 _ q319) (hv.2.1 _ q320) (hv.2.1 _ q65) (g := F0 m pc ls rest) rfl (by rw [hb]; exact hd0) (by omega) (by omega)
  have hsz : s.heap.size ≤ T.heap.size := hu.2.2.1
  have hW : W p l e R s m args below meth c (T.heap.push (freshCell cC kC)) locs (cells + 1) (slots + 6) Q (F0 m (pc + 3) ls (.ref T.heap.size :: rest)) := by
    refine lv_dup hx hb hd3 rfl ?_
    intro T1 hT1 Y1
    obtain ⟨U, locs', X2, k1, k2, k3, ⟨ce, k4, k5, k6⟩, st2⟩ := ownNote Y1 hx hv.1 (own := "MustardFast") (ic := 306) hown (cls := "java/lang/ArrayIndexOutOfBoundsException") (names := ["java/lang/IndexOutOfBoundsException", "java/lang/RuntimeException", "java/lang/Exception"]) (by decide) (by decide) (at_O hv.2.1 hv.2.2.1 hv.2.2.2.1) (fun x hxl cell hcell => hv.2.2.2.2.1 _ _ (hu.2.2.2.2 x hxl) hcell) h1 h2 (a := T.heap.size) (by rw [hT1, Array.getElem?_push_size]) hsz (g := F0 m (pc + 3 + 1) ls (.ref T.heap.size :: .ref T.heap.size :: rest)) rfl (by show ls.size = _; rw [hml]; exact hls.1) rfl (by rw [hb]; exact hd4) (by show 3 + 3 < _; omega) (by
      have e1 : (F0 m (pc + 3 + 1) ls (.ref T.heap.size :: .ref T.heap.size :: rest)).monitorRoom = 0 := by simp [JFrame.monitorRoom, F0]
      have e2 : (Value.ref T.heap.size).category = 1 := rfl
      rw [e1]
      simp only [List.map_cons, List.sum_cons, List.length_cons, List.length_nil, e2]
      omega)
    have hp1 : T1.heap.size = T.heap.size + 1 := by rw [hT1, Array.size_push]
    have huU : uW D A s.heap U.heap locs' ws := by
      refine hu.grown hv.2.2.2.2.2 (by rw [k3, hp1]; exact Nat.le_succ _) (fun q hq => ?_) (fun y hy => (k1 y hy).imp id (fun h => by rw [h]; exact Nat.le_refl _))
      rw [k2 q (Nat.ne_of_lt hq), hT1, Array.getElem?_push, if_neg (Nat.ne_of_lt hq)]
    obtain ⟨t, t1, t2⟩ := kt U.heap locs' T.heap.size huU ⟨cC, ce, h1, k4, k5, k6⟩ U rfl (X2.more (by omega) (by omega))
    refine ⟨t, st2 _ ?_, t2⟩
    exact athrowNote X2 hx (g := F0 m (pc + 3 + 1 + 3) ls (.ref T.heap.size :: rest)) rfl rfl (by rw [hb]; exact hd7) _ t1
  obtain ⟨t, t1, t2⟩ := hW ((T.setVm vm').pushCell { cls := cC, slots := kC.instanceTypes.map defaultValue, vm := .none }) rfl X1
  exact ⟨t, st1 _ t1, t2⟩
end XP
