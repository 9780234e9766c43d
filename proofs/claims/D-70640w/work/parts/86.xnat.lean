/-! a native method that throws: the machine makes the exception over the native's frame -/
section NV
variable {p : Program} {e : Env} {below base : List Frame}
/-- back from the exception's constructor to the machine's note under it -/
theorem nv_ret {X target : State} {f f' : JFrame} {code : Code} {mt : Method} {a : Addr} (hB : At X f.method code below) (hexec : p.tables.exec = Jvm.exec) (hfr : X.frames = .java f' :: .thenThrow a :: base) (hab : ∃ mid, base = mid ++ below)
    (hm : X.vm.method? f.method = some mt) (hl : mt.locks = false) (hfl : f.locked = none) (hfe : f.entered = []) (hd : decode code.code f.pc = .ok (.return_, 1)) (hrest : Steps p.tables e below (X.setFrames (.throwing a :: base)) target) : Steps p.tables e below (X.setTop f) target := by
  obtain ⟨mid, hmid⟩ := hab
  jvm_step hB [hexec, hd, return_.wp_sem]
  intro acts2
  rw [ret_to (t := X) (f := f) (f₀ := f') (below := .thenThrow a :: base) (fs := .thenThrow a :: base) (meth := mt) hfr hm hl hfl hfe rfl acts2]
  have hcur : X.cur < X.threads.size := State.cur_lt_of_frames hfr
  have hf1 : (X.setFrames (.thenThrow a :: base)).frames = .thenThrow a :: base := State.frames_setFrames _ hcur
  refine Steps.head ⟨hB.running, by simpa using hB.runnable, by simpa using hB.alone⟩ ⟨.thenThrow a :: mid, by rw [hf1, hmid]; rfl, by simp, by simp⟩ ?_
  rw [stepThread_thenThrow hf1]
  show Steps p.tables e below ((X.setFrames (.thenThrow a :: base)).setFrames (.throwing a :: base)) target
  rw [State.setFrames_setFrames]
  exact hrest
/-- an exception on its way goes through a native's frame -/
theorem nv_pop {tb : Tables} {s : State} {a : Addr} {nf : NFrame} {r : List Frame} (hf : s.frames = .throwing a :: .native nf :: r) (haw : nf.awaiting = false) (hlk : nf.locked = none) : (stepThread tb e s).1 = s.setFrames (.throwing a :: r) := by
  unfold stepThread
  simp only [hf]
  unfold stepThrowing
  simp only [haw, Bool.false_eq_true, if_false]
  unfold vmDo
  generalize hr : Sem.go _ e false _ s = res
  obtain ⟨as, rfl, -⟩ := Sem.eq_ok_of hr (a := true) (s' := s) (acts' := unmarked [.mark "vm.unwind/native"]) (by simp [hlk, leaveIfLocked])
  rfl
/-- a native method's entry throws -/
theorem nv_call {tb : Tables} {s target : State} {g : JFrame} {c : Code} (h : At s g.method c below)
    {m : MethodId} {mt : Method} {k : Class} {row : NativeRow} {args : Array Value} (acts : List Action)
    (hk : s.vm.classes[m.cls]? = some k) (hx : k.methods[m.idx]? = some mt) (hboot : k.loader = none) (hnat : mt.isNative = true) (hc : mt.code = none) (hl : mt.locks = false)
    (hrow : NativeRow.find? tb.natives k.name mt.name mt.desc = some row)
    (hroom : e.platform.stackFull (((s.setTop g).threads[(s.setTop g).cur]?).getD { frames := [] }) (s.setTop g).frames (nativeFrameWords k.name mt.name (operandWords args.toList)) = false)
    {cls : String} {msg : Option String} (hw : ∀ E : CtlPost, (∀ acts', E (.throwNew cls msg) acts' ((s.setTop g).pushFrame (.native { method := m, args := seenByNative mt args, locked := none }))) → wp (row.sem (seenByNative mt args)) (fun _ _ _ _ => False) E e false [] ((s.setTop g).pushFrame (.native { method := m, args := seenByNative mt args, locked := none })))
    (hrest : Steps tb e below (((s.setTop g).pushFrame (.native { method := m, args := seenByNative mt args, locked := none })).pushFrame (.throwNew cls msg none)) target) : Steps tb e below (doInvoke e (s.setTop g) acts m args).1 target := by
  have hm : (s.setTop g).vm.method? m = some mt := by
    show s.vm.method? m = some mt
    simp [Vm.method?, hk, hx]
  have hname : (((s.setTop g).vm.classes[m.cls]?).map (·.name)).getD "" = k.name := by
    show ((s.vm.classes[m.cls]?).map (·.name)).getD "" = k.name
    simp [hk]
  rw [(Fast.doInvoke_native (s := s.setTop g) (e := e) (acts := acts) (args := args) hm hnat hc hl (by rw [hname]; exact hroom)).1]
  have hfe := frames_entered (g := g) h.top (.native { method := m, args := seenByNative mt args, locked := none })
  obtain ⟨mid, hmid⟩ := h.above
  refine Steps.head ⟨h.running, by simpa using h.runnable, by simpa using h.alone⟩
    ⟨.native { method := m, args := seenByNative mt args, locked := none } :: .java g :: mid, by rw [hfe, hmid]; rfl, by simp, by simp⟩ ?_
  rw [stepThread_native (f := { method := m, args := seenByNative mt args, locked := none }) (k := k) (x := mt) (row := row) hfe hk hx hboot hrow rfl]
  have hw2 : wpRun (row.sem (seenByNative mt args)) (fun _ _ _ => False) (fun c s1 _ => c = .throwNew cls msg ∧ s1 = ((s.setTop g).pushFrame (.native { method := m, args := seenByNative mt args, locked := none }))) e ((s.setTop g).pushFrame (.native { method := m, args := seenByNative mt args, locked := none })) := hw _ (fun _ => ⟨rfl, rfl⟩)
  have hw3 := (wpRun_iff_run _ _ _ _ _).mp hw2
  cases hr : (row.sem (seenByNative mt args)).run e ((s.setTop g).pushFrame (.native { method := m, args := seenByNative mt args, locked := none })) with
  | ok v s₁ acts₁ => rw [hr] at hw3; exact hw3.elim
  | ctl x s₁ acts₁ =>
    rw [hr] at hw3
    cases x <;> first
      | exact hw3.elim
      | (obtain ⟨h1, rfl⟩ := hw3
         cases h1 <;> exact hrest)
set_option maxHeartbeats 4000000 in
/-- an exception with a text, made over any frames -/
theorem nv_msg {s₀ S : State} (hrun : S.status = .running) (hrb : S.curStatus? = some .runnable) (hal : S.alone = true) (hcur : S.cur < S.threads.size) (hab : ∃ mid, base = mid ++ below) (hexec : p.tables.exec = Jvm.exec)
    (T : ThrowableC) (L : T.Links e.platform s₀) (Z : Init0T) (LZ : Z.LaidS T.toThrowableT) (M : MsgC) (LM : M.Links T e.platform s₀) (hW : s₀.WarmedH S.vm) (Zs : StringT) (LZs : Zs.Laid s₀.vm)
    (P1 : PassC) (L1 : P1.LinksS e.platform s₀) (Ps : List PassC) (hL : ∀ P, P ∈ Ps → P.LinksS e.platform s₀) (hlink1 : P1.sup = firstOf (Z.m T.toThrowableT) (Ps.map (·.toPassT))) (hlink : PassesOn (Z.m T.toThrowableT) (Ps.map (·.toPassT)))
    {cls text : String} {kX : Class} (hsoe : (cls == "java/lang/StackOverflowError") = false) (hoom : (cls == "java/lang/OutOfMemoryError") = false)
    (hfound : s₀.vm.findClass cls = some P1.m.cls) (hk : s₀.vm.classes[P1.m.cls]? = some kX) (hinit : kX.init = .initialized) (hord : kX.kind = .ordinary) (hctor : kX.findMethod "<init>" "(Ljava/lang/String;)V" = some P1.m.idx) (hhot : e.platform.hotImplicitExceptions = false)
    (hbeyond : e.platform.stackBeyond ((((S.setFrames (.throwNew cls (some text) none :: base)).threads[S.cur]?).map (·.stackBytes)).getD 0) (S.setFrames (.throwNew cls (some text) none :: base)).frames = false)
    (hfreeW : e.platform.vmThrowRoom ≤ e.platform.stackFree ((((S.setFrames (.throwNew cls (some text) none :: base)).threads[S.cur]?).map (·.stackBytes)).getD 0) (S.setFrames (.throwNew cls (some text) none :: base)).frames)
    (htext : (text == notModelled) = false) (hlimit : ¬ (stringBytes (stringToUtf16 text)).size > e.platform.arrayLengthLimit) (hheap : ¬ (stringBytes (stringToUtf16 text)).size * componentBytes .byte > e.platform.maxHeapBytes)
    (hcells : S.heap.size + 3 ≤ e.platform.maxCells) (hslots : S.slotsUsed + (stringBytes (stringToUtf16 text)).size + Zs.kS.instanceTypes.size + kX.instanceTypes.size ≤ e.platform.maxSlots)
    (hfitv : s₀.fitsSlot Zs.cS .none Zs.fv.slot (.ref S.heap.size) = true) (hfitc : s₀.fitsSlot Zs.cS .none Zs.fc.slot (.int (stringCoder (stringToUtf16 text))) = true)
    {u0 sen : RefV} {cellS : Cell} (hsel0 : selectMethod e.platform s₀.vm P1.m.cls T.fill0 = .method T.fill0)
    (hcellS : S.heap[T.aS]? = some cellS) (hknownS : cellS.vm ≠ .unknown) (hvU : cellS.slots[T.fUnassigned.slot]? = some u0.v) (htS : Takes s₀ (freshCell P1.m.cls kX) T.fStack u0.v)
    (hskip : SkipFacts T e.platform s₀ (fun u => u) u0 ((preparedCellV T.toThrowableT (freshCell P1.m.cls kX) (S.heap.size + 2) u0 sen).withEntry S.cur)) (htr : e.platform.stackTraces = false)
    (hselF : selectMethod e.platform s₀.vm P1.m.cls T.fill = .method T.fill) (hvSen : cellS.slots[T.fSentinel.slot]? = some sen.v)
    (htC : Takes s₀ (freshCell P1.m.cls kX) T.fCause (.ref (S.heap.size + 2))) (htP : Takes s₀ (freshCell P1.m.cls kX) T.fSupp sen.v) (htM : Takes s₀ (freshCell P1.m.cls kX) T.fMsg (.ref (S.heap.size + 1))) (hobjLocals : T.codeObj.maxLocals = 1)
    (hframes : base.length + Ps.length + 4 < (e.platform.stackLimits S.me).1) (hwords : (stackUse base).2 + 13 * Ps.length + 55 ≤ (e.platform.stackLimits S.me).2) :
    ∃ vm', s₀.WarmedH vm' ∧ ∀ target, Steps p.tables e below ((((withThrown S Zs text P1.m.cls kX).setVm vm').setCell (S.heap.size + 2) ((((preparedCellV T.toThrowableT (freshCell P1.m.cls kX) (S.heap.size + 2) u0 sen).withEntry S.cur).setSlot T.fStack.slot u0.v).left.setSlot T.fMsg.slot (.ref (S.heap.size + 1)))).setFrames (.throwing (S.heap.size + 2) :: base)) target →
      Steps p.tables e below (S.setFrames (.throwNew cls (some text) none :: base)) target := by
  obtain ⟨mid, hmid⟩ := hab
  obtain ⟨kX', hk', he'⟩ := hW.alike.2.2 _ _ hk
  have hty : kX'.instanceTypes = kX.instanceTypes := by rw [he']
  obtain ⟨kS', kB', LZ', htyS⟩ := LZs.warmer hW.alike
  have hfs : S.fitsSlot = s₀.fitsSlot := (show S.fitsSlot = (s₀.setVm S.vm).fitsSlot from rfl).trans (State.fitsSlot_setVm hW.alike)
  have hsame : withThrown S { Zs with kS := kS', kB := kB' } text P1.m.cls kX' = withThrown S Zs text P1.m.cls kX := by
    simp only [withThrown, withString, string0, freshCell, htyS, hty]
  obtain ⟨w1, -, -, w4, w5, -, w7⟩ := withThrown_facts e.platform S Zs text P1.m.cls kX
  have hltS : T.aS < S.heap.size := (Array.getElem?_eq_some_iff.mp hcellS).1
  have hcurV : (withThrown S Zs text P1.m.cls kX).cur < (withThrown S Zs text P1.m.cls kX).threads.size := hcur
  have hfN : ((withThrown S Zs text P1.m.cls kX).setFrames (.thenThrow (S.heap.size + 2) :: base)).frames = .thenThrow (S.heap.size + 2) :: base := State.frames_setFrames _ hcurV
  have hcurN := State.cur_lt_of_frames hfN
  have hWV : s₀.WarmedH (withThrown S Zs text P1.m.cls kX).vm := by rw [w1]; exact hW
  have hmN : ((withThrown S Zs text P1.m.cls kX).setFrames (.thenThrow (S.heap.size + 2) :: base)).vm.method? P1.m = some P1.meth := hWV.methodAt L1.method
  have hpN : ((withThrown S Zs text P1.m.cls kX).setFrames (.thenThrow (S.heap.size + 2) :: base)).plainMethod P1.m := hWV.plainAt (U := withThrown S Zs text P1.m.cls kX) L1.plain
  have hgoN : ((withThrown S Zs text P1.m.cls kX).setFrames (.thenThrow (S.heap.size + 2) :: base)).goesOn := ⟨hrun, by
    rw [State.curStatus?_setFrames]; exact hrb, by
    rw [State.alone_setFrames]; exact hal⟩
  have hlimN : e.platform.stackLimits ((withThrown S Zs text P1.m.cls kX).setFrames (.thenThrow (S.heap.size + 2) :: base)).me = e.platform.stackLimits S.me := by rw [State.stackLimits_setFrames]; exact w7
  have hroom := roomAbove (pl := e.platform) (u := (withThrown S Zs text P1.m.cls kX).setFrames (.thenThrow (S.heap.size + 2) :: base)) (vars := 2) (pushed := [.thenThrow (S.heap.size + 2)]) (base := base) (free := 13 * Ps.length + 55) (lim := e.platform.stackLimits S.me) hfN hlimN
    (by simp only [List.length_cons, List.length_nil]; omega) (by omega) (by rw [stackUse_light _ _ (fun f hf => by cases hf) rfl, stackUse_nil]; show 0 + 2 + 11 ≤ _; omega)
  have hAt := At.pushOn (u := (withThrown S Zs text P1.m.cls kX).setFrames (.thenThrow (S.heap.size + 2) :: base)) (below := below) (passJ P1.m (S.heap.size + 2) (.ref (S.heap.size + 1)) 0 []) hgoN hcurN ⟨.thenThrow (S.heap.size + 2) :: mid, by rw [hfN, hmid]; rfl⟩ hmN L1.code hpN
  have hfY : (((withThrown S Zs text P1.m.cls kX).setFrames (.thenThrow (S.heap.size + 2) :: base)).pushFrame (.java (passJ P1.m (S.heap.size + 2) (.ref (S.heap.size + 1)) 0 []))).frames = .java (passJ P1.m (S.heap.size + 2) (.ref (S.heap.size + 1)) 0 []) :: .thenThrow (S.heap.size + 2) :: base := by
    rw [show (((withThrown S Zs text P1.m.cls kX).setFrames (.thenThrow (S.heap.size + 2) :: base)).pushFrame (.java (passJ P1.m (S.heap.size + 2) (.ref (S.heap.size + 1)) 0 []))).frames = .java (passJ P1.m (S.heap.size + 2) (.ref (S.heap.size + 1)) 0 []) :: ((withThrown S Zs text P1.m.cls kX).setFrames (.thenThrow (S.heap.size + 2) :: base)).frames from State.frames_setFrames _ hcurN, hfN]
  have hlimY : e.platform.stackLimits (((withThrown S Zs text P1.m.cls kX).setFrames (.thenThrow (S.heap.size + 2) :: base)).pushFrame (.java (passJ P1.m (S.heap.size + 2) (.ref (S.heap.size + 1)) 0 []))).me = e.platform.stackLimits S.me := by rw [State.stackLimits_pushFrame]; exact hlimN
  have hYS : ∀ (vm1 vm2 : Vm) (x : Cell) (F : List Frame), (((((((withThrown S Zs text P1.m.cls kX).setFrames (.thenThrow (S.heap.size + 2) :: base)).pushFrame (.java (passJ P1.m (S.heap.size + 2) (.ref (S.heap.size + 1)) 0 []))).setVm vm1).setVm vm2).setCell (S.heap.size + 2) x).setFrames F) = (((withThrown S Zs text P1.m.cls kX).setVm vm2).setCell (S.heap.size + 2) x).setFrames F := by
    intro vm1 vm2 x F
    rw [State.setVm_twice, State.pushFrame_setVm, State.setFrames_setVm, State.pushFrame, State.setFrames_setFrames, State.setCell_setFrames, State.setFrames_setFrames]
  have hYc : (((withThrown S Zs text P1.m.cls kX).setFrames (.thenThrow (S.heap.size + 2) :: base)).pushFrame (.java (passJ P1.m (S.heap.size + 2) (.ref (S.heap.size + 1)) 0 []))).heap[S.heap.size + 2]? = some (freshCell P1.m.cls kX) := w4
  have hYS2 : (((withThrown S Zs text P1.m.cls kX).setFrames (.thenThrow (S.heap.size + 2) :: base)).pushFrame (.java (passJ P1.m (S.heap.size + 2) (.ref (S.heap.size + 1)) 0 []))).heap[T.aS]? = some cellS := (w5 _ hltS).trans hcellS
  have hYcur : (((withThrown S Zs text P1.m.cls kX).setFrames (.thenThrow (S.heap.size + 2) :: base)).pushFrame (.java (passJ P1.m (S.heap.size + 2) (.ref (S.heap.size + 1)) 0 []))).cur = S.cur := rfl
  have hYW : s₀.WarmedH (((withThrown S Zs text P1.m.cls kX).setFrames (.thenThrow (S.heap.size + 2) :: base)).pushFrame (.java (passJ P1.m (S.heap.size + 2) (.ref (S.heap.size + 1)) 0 []))).vm := hWV
  have hent : ∀ target, Steps p.tables e below ((((withThrown S Zs text P1.m.cls kX).setFrames (.thenThrow (S.heap.size + 2) :: base)).pushFrame (.java (passJ P1.m (S.heap.size + 2) (.ref (S.heap.size + 1)) 0 []))).setTop (passJ P1.m (S.heap.size + 2) (.ref (S.heap.size + 1)) 0 [])) target → Steps p.tables e below (S.setFrames (.throwNew cls (some text) none :: base)) target := by
    intro target hrest
    have hf0 : (S.setFrames (.throwNew cls (some text) none :: base)).frames = .throwNew cls (some text) none :: base := State.frames_setFrames _ hcur
    refine Steps.head ⟨hrun, by rw [State.curStatus?_setFrames]; exact hrb, by rw [State.alone_setFrames]; exact hal⟩ ⟨.throwNew cls (some text) none :: mid, by rw [hf0, hmid]; rfl, by simp, by simp⟩ ?_
    rw [stepThread_throwNew hf0, stepThrowNew_message (s := S.setFrames (.throwNew cls (some text) none :: base)) (c := P1.m.cls) (k := kX') (i := P1.m.idx) { Zs with kS := kS', kB := kB' } LZ' hsoe hoom (by show S.vm.findClass cls = _; rw [hW.alike.findClass]; exact hfound) hk' (by rw [he']; exact hinit) (by rw [he']; exact hord)
      hhot hbeyond hfreeW htext (by rw [he']; exact hctor) hlimit hheap hcells (by show S.slotsUsed + _ + kS'.instanceTypes.size + kX'.instanceTypes.size ≤ _; rw [htyS, hty]; exact hslots) (by have h9 := hfitv; rw [← hfs] at h9; exact h9) (by have h9 := hfitc; rw [← hfs] at h9; exact h9)]
    rw [withThrown_setFrames, State.setFrames_setFrames, hsame]
    show Steps p.tables e below (doInvoke e ((withThrown S Zs text P1.m.cls kX).setFrames (.thenThrow (S.heap.size + 2) :: base)) [] P1.m #[.ref (S.heap.size + 2), .ref (S.heap.size + 1)]).1 target
    rw [(doInvoke_java (s := (withThrown S Zs text P1.m.cls kX).setFrames (.thenThrow (S.heap.size + 2) :: base)) (e := e) (acts := []) (args := #[.ref (S.heap.size + 2), .ref (S.heap.size + 1)]) (meth := P1.meth) (code := P1.code) hmN L1.code L1.locks (by rw [L1.locals]; exact hroom)).1, L1.locals]
    rw [State.setTop_self (State.topJava?_of_frames hfY)] at hrest
    exact hrest
  generalize ((withThrown S Zs text P1.m.cls kX).setFrames (.thenThrow (S.heap.size + 2) :: base)).pushFrame (.java (passJ P1.m (S.heap.size + 2) (.ref (S.heap.size + 1)) 0 [])) = Y at hAt hfY hlimY hYS hYc hYS2 hYcur hYW hent
  obtain ⟨vm1, hW1, st1⟩ := Steps.invokeInitCold (tb := p.tables) (s₀ := s₀) (U := Y) (f := passJ P1.m (S.heap.size + 2) (.ref (S.heap.size + 1)) 2 [.ref (S.heap.size + 1), .ref (S.heap.size + 2)]) (args := [.ref (S.heap.size + 1)]) (rest := []) (a := S.heap.size + 2) hAt hexec L1.at2 hYW L1.links L1.right L1.notHandle L1.cls L1.file L1.pool
    L1.supClass L1.supMethod L1.supName L1.supStatic L1.supAbstract L1.supFound L1.supParams.symm rfl
  rw [hlink1] at st1
  have hAt1 : At (Y.setVm vm1) P1.m P1.code below := hAt.setVm (hYW.alike.symm.trans hW1.alike)
  obtain ⟨vm2, hW2, st2⟩ := Steps.initThrowableSColdByV p (V := Y.setVm vm1) (g := passJ P1.m (S.heap.size + 2) (.ref (S.heap.size + 1)) 2 []) (c := P1.code) (self := S.heap.size + 2) hAt1 hexec T L Z LZ M LM hW1 (t := S.cur) hYcur (Nn := fun u => u) heapOnly_id (fun _ _ => rfl) (fun _ => rfl) (fun u x y => setCell_twice _ _ _ _) (fun _ => Nat.le_refl _) (u0 := u0) (sen := sen) (msg := .ref (S.heap.size + 1)) rfl (cell := freshCell P1.m.cls kX) (cN := ((preparedCellV T.toThrowableT (freshCell P1.m.cls kX) (S.heap.size + 2) u0 sen).withEntry S.cur)) hYc
    (by intro k hk9; cases hk9) (by intro hk9; cases hk9) rfl hsel0 hYS2 (Nat.ne_of_lt (Nat.lt_of_lt_of_le hltS (Nat.le_add_right _ 2))) hknownS hvU htS (fun _ h9 => h9) (fun _ h9 => h9) rfl rfl rfl (by simp [preparedCellV, Cell.setSlot, Cell.withEntry]) hskip (fun _ _ hA9 hW9 _ hroom9 _ hrest9 => L.nativeOff p htr hA9 hW9 hroom9 hrest9) hselF hvSen htC htP htM hobjLocals Ps hL hlink (ig := .invokespecial P1.index) (len := 3) [] (lim := e.platform.stackLimits S.me) hlimY
    (by show Y.frames.length + _ + _ < _; rw [hfY]; simp only [List.length_cons]; omega)
    (by show (stackUse (.java _ :: Y.frames.tail)).2 + _ + _ ≤ _
        rw [hfY, List.tail_cons, stackUse_java, stackUse_light _ _ (fun f hf => by cases hf) rfl]
        show (stackUse base).2 + (2 + 11 + 2 * 0 + operandWords []) + 13 * Ps.length + 42 ≤ _
        simp only [operandWords, List.foldl_nil]
        omega) L1.at2
  refine ⟨vm2, hW2, fun target hrest => hent target ?_⟩
  jvm_step hAt [hexec, L1.at0, Value.isRef]
  jvm_step hAt [hexec, L1.at1, Value.isRef]
  refine st1 target (st2 target ?_)
  have hB := (heapOnly_id.thenSetCell (S.heap.size + 2) ((((preparedCellV T.toThrowableT (freshCell P1.m.cls kX) (S.heap.size + 2) u0 sen).withEntry S.cur).setSlot T.fStack.slot u0.v).left.setSlot T.fMsg.slot (.ref (S.heap.size + 1)))).at_ (hAt1.setVm (hW1.alike.symm.trans hW2.alike))
  refine nv_ret (f := passJ P1.m (S.heap.size + 2) (.ref (S.heap.size + 1)) 5 []) (f' := passJ P1.m (S.heap.size + 2) (.ref (S.heap.size + 1)) 0 []) (a := S.heap.size + 2) (base := base) (mt := P1.meth) hB hexec hfY ⟨mid, hmid⟩ (hW2.methodAt L1.method) L1.locks rfl rfl L1.at5 ?_
  rw [hYS]
  exact hrest
set_option maxHeartbeats 4000000 in
/-- the machine's NullPointerException, made over any frames -/
theorem nv_npe {s₀ S : State} (hrun : S.status = .running) (hrb : S.curStatus? = some .runnable) (hal : S.alone = true) (hcur : S.cur < S.threads.size) (hab : ∃ mid, base = mid ++ below) (hexec : p.tables.exec = Jvm.exec)
    (T : ThrowableC) (L : T.Links e.platform s₀) (Z : Init0T) (LZ : Z.Laid T.toThrowableT) (N : NpeC) (LN : N.Links T e.platform s₀) (hW : s₀.WarmedH S.vm)
    (P1 : PassC) (L1 : P1.Links0 e.platform s₀) (Ps : List PassC) (hL : ∀ P, P ∈ Ps → P.Links0 e.platform s₀) (hlink1 : P1.sup = firstOf (Z.m T.toThrowableT) (Ps.map (·.toPassT))) (hlink : PassesOn (Z.m T.toThrowableT) (Ps.map (·.toPassT)))
    {cls : String} {kX : Class} (hsoe : (cls == "java/lang/StackOverflowError") = false) (hoom : (cls == "java/lang/OutOfMemoryError") = false)
    (hfound : s₀.vm.findClass cls = some P1.m.cls) (hk : s₀.vm.classes[P1.m.cls]? = some kX) (hinit : kX.init = .initialized) (hord : kX.kind = .ordinary) (hctor : kX.findMethod "<init>" "()V" = some P1.m.idx) (hhot : e.platform.hotImplicitExceptions = false)
    (hbeyond : e.platform.stackBeyond ((((S.setFrames (.throwNew cls none none :: base)).threads[S.cur]?).map (·.stackBytes)).getD 0) (S.setFrames (.throwNew cls none none :: base)).frames = false)
    (hfreeW : e.platform.vmThrowRoom ≤ e.platform.stackFree ((((S.setFrames (.throwNew cls none none :: base)).threads[S.cur]?).map (·.stackBytes)).getD 0) (S.setFrames (.throwNew cls none none :: base)).frames)
    (hcells : S.heap.size + 1 ≤ e.platform.maxCells) (hslots : S.slotsUsed + kX.instanceTypes.size ≤ e.platform.maxSlots)
    {u0 sen : RefV} {cellS : Cell} (hsel0 : selectMethod e.platform s₀.vm P1.m.cls T.fill0 = .method T.fill0)
    (hcellS : S.heap[T.aS]? = some cellS) (hknownS : cellS.vm ≠ .unknown) (hvU : cellS.slots[T.fUnassigned.slot]? = some u0.v)
    (hv0 : (freshCell P1.m.cls kX).slots[N.fState.slot]? = some (.int 0)) (hneC : T.fCause.slot ≠ N.fState.slot) (hneSt : T.fStack.slot ≠ N.fState.slot) (hneP : T.fSupp.slot ≠ N.fState.slot)
    (htS : Takes s₀ (freshCell P1.m.cls kX) T.fStack u0.v) (ht1 : Takes s₀ (freshCell P1.m.cls kX) N.fState (.int 1))
    (hskip : SkipFacts T e.platform s₀ (fun u => u) u0 ((npeCell N.toNpeT (preparedCellV T.toThrowableT (freshCell P1.m.cls kX) S.heap.size u0 sen) S.cur).withEntry S.cur)) (htr : e.platform.stackTraces = false)
    (hselF : selectMethod e.platform s₀.vm P1.m.cls T.fill = .method N.fill) (hvSen : cellS.slots[T.fSentinel.slot]? = some sen.v)
    (htC : Takes s₀ (freshCell P1.m.cls kX) T.fCause (.ref S.heap.size)) (htP : Takes s₀ (freshCell P1.m.cls kX) T.fSupp sen.v) (hobjLocals : T.codeObj.maxLocals = 1)
    (hframes : base.length + Ps.length + 5 < (e.platform.stackLimits S.me).1) (hwords : (stackUse base).2 + 13 * Ps.length + 68 ≤ (e.platform.stackLimits S.me).2) :
    ∃ vm', s₀.WarmedH vm' ∧ ∀ target, Steps p.tables e below ((((S.pushCell (freshCell P1.m.cls kX)).setVm vm').setCell S.heap.size ((((npeCell N.toNpeT (preparedCellV T.toThrowableT (freshCell P1.m.cls kX) S.heap.size u0 sen) S.cur).withEntry S.cur).setSlot T.fStack.slot u0.v).left.left)).setFrames (.throwing S.heap.size :: base)) target →
      Steps p.tables e below (S.setFrames (.throwNew cls none none :: base)) target := by
  obtain ⟨mid, hmid⟩ := hab
  obtain ⟨kX', hk', he'⟩ := hW.alike.2.2 _ _ hk
  have hty : kX'.instanceTypes = kX.instanceTypes := by rw [he']
  have hsame : S.pushCell (freshCell P1.m.cls kX') = S.pushCell (freshCell P1.m.cls kX) := by
    simp only [freshCell, hty]
  have hltS : T.aS < S.heap.size := (Array.getElem?_eq_some_iff.mp hcellS).1
  have hcurV : (S.pushCell (freshCell P1.m.cls kX)).cur < (S.pushCell (freshCell P1.m.cls kX)).threads.size := hcur
  have hfN : ((S.pushCell (freshCell P1.m.cls kX)).setFrames (.thenThrow S.heap.size :: base)).frames = .thenThrow S.heap.size :: base := State.frames_setFrames _ hcurV
  have hcurN := State.cur_lt_of_frames hfN
  have hWV : s₀.WarmedH (S.pushCell (freshCell P1.m.cls kX)).vm := hW
  have hmN : ((S.pushCell (freshCell P1.m.cls kX)).setFrames (.thenThrow S.heap.size :: base)).vm.method? P1.m = some P1.meth := hWV.methodAt L1.method
  have hpN : ((S.pushCell (freshCell P1.m.cls kX)).setFrames (.thenThrow S.heap.size :: base)).plainMethod P1.m := hWV.plainAt (U := S.pushCell (freshCell P1.m.cls kX)) L1.plain
  have hgoN : ((S.pushCell (freshCell P1.m.cls kX)).setFrames (.thenThrow S.heap.size :: base)).goesOn := ⟨hrun, by
    rw [State.curStatus?_setFrames]; exact hrb, by
    rw [State.alone_setFrames]; exact hal⟩
  have hlimN : e.platform.stackLimits ((S.pushCell (freshCell P1.m.cls kX)).setFrames (.thenThrow S.heap.size :: base)).me = e.platform.stackLimits S.me := by rw [State.stackLimits_setFrames]; rfl
  have hroom := roomAbove (pl := e.platform) (u := (S.pushCell (freshCell P1.m.cls kX)).setFrames (.thenThrow S.heap.size :: base)) (vars := 1) (pushed := [.thenThrow S.heap.size]) (base := base) (free := 13 * Ps.length + 68) (lim := e.platform.stackLimits S.me) hfN hlimN
    (by simp only [List.length_cons, List.length_nil]; omega) (by omega) (by rw [stackUse_light _ _ (fun f hf => by cases hf) rfl, stackUse_nil]; show 0 + 1 + 11 ≤ _; omega)
  have hAt := At.pushOn (u := (S.pushCell (freshCell P1.m.cls kX)).setFrames (.thenThrow S.heap.size :: base)) (below := below) (pass0J P1.m S.heap.size 0 []) hgoN hcurN ⟨.thenThrow S.heap.size :: mid, by rw [hfN, hmid]; rfl⟩ hmN L1.code hpN
  have hfY : (((S.pushCell (freshCell P1.m.cls kX)).setFrames (.thenThrow S.heap.size :: base)).pushFrame (.java (pass0J P1.m S.heap.size 0 []))).frames = .java (pass0J P1.m S.heap.size 0 []) :: .thenThrow S.heap.size :: base := by
    rw [show (((S.pushCell (freshCell P1.m.cls kX)).setFrames (.thenThrow S.heap.size :: base)).pushFrame (.java (pass0J P1.m S.heap.size 0 []))).frames = .java (pass0J P1.m S.heap.size 0 []) :: ((S.pushCell (freshCell P1.m.cls kX)).setFrames (.thenThrow S.heap.size :: base)).frames from State.frames_setFrames _ hcurN, hfN]
  have hlimY : e.platform.stackLimits (((S.pushCell (freshCell P1.m.cls kX)).setFrames (.thenThrow S.heap.size :: base)).pushFrame (.java (pass0J P1.m S.heap.size 0 []))).me = e.platform.stackLimits S.me := by rw [State.stackLimits_pushFrame]; exact hlimN
  have hYS : ∀ (vm1 vm2 : Vm) (x : Cell) (F : List Frame), (((((((S.pushCell (freshCell P1.m.cls kX)).setFrames (.thenThrow S.heap.size :: base)).pushFrame (.java (pass0J P1.m S.heap.size 0 []))).setVm vm1).setVm vm2).setCell S.heap.size x).setFrames F) = (((S.pushCell (freshCell P1.m.cls kX)).setVm vm2).setCell S.heap.size x).setFrames F := by
    intro vm1 vm2 x F
    rw [State.setVm_twice, State.pushFrame_setVm, State.setFrames_setVm, State.pushFrame, State.setFrames_setFrames, State.setCell_setFrames, State.setFrames_setFrames]
  have hYc : (((S.pushCell (freshCell P1.m.cls kX)).setFrames (.thenThrow S.heap.size :: base)).pushFrame (.java (pass0J P1.m S.heap.size 0 []))).heap[S.heap.size]? = some (freshCell P1.m.cls kX) := State.heap_pushCell_size S (freshCell P1.m.cls kX)
  have hYS2 : (((S.pushCell (freshCell P1.m.cls kX)).setFrames (.thenThrow S.heap.size :: base)).pushFrame (.java (pass0J P1.m S.heap.size 0 []))).heap[T.aS]? = some cellS := by
    show (S.heap.push _)[T.aS]? = _
    rw [Array.getElem?_push, if_neg (Nat.ne_of_lt hltS)]
    exact hcellS
  have hYcur : (((S.pushCell (freshCell P1.m.cls kX)).setFrames (.thenThrow S.heap.size :: base)).pushFrame (.java (pass0J P1.m S.heap.size 0 []))).cur = S.cur := rfl
  have hYW : s₀.WarmedH (((S.pushCell (freshCell P1.m.cls kX)).setFrames (.thenThrow S.heap.size :: base)).pushFrame (.java (pass0J P1.m S.heap.size 0 []))).vm := hWV
  have hent : ∀ target, Steps p.tables e below ((((S.pushCell (freshCell P1.m.cls kX)).setFrames (.thenThrow S.heap.size :: base)).pushFrame (.java (pass0J P1.m S.heap.size 0 []))).setTop (pass0J P1.m S.heap.size 0 [])) target → Steps p.tables e below (S.setFrames (.throwNew cls none none :: base)) target := by
    intro target hrest
    have hf0 : (S.setFrames (.throwNew cls none none :: base)).frames = .throwNew cls none none :: base := State.frames_setFrames _ hcur
    refine Steps.head ⟨hrun, by rw [State.curStatus?_setFrames]; exact hrb, by rw [State.alone_setFrames]; exact hal⟩ ⟨.throwNew cls none none :: mid, by rw [hf0, hmid]; rfl, by simp, by simp⟩ ?_
    rw [stepThread_throwNew hf0, stepThrowNew_plain (s := S.setFrames (.throwNew cls none none :: base)) (c := P1.m.cls) (k := kX') (i := P1.m.idx) hsoe hoom (by show S.vm.findClass cls = _; rw [hW.alike.findClass]; exact hfound) hk' (by rw [he']; exact hinit) (by rw [he']; exact hord)
      hhot hbeyond hfreeW (by rw [he']; exact hctor) hcells (by show S.slotsUsed + kX'.instanceTypes.size ≤ _; rw [hty]; exact hslots)]
    rw [State.pushCell_setFrames, State.setFrames_setFrames, hsame]
    show Steps p.tables e below (doInvoke e ((S.pushCell (freshCell P1.m.cls kX)).setFrames (.thenThrow S.heap.size :: base)) [] P1.m #[.ref S.heap.size]).1 target
    rw [(doInvoke_java (s := (S.pushCell (freshCell P1.m.cls kX)).setFrames (.thenThrow S.heap.size :: base)) (e := e) (acts := []) (args := #[.ref S.heap.size]) (meth := P1.meth) (code := P1.code) hmN L1.code L1.locks (by rw [L1.locals]; exact hroom)).1, L1.locals]
    rw [State.setTop_self (State.topJava?_of_frames hfY)] at hrest
    exact hrest
  generalize ((S.pushCell (freshCell P1.m.cls kX)).setFrames (.thenThrow S.heap.size :: base)).pushFrame (.java (pass0J P1.m S.heap.size 0 [])) = Y at hAt hfY hlimY hYS hYc hYS2 hYcur hYW hent
  obtain ⟨vm1, hW1, st1⟩ := Steps.invokeInitCold (tb := p.tables) (s₀ := s₀) (U := Y) (f := pass0J P1.m S.heap.size 1 [.ref S.heap.size]) (args := []) (rest := []) (a := S.heap.size) hAt hexec L1.at1 hYW L1.links L1.right L1.notHandle L1.cls L1.file L1.pool
    L1.supClass L1.supMethod L1.supName L1.supStatic L1.supAbstract L1.supFound L1.supParams.symm rfl
  rw [hlink1] at st1
  have hAt1 : At (Y.setVm vm1) P1.m P1.code below := hAt.setVm (hYW.alike.symm.trans hW1.alike)
  obtain ⟨vm2, hW2, st2⟩ := Steps.initNpe0ColdByV p (V := Y.setVm vm1) (g := pass0J P1.m S.heap.size 1 []) (c := P1.code) (self := S.heap.size) hAt1 hexec T L Z LZ N LN hW1 (t := S.cur) hYcur (Nn := fun u => u) heapOnly_id (fun _ _ => rfl) (fun _ => rfl) (fun u x y => setCell_twice _ _ _ _) (fun _ => Nat.le_refl _) (u0 := u0) (sen := sen) (cell := freshCell P1.m.cls kX) (cN := ((npeCell N.toNpeT (preparedCellV T.toThrowableT (freshCell P1.m.cls kX) S.heap.size u0 sen) S.cur).withEntry S.cur)) hYc
    (by intro k hk9; cases hk9) (by intro hk9; cases hk9) rfl hk hsel0 hYS2 (Nat.ne_of_lt hltS) hknownS hvU hv0 hneC hneSt hneP htS ht1 (fun _ h9 => h9) (fun _ h9 => h9) rfl rfl rfl (by simp [npeCell, preparedCellV, Cell.setSlot, Cell.withEntry]) hskip (fun _ _ hA9 hW9 _ hroom9 _ hrest9 => L.nativeOff p htr hA9 hW9 hroom9 hrest9) hselF hvSen htC htP hobjLocals Ps hL hlink (ig := .invokespecial P1.index) (len := 3) [] (lim := e.platform.stackLimits S.me) hlimY
    (by show Y.frames.length + _ + _ < _; rw [hfY]; simp only [List.length_cons]; omega)
    (by show (stackUse (.java _ :: Y.frames.tail)).2 + _ + _ ≤ _
        rw [hfY, List.tail_cons, stackUse_java, stackUse_light _ _ (fun f hf => by cases hf) rfl]
        show (stackUse base).2 + (1 + 11 + 2 * 0 + operandWords []) + 13 * Ps.length + 55 ≤ _
        simp only [operandWords, List.foldl_nil]
        omega) L1.at1
  refine ⟨vm2, hW2, fun target hrest => hent target ?_⟩
  jvm_step hAt [hexec, L1.at0, Value.isRef]
  refine st1 target (st2 target ?_)
  have hB := (heapOnly_id.thenSetCell S.heap.size ((((npeCell N.toNpeT (preparedCellV T.toThrowableT (freshCell P1.m.cls kX) S.heap.size u0 sen) S.cur).withEntry S.cur).setSlot T.fStack.slot u0.v).left.left)).at_ (hAt1.setVm (hW1.alike.symm.trans hW2.alike))
  refine nv_ret (f := pass0J P1.m S.heap.size 4 []) (f' := pass0J P1.m S.heap.size 0 []) (a := S.heap.size) (base := base) (mt := P1.meth) hB hexec hfY ⟨mid, hmid⟩ (hW2.methodAt L1.method) L1.locks rfl rfl L1.at4 ?_
  rw [hYS]
  exact hrest
end NV
section XM
variable {p : Program} {l : Launch} {e : Env} {R : Room} {s : State} {m : MethodId} {args : Array Value} {below : List Frame} {meth : Method} {c : Code} {T' : State} {locs : List Loc} {cells slots : Nat}
set_option maxHeartbeats 4000000 in
/-- what a native makes the machine throw, with a text -/
theorem natMsg (X : Stand p l e R s m args below meth c T' locs cells slots) (hexec : p.tables.exec = Jvm.exec) (htr : e.platform.stackTraces = false) {cls : String} {names : List String} {text : String} (hcls : Bundle.fit cls = true) (hnames : ∀ n ∈ names, Bundle.fit n = true) (hsoe : (cls == "java/lang/StackOverflowError") = false) (hoom : (cls == "java/lang/OutOfMemoryError") = false)
    (h : ∀ w ∈ Bundle.messageArmAtoms cls names, w.before args s = true) (hlocs : ∀ x ∈ locs, ∀ cell, s.heap[x.base]? = some cell → cell.vm.isStatics = false) (htext : (text == notModelled) = false) (hlimit : (stringBytes (stringToUtf16 text)).size ≤ 1000)
    {nf : NFrame} (hnw : (Frame.native nf).words = 0) (haw : nf.awaiting = false) (hnl : nf.locked = none) {g : JFrame} (hg : g.method = m) (hsize : g.locals.size = c.maxLocals) (hRframes : names.length + 5 < R.frames) (hRlocals : 2 * g.monitorRoom + (g.stack.map fun v => v.category).sum + 10240 ≤ R.locals) (hshort : 13 * names.length + 55 ≤ 10240) (hRcells : cells + 3 ≤ R.cells) (hRslots : slots + ((stringBytes (stringToUtf16 text)).size + 4 + 6) ≤ R.slots) :
    ∃ (U : State) (locs' : List Loc) (n : Nat), n ≤ slots + ((stringBytes (stringToUtf16 text)).size + 4 + 6) ∧ Stand p l e R s m args below meth c U locs' (cells + 3) n ∧ (∀ y ∈ locs', y ∈ locs ∨ y.base = T'.heap.size + 2) ∧ (∀ q, q < T'.heap.size → U.heap[q]? = T'.heap[q]?) ∧ T'.heap.size ≤ U.heap.size ∧ (∃ k ce, s.vm.findClass cls = some k ∧ U.heap[T'.heap.size + 2]? = some ce ∧ ce.cls = k ∧ ce.vm = .none) ∧
      ∀ target, Steps p.tables e below ((U.setTop g).pushFrame (.throwing (T'.heap.size + 2))) target → Steps p.tables e below (T'.setFrames (.throwNew cls (some text) none :: .native nf :: .java g :: below)) target := by
  have howns : e.platform.frameOwnsMonitors = true := by rw [X.admits.platform]
  have hfin : e.platform.finalization = false := by rw [X.admits.platform]
  have hpl : e.platform.magicAccessors = ({} : Platform).magicAccessors := by rw [X.admits.platform]
  have hal : e.platform.arrayLengthLimit = 2147483645 := by rw [X.admits.platform]
  have hmh : e.platform.maxHeapBytes = 536870912 := Launch.admits_maxHeapBytes X.admits
  have w : ∀ x, x ∈ Bundle.messageArmAtoms cls names → x.holds args s none s [] = true := fun x hx => h x hx
  obtain ⟨Th, Z0, LT, -, Y⟩ := ThrowableC.of_atoms (args := args) howns hfin hpl (fun x hx => h x (by simp [Bundle.messageArmAtoms, hx]))
  obtain ⟨Z, M, LZ, LM, hnZ⟩ := Init0T.ofS_atoms (args := args) hpl LT Y (fun x hx => h x (by simp [Bundle.messageArmAtoms, hx]))
  obtain ⟨P1, Ps, hlen, L1, hL, hP1m, hlink1, hlink⟩ := Bundle.chainS (args := args) hpl hnZ names cls hcls hnames (fun x hx => h x (by simp [Bundle.messageArmAtoms, hx]))
  obtain ⟨Zs, LZs, hn4, hfitv, hfitc⟩ := StringT.of_atoms (args := args) (fun x hx => h x (by simp [Bundle.messageArmAtoms, hx]))
  have hfound : s.vm.findClass cls = some P1.m.cls := findClass_of_methodNamed hP1m
  obtain ⟨c1, kX, hc1, hk, hord, -, -, hn6⟩ := Cond.instantiable_spec (w (.instantiable cls 6) (by simp [Bundle.messageArmAtoms]))
  cases Option.some.inj (hc1.symm.trans hfound)
  have hinit := Cond.initialized_spec hfound hk (w (.initialized cls) (by simp [Bundle.messageArmAtoms]))
  have hctor : kX.findMethod "<init>" "(Ljava/lang/String;)V" = some P1.m.idx := findMethod_of_methodNamed hP1m hk
  have hsel0 : selectMethod e.platform s.vm P1.m.cls Th.fill0 = .method Th.fill0 := by
    obtain ⟨c2, r2, m2, q1, q2, q3, q4, -⟩ := Cond.selects_spec (w (.selects cls Bundle.tFill0 Bundle.tFill0) (by simp [Bundle.messageArmAtoms]))
    cases Option.some.inj (q1.symm.trans hfound)
    cases Option.some.inj (q2.symm.trans (State.methodFound?_of_named Y.fill0 (by decide)))
    cases Option.some.inj (q3.symm.trans Y.fill0)
    rw [Launch.admits_selectMethod X.admits]; exact q4
  have hselF : selectMethod e.platform s.vm P1.m.cls Th.fill = .method Th.fill := by
    obtain ⟨c2, r2, m2, q1, q2, q3, q4, -⟩ := Cond.selects_spec (w (.selects cls Bundle.tFill Bundle.tFill) (by simp [Bundle.messageArmAtoms]))
    cases Option.some.inj (q1.symm.trans hfound)
    cases Option.some.inj (q2.symm.trans (State.methodFound?_of_named Y.fill (by decide)))
    cases Option.some.inj (q3.symm.trans Y.fill)
    rw [Launch.admits_selectMethod X.admits]; exact q4
  obtain ⟨cellS0, hcS0, hiss⟩ := Y.statics
  obtain ⟨u0, hu0⟩ := Cond.staticRefV Y.unassigned LT.unassignedStatic LT.statics hcS0 hiss (w (.isRef (.static Bundle.tN "UNASSIGNED_STACK" Bundle.steD)) (by simp [Bundle.messageArmAtoms]))
  obtain ⟨sen, hsen⟩ := Cond.staticRefV Y.sentinel LT.sentinelStatic LT.statics hcS0 hiss (w (.isRef (.static Bundle.tN "SUPPRESSED_SENTINEL" Bundle.listD)) (by simp [Bundle.messageArmAtoms]))
  obtain ⟨ci198, i198, fB, hk198, hg198, ha198, hsB, -, hnB, htB, hffB⟩ := Cond.ownField (t := .object "java/lang/Object") Y.found LT.cls (by decide +kernel) (w (.fieldLink Bundle.tN 198 Bundle.tN "backtrace" "Ljava/lang/Object;") (by simp [Bundle.messageArmAtoms])) (w (.lays Bundle.tN Bundle.tN "backtrace" "Ljava/lang/Object;") (by simp [Bundle.messageArmAtoms])) e.platform hpl
  obtain ⟨cellS, hcS', heS, -, hkeep⟩ := X.same.2.2.2.2.2 Th.aS cellS0 hcS0
  have hcellS : T'.heap[Th.aS]? = some cellS := hcS'
  have hnot : ∀ i, (⟨Th.aS, i⟩ : Loc) ∉ locs := fun i hmem => by
    have := hlocs _ hmem cellS0 hcS0
    rw [hiss] at this; cases this
  have hknownS : cellS.vm ≠ .unknown := by
    rw [heS]; intro hu
    rw [show cellS0.vm = .unknown from hu] at hiss
    cases hiss
  obtain ⟨iM, hffM⟩ := Y.msg
  obtain ⟨tyC, dC, hdC, hdnC⟩ := Cond.laysAt hfound hk Y.cause (w (.lays cls Bundle.tN "cause" "Ljava/lang/Throwable;") (by simp [Bundle.messageArmAtoms]))
  obtain ⟨tyS, dS, hdS, hdnS⟩ := Cond.laysAt hfound hk Y.stack (w (.lays cls Bundle.tN "stackTrace" Bundle.steD) (by simp [Bundle.messageArmAtoms]))
  obtain ⟨tyP, dP, hdP, hdnP⟩ := Cond.laysAt hfound hk Y.supp (w (.lays cls Bundle.tN "suppressedExceptions" Bundle.listD) (by simp [Bundle.messageArmAtoms]))
  obtain ⟨tyM, dM, hdM, hdnM⟩ := Cond.laysAt hfound hk hffM (w (.lays cls Bundle.tN "detailMessage" "Ljava/lang/String;") (by simp [Bundle.messageArmAtoms]))
  obtain ⟨tyB, dB, hdB, hdnB⟩ := Cond.laysAt hfound hk hffB (w (.lays cls Bundle.tN "backtrace" "Ljava/lang/Object;") (by simp [Bundle.messageArmAtoms]))
  have bC := Cond.laysApart hdB hdC hdnB hdnC (by rw [hnB, Y.causeName]; decide)
  have bS := Cond.laysApart hdB hdS hdnB hdnS (by rw [hnB, Y.stackName]; decide)
  have bP := Cond.laysApart hdB hdP hdnB hdnP (by rw [hnB, Y.suppName]; decide)
  have hskip : SkipFacts Th e.platform s (fun u => u) u0 ((preparedCellV Th.toThrowableT (freshCell P1.m.cls kX) (T'.heap.size + 2) u0 sen).withEntry T'.cur) :=
    ⟨{ ci198 := ci198, i198 := i198, fBack := fB }, ⟨hk198, hg198, ha198, hsB⟩, by
      have := fresh_default (c := P1.m.cls) tyB
      rw [htB] at this
      simpa [preparedCellV, Cell.setSlot, Cell.withEntry, Array.getElem?_setIfInBounds, bC, bS, bP, bC.symm, bS.symm, bP.symm, defaultValue] using this, fun _ _ => rfl⟩
  have hat : At T' g.method c below := by rw [hg]; exact X.here
  obtain ⟨g9, hfr9⟩ := X.frames_eq
  have hcur9 : T'.cur < T'.threads.size := State.cur_lt_of_frames hfr9
  have hmay : e.platform.stackBeyond ((((T'.setFrames (.throwNew cls (some text) none :: .native nf :: .java g :: below)).threads[T'.cur]?).map (·.stackBytes)).getD 0) (T'.setFrames (.throwNew cls (some text) none :: .native nf :: .java g :: below)).frames = false ∧ e.platform.vmThrowRoom ≤ e.platform.stackFree ((((T'.setFrames (.throwNew cls (some text) none :: .native nf :: .java g :: below)).threads[T'.cur]?).map (·.stackBytes)).getD 0) (T'.setFrames (.throwNew cls (some text) none :: .native nf :: .java g :: below)).frames := by
    have hb : ((((T'.setFrames (.throwNew cls (some text) none :: .native nf :: .java g :: below)).threads[T'.cur]?).map (·.stackBytes)).getD 0) = T'.me.stackBytes := by
      rw [← State.stackBytes_setFrames T' (.throwNew cls (some text) none :: .native nf :: .java g :: below)]
      exact State.stackBytes_me (T'.setFrames (.throwNew cls (some text) none :: .native nf :: .java g :: below))
    have hA := X.stackAbove hsize hRlocals
    rw [X.tail] at hA
    have hlimit : (e.platform.stackLimits T'.me).2 = (e.platform.limitsFor T'.me.stackBytes).2 := rfl
    rw [hb, State.frames_setFrames _ hcur9, Launch.admits_vmThrowRoom X.admits]
    unfold Platform.stackBeyond Platform.stackFree
    rw [stackUse_light _ _ (fun f hf => by cases hf) rfl, stackUse_light (.native nf) _ (fun f hf => by cases hf) hnw]
    exact ⟨decide_eq_false (by omega), by omega⟩
  obtain ⟨hbeyond, hfreeW⟩ := hmay
  have hfr' : (Frame.native nf :: .java g :: below).length + Ps.length + 4 < (e.platform.stackLimits T'.me).1 := by have := X.framesAbove hRframes; rw [hfr9] at this; simp only [List.length_cons] at this ⊢; omega
  have hwd' : (stackUse (.native nf :: .java g :: below)).2 + 13 * Ps.length + 55 ≤ (e.platform.stackLimits T'.me).2 := by have := X.stackAbove hsize (K := 13 * Ps.length + 55) (by omega); rw [X.tail] at this; rw [stackUse_light _ _ (fun f hf => by cases hf) hnw]; omega
  have hsl : T'.slotsUsed + (stringBytes (stringToUtf16 text)).size + Zs.kS.instanceTypes.size + kX.instanceTypes.size ≤ e.platform.maxSlots := by have := X.slotsAbove hRslots; rw [hn4, hn6]; omega
  obtain ⟨vm', hW', st⟩ := nv_msg (p := p) (s₀ := s) (S := T') (base := .native nf :: .java g :: below) X.here.running X.here.runnable X.here.alone hcur9 ⟨[.native nf, .java g], rfl⟩ hexec Th LT Z LZ M LM X.warmed Zs LZs P1 L1 Ps hL hlink1 hlink hsoe hoom hfound hk hinit hord hctor
    (Launch.admits_hotImplicitExceptions X.admits) hbeyond hfreeW htext (by rw [hal]; omega) (by rw [hmh]; simp only [componentBytes]; omega) (X.cellsAbove hRcells) hsl (hfitv _) (hfitc _) (u0 := u0) (sen := sen)
    hsel0 hcellS hknownS (by rw [hkeep _ (hnot _)]; exact hu0) (Takes.of_laid hk hord tyS (by rw [Y.stackType]; exact fits_refV_array _ u0)) hskip htr hselF (by rw [hkeep _ (hnot _)]; exact hsen)
    (Takes.of_laid hk hord tyC (by rw [Y.causeType]; rfl)) (Takes.of_laid hk hord tyP (by rw [Y.suppType]; exact fits_refV_object _ sen)) (Takes.of_laid hk hord tyM (by rw [Y.msgType]; rfl)) Y.objLocals hfr' hwd'
  rw [plainBareV_eq Th.toThrowableT (T'.heap.size + 2) u0 sen (.ref (T'.heap.size + 1)) T'.cur rfl rfl] at st
  obtain ⟨-, -, w3, w4, -, -, -⟩ := withThrown_facts e.platform T' Zs text P1.m.cls kX
  have X3 := ((X.pushed (bytesOf Zs.cB (stringToUtf16 text))).pushed (stringAt Zs.cS Zs.kS Zs.fv Zs.fc (stringToUtf16 text) T'.heap.size)).pushed (freshCell P1.m.cls kX)
  rw [← withString_eq] at X3
  have X4 := X3.noted hW'
  have ha : (T'.heap.size + 2) < ((withThrown T' Zs text P1.m.cls kX).setVm vm').heap.size := by show _ < (withThrown T' Zs text P1.m.cls kX).heap.size; rw [w3]; omega
  have hcell : ((withThrown T' Zs text P1.m.cls kX).setVm vm').heap[(T'.heap.size + 2)]? = some (freshCell P1.m.cls kX) := w4
  have X5 := ((((X4.stored hcell Th.fCause.slot (.ref (T'.heap.size + 2))).storedAgain ha Th.fStack.slot u0.v).storedAgain ha Th.fSupp.slot sen.v).storedAgain ha Th.fStack.slot u0.v).storedAgain ha Th.fMsg.slot (.ref (T'.heap.size + 1))
  have b1 : (bytesOf Zs.cB (stringToUtf16 text)).slots.size = (stringBytes (stringToUtf16 text)).size := by
    rw [(Cell.writeAll_facts _ _).2.2]; simp [bytes0]
  have b2 : (stringAt Zs.cS Zs.kS Zs.fv Zs.fc (stringToUtf16 text) T'.heap.size).slots.size = 4 := by simp [string0, Cell.setSlot, hn4]
  have b3 : (freshCell P1.m.cls kX).slots.size = 6 := by simp [hn6]
  refine ⟨_, _, _, ?_, X5, ?_, ?_, ?_, ⟨P1.m.cls, _, hfound, heapAt_setCell_self (s := (withThrown T' Zs text P1.m.cls kX).setVm vm') _ ha, rfl, rfl⟩, ?_⟩
  · rw [b1, b2, b3]; omega
  · intro y hy
    simp only [List.append_assoc, List.cons_append, List.nil_append] at hy
    rcases List.mem_append.mp hy with h1 | h1
    · exact Or.inl h1
    · right
      simp only [List.mem_cons, List.not_mem_nil, or_false] at h1
      rcases h1 with rfl | rfl | rfl | rfl | rfl <;> rfl
  · intro q hq
    have e1 : (withThrown T' Zs text P1.m.cls kX).heap = ((T'.heap.push (bytesOf Zs.cB (stringToUtf16 text))).push (stringAt Zs.cS Zs.kS Zs.fv Zs.fc (stringToUtf16 text) T'.heap.size)).push (freshCell P1.m.cls kX) := by
      rw [show withThrown T' Zs text P1.m.cls kX = (withString T' Zs.cB Zs.cS Zs.kS Zs.fv Zs.fc (stringToUtf16 text)).pushCell (freshCell P1.m.cls kX) from rfl, withString_eq]
      rfl
    show ((withThrown T' Zs text P1.m.cls kX).heap.setIfInBounds _ _)[q]? = _
    rw [Array.getElem?_setIfInBounds_ne (by omega), e1, Array.getElem?_push, if_neg (by simp; omega), Array.getElem?_push, if_neg (by simp; omega), Array.getElem?_push, if_neg (by omega)]
  · show _ ≤ ((withThrown T' Zs text P1.m.cls kX).heap.setIfInBounds _ _).size
    rw [Array.size_setIfInBounds, w3]; omega
  · intro target ht
    refine st _ ?_
    obtain ⟨g₁, hfrM⟩ := X5.frames_eq
    rw [State.pushFrame, State.frames_setTop _ hfrM, State.setTop_of_frames _ hfrM, State.setFrames_setFrames] at ht
    have hcurM := State.cur_lt_of_frames hfrM
    have hfM := State.frames_setFrames (.throwing (T'.heap.size + 2) :: .native nf :: .java g :: below) hcurM
    refine Steps.head ⟨X5.here.running, by rw [State.curStatus?_setFrames]; exact X5.here.runnable, by rw [State.alone_setFrames]; exact X5.here.alone⟩ ⟨[.throwing (T'.heap.size + 2), .native nf, .java g], by rw [hfM]; rfl, by simp, by simp⟩ ?_
    rw [nv_pop hfM haw hnl, State.setFrames_setFrames]
    exact ht
end XM
section XM
variable {p : Program} {l : Launch} {e : Env} {R : Room} {s : State} {m : MethodId} {args : Array Value} {below : List Frame} {meth : Method} {c : Code} {T' : State} {locs : List Loc} {cells slots : Nat}
set_option maxHeartbeats 4000000 in
/-- the NullPointerException of a native -/
theorem natNpe (X : Stand p l e R s m args below meth c T' locs cells slots) (hexec : p.tables.exec = Jvm.exec) (htr : e.platform.stackTraces = false) {n : Nat} (h : ∀ w ∈ Bundle.npeArmAtoms n, w.before args s = true) (hlocs : ∀ x ∈ locs, ∀ cell, s.heap[x.base]? = some cell → cell.vm.isStatics = false)
    {nf : NFrame} (hnw : (Frame.native nf).words = 0) (haw : nf.awaiting = false) (hnl : nf.locked = none) {g : JFrame} (hg : g.method = m) (hsize : g.locals.size = c.maxLocals) (hRframes : 8 < R.frames) (hRlocals : 2 * g.monitorRoom + (g.stack.map fun v => v.category).sum + 10240 ≤ R.locals) (hRcells : cells + 1 ≤ R.cells) (hRslots : slots + n ≤ R.slots) :
    ∃ (U : State) (locs' : List Loc), Stand p l e R s m args below meth c U locs' (cells + 1) (slots + n) ∧ (∀ y ∈ locs', y ∈ locs ∨ y.base = T'.heap.size) ∧ (∀ q, q < T'.heap.size → U.heap[q]? = T'.heap[q]?) ∧ T'.heap.size ≤ U.heap.size ∧ (∃ k ce, s.vm.findClass Bundle.nN = some k ∧ U.heap[T'.heap.size]? = some ce ∧ ce.cls = k ∧ ce.vm = .none) ∧
      ∀ target, Steps p.tables e below ((U.setTop g).pushFrame (.throwing T'.heap.size)) target → Steps p.tables e below (T'.setFrames (.throwNew "java/lang/NullPointerException" none none :: .native nf :: .java g :: below)) target := by
  have howns : e.platform.frameOwnsMonitors = true := by rw [X.admits.platform]
  have hfin : e.platform.finalization = false := by rw [X.admits.platform]
  have hpl : e.platform.magicAccessors = ({} : Platform).magicAccessors := by rw [X.admits.platform]
  have hpl2 : e.platform.arrayCloneIsPublic = true := by rw [X.admits.platform]
  have w : ∀ x, x ∈ Bundle.npeArmAtoms n → x.holds args s none s [] = true := fun x hx => h x hx
  obtain ⟨Th, Z, LT, LZ, Y⟩ := ThrowableC.of_atoms (args := args) howns hfin hpl (fun x hx => h x (by simp [Bundle.npeArmAtoms, hx]))
  obtain ⟨N, LN, hcN, hnNF, hordN, hffS⟩ := NpeC.of_atoms (args := args) hpl hpl2 LT Y (fun x hx => h x (by simp [Bundle.npeArmAtoms, hx]))
  obtain ⟨P1, L1, hP1m, hP1s⟩ := PassC.of_atoms (args := args) (s := s) hpl (X := Bundle.nN) (Y := Bundle.rN) (by decide) (by decide) LibCode.NullPointerException.Init0.at_0 LibCode.NullPointerException.Init0.at_1 LibCode.NullPointerException.Init0.at_4 (fun x hx => h x (by simp [Bundle.npeArmAtoms, hx]))
  obtain ⟨PR, LR, hPRm, hPRs⟩ := PassC.of_atoms (args := args) (s := s) hpl (X := Bundle.rN) (Y := Bundle.eN) (by decide) (by decide) LibCode.RuntimeException.Init0.at_0 LibCode.RuntimeException.Init0.at_1 LibCode.RuntimeException.Init0.at_4 (fun x hx => h x (by simp [Bundle.npeArmAtoms, hx]))
  obtain ⟨PE, LEx, hPEm, hPEs⟩ := PassC.of_atoms (args := args) (s := s) hpl (X := Bundle.eN) (Y := Bundle.tN) (by decide) (by decide) LibCode.Exception.Init0.at_0 LibCode.Exception.Init0.at_1 LibCode.Exception.Init0.at_4 (fun x hx => h x (by simp [Bundle.npeArmAtoms, hx]))
  have hfound : s.vm.findClass Bundle.nN = some P1.m.cls := findClass_of_methodNamed hP1m
  have ecls : N.cN = P1.m.cls := Option.some.inj (hcN.symm.trans hfound)
  have hk : s.vm.classes[P1.m.cls]? = some N.kN := by rw [← ecls]; exact LN.cls
  have hinit := Cond.initialized_spec hfound hk (w (.initialized Bundle.nN) (by simp [Bundle.npeArmAtoms]))
  have hctor : N.kN.findMethod "<init>" "()V" = some P1.m.idx := findMethod_of_methodNamed hP1m hk
  obtain ⟨c1, k1, hc1, hk1, -, -, -, hn⟩ := Cond.instantiable_spec (w (.instantiable Bundle.nN n) (by simp [Bundle.npeArmAtoms]))
  cases Option.some.inj (hc1.symm.trans hfound)
  cases Option.some.inj (hk1.symm.trans hk)
  have hlink1 : P1.sup = PR.m := Option.some.inj (hP1s.symm.trans hPRm)
  have hlinkR : PR.sup = PE.m := Option.some.inj (hPRs.symm.trans hPEm)
  have hlinkE : PE.sup = Z.m Th.toThrowableT := Option.some.inj (hPEs.symm.trans Y.init0)
  have hsel0 : selectMethod e.platform s.vm P1.m.cls Th.fill0 = .method Th.fill0 := by
    obtain ⟨c2, r2, m2, q1, q2, q3, q4, -⟩ := Cond.selects_spec (w (.selects Bundle.nN Bundle.tFill0 Bundle.tFill0) (by simp [Bundle.npeArmAtoms]))
    cases Option.some.inj (q1.symm.trans hfound)
    cases Option.some.inj (q2.symm.trans (State.methodFound?_of_named Y.fill0 (by decide)))
    cases Option.some.inj (q3.symm.trans Y.fill0)
    rw [Launch.admits_selectMethod X.admits]; exact q4
  have hselF : selectMethod e.platform s.vm P1.m.cls Th.fill = .method N.fill := by
    obtain ⟨c2, r2, m2, q1, q2, q3, q4, -⟩ := Cond.selects_spec (w (.selects Bundle.nN Bundle.tFill Bundle.nFill) (by simp [Bundle.npeArmAtoms]))
    cases Option.some.inj (q1.symm.trans hfound)
    cases Option.some.inj (q2.symm.trans (State.methodFound?_of_named Y.fill (by decide)))
    cases Option.some.inj (q3.symm.trans hnNF)
    rw [Launch.admits_selectMethod X.admits]; exact q4
  obtain ⟨cellS0, hcS0, hiss⟩ := Y.statics
  obtain ⟨u0, hu0⟩ := Cond.staticRefV Y.unassigned LT.unassignedStatic LT.statics hcS0 hiss (w (.isRef (.static Bundle.tN "UNASSIGNED_STACK" Bundle.steD)) (by simp [Bundle.npeArmAtoms]))
  obtain ⟨sen, hsen⟩ := Cond.staticRefV Y.sentinel LT.sentinelStatic LT.statics hcS0 hiss (w (.isRef (.static Bundle.tN "SUPPRESSED_SENTINEL" Bundle.listD)) (by simp [Bundle.npeArmAtoms]))
  obtain ⟨ci198, i198, fB, hk198, hg198, ha198, hsB, -, hnB, htB, hffB⟩ := Cond.ownField (t := .object "java/lang/Object") Y.found LT.cls (by decide +kernel) (w (.fieldLink Bundle.tN 198 Bundle.tN "backtrace" Bundle.objD) (by simp [Bundle.npeArmAtoms])) (w (.lays Bundle.tN Bundle.tN "backtrace" Bundle.objD) (by simp [Bundle.npeArmAtoms])) e.platform hpl
  obtain ⟨cellS, hcS', heS, -, hkeep⟩ := X.same.2.2.2.2.2 Th.aS cellS0 hcS0
  have hcellS : T'.heap[Th.aS]? = some cellS := hcS'
  have hnot : ∀ i, (⟨Th.aS, i⟩ : Loc) ∉ locs := fun i hmem => by
    have := hlocs _ hmem cellS0 hcS0
    rw [hiss] at this; cases this
  have hknownS : cellS.vm ≠ .unknown := by
    rw [heS]; intro hu
    rw [show cellS0.vm = .unknown from hu] at hiss
    cases hiss
  obtain ⟨tyC, dC, hdC, hdnC⟩ := Cond.laysAt hfound hk Y.cause (w (.lays Bundle.nN Bundle.tN "cause" "Ljava/lang/Throwable;") (by simp [Bundle.npeArmAtoms]))
  obtain ⟨tyS, dS, hdS, hdnS⟩ := Cond.laysAt hfound hk Y.stack (w (.lays Bundle.nN Bundle.tN "stackTrace" Bundle.steD) (by simp [Bundle.npeArmAtoms]))
  obtain ⟨tyP, dP, hdP, hdnP⟩ := Cond.laysAt hfound hk Y.supp (w (.lays Bundle.nN Bundle.tN "suppressedExceptions" Bundle.listD) (by simp [Bundle.npeArmAtoms]))
  obtain ⟨tyX, dX, hdX, hdnX⟩ := Cond.laysAt hfound hk hffS (w (.lays Bundle.nN Bundle.nN "extendedMessageState" "I") (by simp [Bundle.npeArmAtoms, Bundle.npeAtoms]))
  have hnX : N.fState.name = "extendedMessageState" := (State.fieldFound?_type hffS (t := .int) (by decide +kernel)).1
  obtain ⟨tyB, dB, hdB, hdnB⟩ := Cond.laysAt hfound hk hffB (w (.lays Bundle.nN Bundle.tN "backtrace" Bundle.objD) (by simp [Bundle.npeArmAtoms]))
  have bC := Cond.laysApart hdB hdC hdnB hdnC (by rw [hnB, Y.causeName]; decide)
  have bS := Cond.laysApart hdB hdS hdnB hdnS (by rw [hnB, Y.stackName]; decide)
  have bP := Cond.laysApart hdB hdP hdnB hdnP (by rw [hnB, Y.suppName]; decide)
  have bX := Cond.laysApart hdB hdX hdnB hdnX (by rw [hnB, hnX]; decide)
  have hskip : SkipFacts Th e.platform s (fun u => u) u0 ((npeCell N.toNpeT (preparedCellV Th.toThrowableT (freshCell P1.m.cls N.kN) T'.heap.size u0 sen) T'.cur).withEntry T'.cur) :=
    ⟨{ ci198 := ci198, i198 := i198, fBack := fB }, ⟨hk198, hg198, ha198, hsB⟩, by
      have := fresh_default (c := P1.m.cls) tyB
      rw [htB] at this
      simpa [npeCell, preparedCellV, Cell.setSlot, Cell.withEntry, Array.getElem?_setIfInBounds, bC, bS, bP, bX, bC.symm, bS.symm, bP.symm, bX.symm, defaultValue] using this, fun _ _ => rfl⟩
  have hat : At T' g.method c below := by rw [hg]; exact X.here
  obtain ⟨g9, hfr9⟩ := X.frames_eq
  have hcur9 : T'.cur < T'.threads.size := State.cur_lt_of_frames hfr9
  have hmay : e.platform.stackBeyond ((((T'.setFrames (.throwNew "java/lang/NullPointerException" none none :: .native nf :: .java g :: below)).threads[T'.cur]?).map (·.stackBytes)).getD 0) (T'.setFrames (.throwNew "java/lang/NullPointerException" none none :: .native nf :: .java g :: below)).frames = false ∧ e.platform.vmThrowRoom ≤ e.platform.stackFree ((((T'.setFrames (.throwNew "java/lang/NullPointerException" none none :: .native nf :: .java g :: below)).threads[T'.cur]?).map (·.stackBytes)).getD 0) (T'.setFrames (.throwNew "java/lang/NullPointerException" none none :: .native nf :: .java g :: below)).frames := by
    have hb : ((((T'.setFrames (.throwNew "java/lang/NullPointerException" none none :: .native nf :: .java g :: below)).threads[T'.cur]?).map (·.stackBytes)).getD 0) = T'.me.stackBytes := by
      rw [← State.stackBytes_setFrames T' (.throwNew "java/lang/NullPointerException" none none :: .native nf :: .java g :: below)]
      exact State.stackBytes_me (T'.setFrames (.throwNew "java/lang/NullPointerException" none none :: .native nf :: .java g :: below))
    have hA := X.stackAbove hsize hRlocals
    rw [X.tail] at hA
    have hlimit : (e.platform.stackLimits T'.me).2 = (e.platform.limitsFor T'.me.stackBytes).2 := rfl
    rw [hb, State.frames_setFrames _ hcur9, Launch.admits_vmThrowRoom X.admits]
    unfold Platform.stackBeyond Platform.stackFree
    rw [stackUse_light _ _ (fun f hf => by cases hf) rfl, stackUse_light (.native nf) _ (fun f hf => by cases hf) hnw]
    exact ⟨decide_eq_false (by omega), by omega⟩
  obtain ⟨hbeyond, hfreeW⟩ := hmay
  have hfr' : (Frame.native nf :: .java g :: below).length + [PR, PE].length + 5 < (e.platform.stackLimits T'.me).1 := by have := X.framesAbove hRframes; rw [hfr9] at this; simp only [List.length_cons, List.length_nil] at this ⊢; omega
  have hwd' : (stackUse (.native nf :: .java g :: below)).2 + 13 * [PR, PE].length + 68 ≤ (e.platform.stackLimits T'.me).2 := by have := X.stackAbove hsize (K := 13 * 2 + 68) (by omega); rw [X.tail] at this; rw [stackUse_light _ _ (fun f hf => by cases hf) hnw]; simp only [List.length_cons, List.length_nil]; omega
  obtain ⟨vm', hW', st⟩ := nv_npe (p := p) (s₀ := s) (S := T') (base := .native nf :: .java g :: below) X.here.running X.here.runnable X.here.alone hcur9 ⟨[.native nf, .java g], rfl⟩ hexec Th LT Z LZ N LN X.warmed P1 L1 [PR, PE] (fun P hP => by
      simp only [List.mem_cons, List.not_mem_nil, or_false] at hP
      rcases hP with rfl | rfl
      · exact LR
      · exact LEx) hlink1 ⟨hlinkR, hlinkE, trivial⟩ (by decide) (by decide) hfound hk hinit hordN hctor
    (Launch.admits_hotImplicitExceptions X.admits) hbeyond hfreeW (X.cellsAbove hRcells) (by rw [hn]; exact X.slotsAbove hRslots) (u0 := u0) (sen := sen)
    hsel0 hcellS hknownS (by rw [hkeep _ (hnot _)]; exact hu0) (by rw [fresh_default tyX, LN.stateInt]; rfl)
    (Cond.laysApart hdC hdX hdnC hdnX (by rw [Y.causeName, hnX]; decide)) (Cond.laysApart hdS hdX hdnS hdnX (by rw [Y.stackName, hnX]; decide)) (Cond.laysApart hdP hdX hdnP hdnX (by rw [Y.suppName, hnX]; decide))
    (Takes.of_laid hk hordN tyS (by rw [Y.stackType]; exact fits_refV_array _ u0)) (Takes.of_laid hk hordN tyX (by rw [LN.stateInt]; rfl)) hskip htr hselF (by rw [hkeep _ (hnot _)]; exact hsen)
    (Takes.of_laid hk hordN tyC (by rw [Y.causeType]; rfl)) (Takes.of_laid hk hordN tyP (by rw [Y.suppType]; exact fits_refV_object _ sen)) Y.objLocals hfr' hwd'
  rw [npeBareV_eq Th.toThrowableT N.toNpeT T'.heap.size u0 sen T'.cur rfl rfl] at st
  have X2 := (X.pushed (freshCell P1.m.cls N.kN)).noted hW'
  have ha : T'.heap.size < ((T'.pushCell (freshCell P1.m.cls N.kN)).setVm vm').heap.size := by
    show _ < (T'.heap.push _).size
    simp
  have hcell : ((T'.pushCell (freshCell P1.m.cls N.kN)).setVm vm').heap[T'.heap.size]? = some (freshCell P1.m.cls N.kN) := State.heap_pushCell_size T' (freshCell P1.m.cls N.kN)
  have X3 := ((((X2.stored hcell Th.fCause.slot (.ref T'.heap.size)).storedAgain ha Th.fStack.slot u0.v).storedAgain ha Th.fSupp.slot sen.v).storedAgain ha N.fState.slot (.int 1)).storedAgain ha Th.fStack.slot u0.v
  have b3 : (freshCell P1.m.cls N.kN).slots.size = n := by simp [hn]
  rw [b3] at X3
  refine ⟨_, _, X3, ?_, ?_, ?_, ⟨P1.m.cls, _, hfound, heapAt_setCell_self (s := (T'.pushCell (freshCell P1.m.cls N.kN)).setVm vm') _ ha, rfl, rfl⟩, ?_⟩
  · intro y hy
    simp only [List.append_assoc, List.cons_append, List.nil_append] at hy
    rcases List.mem_append.mp hy with h1 | h1
    · exact Or.inl h1
    · right
      simp only [List.mem_cons, List.not_mem_nil, or_false] at h1
      rcases h1 with rfl | rfl | rfl | rfl | rfl <;> rfl
  · intro q hq
    show ((T'.heap.push _).setIfInBounds _ _)[q]? = _
    rw [Array.getElem?_setIfInBounds_ne (by omega), Array.getElem?_push, if_neg (by omega)]
  · show _ ≤ ((T'.heap.push _).setIfInBounds _ _).size
    rw [Array.size_setIfInBounds, Array.size_push]; omega
  · intro target ht
    refine st _ ?_
    obtain ⟨g₁, hfrM⟩ := X3.frames_eq
    rw [State.pushFrame, State.frames_setTop _ hfrM, State.setTop_of_frames _ hfrM, State.setFrames_setFrames] at ht
    have hcurM := State.cur_lt_of_frames hfrM
    have hfM := State.frames_setFrames (.throwing (T'.heap.size) :: .native nf :: .java g :: below) hcurM
    refine Steps.head ⟨X3.here.running, by rw [State.curStatus?_setFrames]; exact X3.here.runnable, by rw [State.alone_setFrames]; exact X3.here.alone⟩ ⟨[.throwing (T'.heap.size), .native nf, .java g], by rw [hfM]; rfl, by simp, by simp⟩ ?_
    rw [nv_pop hfM haw hnl, State.setFrames_setFrames]
    exact ht
end XM
