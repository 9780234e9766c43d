/-! methods that may throw: the note of a throw (WT), what a callee comes to (goX), its contract (cX), its call -/
section XG
variable {p : Program} {l : Launch} {e : Env} {R : Room} {s : State} {m : MethodId} {args : Array Value} {below : List Frame} {meth : Method} {c : Code} {H : Heap} {locs : List Loc} {cells slots : Nat} {Q : State → Prop}
/-- an exception is on its way, over the frame g -/
def WT (p : Program) (l : Launch) (e : Env) (R : Room) (s : State) (m : MethodId) (args : Array Value) (below : List Frame) (meth : Method) (c : Code) (H : Heap) (locs : List Loc) (cells slots : Nat) (Q : State → Prop) (a : Addr) (g : JFrame) : Prop :=
  ∀ T : State, T.heap = H → Stand p l e R s m args below meth c T locs cells slots → ∃ t, Steps p.tables e below ((T.setTop g).pushFrame (.throwing a)) t ∧ Q t
def FE (s t : State) (L : List Loc) (k n : Nat) : Prop := s.WarmedH t.vm ∧ s.sameButNew ({ t with vm := s.vm } : State) L k n
def MQX (below : List Frame) (Qc : State → Outcome → State → Prop) (s : State) (mc ms : Nat) (free : Addr → Prop) : State → Prop := fun t =>
  ∃ o, t.status = .running ∧ Ended t below o ∧ Qc s o t ∧ ∃ L, FE s t L mc ms ∧ ∀ q ∈ L, free q.base
theorem W.mono {Q' : State → Prop} {g : JFrame} (h : ∀ t, Q t → Q' t) (k : W p l e R s m args below meth c H locs cells slots Q g) : W p l e R s m args below meth c H locs cells slots Q' g := fun T hT X => by
  obtain ⟨t, a, b⟩ := k T hT X
  exact ⟨t, a, h t b⟩
theorem MQ.x {Qc : Array Value → State → Outcome → State → Prop} {mc ms : Nat} {free : Addr → Prop} {t : State} (h : MQ below Qc args s mc ms free t) : MQX below (Qc args) s mc ms free t := by
  obtain ⟨o, h1, h2, h3, L, h4, h5⟩ := h
  exact ⟨o, h1, h2, h3, L, h4.2, h5⟩
theorem Steps.under {tb : Tables} {mid : List Frame} {a b : State} (h : Steps tb e (mid ++ below) a b) : Steps tb e below a b := by
  obtain ⟨n, hn, hw⟩ := h
  exact ⟨n, hn, fun k hk => (hw k hk).weaken⟩
/-- where a callee is entered from a frame of the walk, and what it comes to -/
theorem goX {U : State} (X : Stand p l e R s m args below meth c U locs cells slots) {g : JFrame} (hg : g.method = m) (hsize : g.locals.size = c.maxLocals) {ig : Instr} {len : Nat} (hdg : decode c.code g.pc = .ok (ig, len))
    {y : MethodName} {mk : MethodId} {methM : Method} {cM : Code} (hnamed : s.methodNamed? y = some mk) (hmethM : s.vm.method? mk = some methM) (hcM : methM.code = some cM) (hlkM : methM.locks = false) (hplain : plainName y.cls = true)
    {rm : Room} (hfr : rm.frames + 1 ≤ R.frames) (hlo : 2 * g.monitorRoom + (g.stack.map fun v => v.category).sum + (cM.maxLocals + 11) + rm.locals ≤ R.locals) (hcells : cells + rm.cells ≤ R.cells) (hslots : slots + rm.slots ≤ R.slots)
    {av : Array Value} {Qc : State → Outcome → State → Prop} {free : Addr → Prop}
    (body : ∀ T0 : State, T0.heap = U.heap → Stand p l e rm (U.calling g mk av) mk av (.java g :: below) methM cM T0 [] 0 0 → ∃ t, Steps p.tables e (.java g :: below) (T0.setTop (entryFrame mk av cM.maxLocals)) t ∧ MQX (.java g :: below) Qc (U.calling g mk av) rm.cells rm.slots free t) :
    ∃ (o : Outcome) (t T' : State) (L : List Loc), Qc (U.calling g mk av) o t ∧ (∀ q ∈ L, free q.base) ∧ T'.heap = t.heap ∧ Stand p l e R s m args below meth c T' (locs ++ L) (cells + rm.cells) (slots + rm.slots) ∧
      ((∃ v, o = .returned v ∧ ∀ acts, Steps p.tables e below (doInvoke e (U.setTop g) acts mk av).1 (T'.setTop { g with pc := g.pc + len, stack := v.toList ++ g.stack })) ∨
       (∃ a, o = .threw a ∧ ∀ acts, Steps p.tables e below (doInvoke e (U.setTop g) acts mk av).1 ((T'.setTop g).pushFrame (.throwing a)))) := by
  subst hg
  have hmU : U.vm.method? mk = some methM := by rw [X.warmed.alike.method?]; exact hmethM
  have hfrU : (U.calling g mk av).frames = .invoking mk av :: .java g :: below := by rw [State.frames_calling X.here.top, X.tail]
  have hcur := State.cur_lt_of_frames hfrU
  obtain ⟨t0, ht0, -⟩ := State.frames_cons hfrU
  have hf1 : ((U.calling g mk av).setFrames (.java (entryFrame mk av cM.maxLocals) :: .java g :: below)).frames = .java (entryFrame mk av cM.maxLocals) :: .java g :: below := State.frames_setFrames _ hcur
  have ht1 := State.topJava?_of_frames hf1
  have hnU : (U.calling g mk av).methodNamed? y = some mk := X.named hnamed
  have hplainM : ((U.calling g mk av).setFrames (.java (entryFrame mk av cM.maxLocals) :: .java g :: below)).plainMethod mk := by
    refine State.plainMethod.of_name ?_
    intro k hk
    obtain ⟨k', hk', hn⟩ := className_of_methodNamed hnU
    cases (show (U.calling g mk av).vm.classes[mk.cls]? = some k from hk).symm.trans hk'
    rw [hn]; exact hplain
  have hcodeU : (U.calling g mk av).code? g.method = some c := by
    have h := X.here.code
    rw [State.code?_eq] at h ⊢
    exact h
  have hAt : At ((U.calling g mk av).setFrames (.java (entryFrame mk av cM.maxLocals) :: .java g :: below)) mk cM (.java g :: below) :=
    ⟨by rw [ht1]; rfl, ⟨[], by rw [hf1]; rfl⟩, X.here.running, by simpa [State.calling] using X.here.runnable, by simpa [State.calling] using X.here.alone, by
      rw [State.code?_eq]
      show (U.vm.method? mk).bind _ = _
      rw [hmU]; exact hcM, hplainM⟩
  have Y : Stand p l e rm (U.calling g mk av) mk av (.java g :: below) methM cM ((U.calling g mk av).setFrames (.java (entryFrame mk av cM.maxLocals) :: .java g :: below)) [] 0 0 :=
    ⟨X.admits, X.cas, X.clock, hfrU, X.room_calling (g := g) (R' := rm) hsize hmU hcM hfr hlo hcells hslots, by simp [State.hears, hcodeU, hdg, Except.toOption], hmU, hcM, hAt, by rw [hf1]; rfl, State.WarmedH.refl _, by rw [State.stackLimits_setFrames], by rw [State.stackBytes_setFrames], (State.sameButNew.refl _ ht0).setFrames _ hcur⟩
  obtain ⟨t, hst, o, hrun, hend, hq, L, ⟨hW₂, e2, q2, q3, q4, q5, q6⟩, hL⟩ := body ((U.calling g mk av).setFrames (.java (entryFrame mk av cM.maxLocals) :: .java g :: below)) rfl Y
  rw [State.setTop_self ht1] at hst
  have hW' : U.WarmedH t.vm := hW₂
  obtain ⟨g₀, hg0⟩ := Option.isSome_iff_exists.mp X.here.top
  obtain ⟨r, hr⟩ := State.topJava?_eq_some.mp hg0
  have hrb : r = below := by have := X.tail; rw [hr] at this; exact this
  subst hrb
  have e3 : t = ({ (U.calling g mk av).setFrames t.frames with heap := t.heap, slotsUsed := t.slotsUsed } : State).setVm t.vm := by
    have h9 : t = ({ t with vm := (U.calling g mk av).vm } : State).setVm t.vm := rfl
    rw [e2] at h9
    exact h9
  have hsame : U.sameButNew ({ U with heap := t.heap, slotsUsed := t.slotsUsed } : State) L rm.cells rm.slots := by
    refine ⟨?_, q2, q3, q4, q5, q6⟩
    obtain ⟨t', ht', -⟩ := State.frames_cons hr
    show ({ U with heap := t.heap, slotsUsed := t.slotsUsed } : State) = { U.setFrames U.frames with heap := t.heap, slotsUsed := t.slotsUsed }
    rw [State.setFrames_self ht']
  have hr' : (({ U with heap := t.heap, slotsUsed := t.slotsUsed } : State).setVm t.vm).frames = .java g₀ :: r := hr
  have hstep : ∀ acts, Steps p.tables e r (doInvoke e (U.setTop g) acts mk av).1 t := by
    intro acts
    have hfull : e.platform.stackFull (((U.setTop g).threads[(U.setTop g).cur]?).getD { frames := [] }) (U.setTop g).frames cM.maxLocals = false := X.notFull hsize (by omega) (by omega)
    rw [(doInvoke_java (s := U.setTop g) (e := e) (acts := acts) (args := av) (meth := methM) (code := cM) hmU hcM hlkM hfull).1]
    have e5 : (U.setTop g).pushFrame (.java { method := mk, pc := 0, locals := argsToLocals av cM.maxLocals, stack := [], locked := none }) = (U.calling g mk av).setFrames (.java (entryFrame mk av cM.maxLocals) :: .java g :: r) := by
      rw [State.calling_eq X.here.top, State.setFrames_setFrames, State.pushFrame, State.frames_setTop _ hr, State.setTop_of_frames _ hr, State.setFrames_setFrames]
      rfl
    rw [e5]
    exact Steps.under (mid := [.java g]) hst
  refine ⟨o, t, (({ U with heap := t.heap, slotsUsed := t.slotsUsed } : State).setVm t.vm), L, hq, hL, rfl,
    ⟨X.admits, X.cas, X.clock, X.frames, X.room, X.hears, X.method, X.code, (X.here.setHeapUsed t.heap t.slotsUsed).setVm hW'.alike, X.tail, State.WarmedH.trans X.warmed hW', X.limits, X.bytes, X.same.trans (hsame.setVm s.vm)⟩, ?_⟩
  cases o with
  | returned v =>
    left
    refine ⟨v, rfl, fun acts => ?_⟩
    obtain ⟨c₂, i₂, len₂, hc₂, hd₂, hf₂⟩ := hend
    have hcc : c₂ = c := by
      have h1 : t.code? g.method = U.code? g.method := by
        rw [State.code?_eq, State.code?_eq, hW'.alike.method?]
      exact Option.some.inj (hc₂.symm.trans (h1.trans X.here.code))
    subst hcc
    have hlen : len₂ = len := by rw [hdg] at hd₂; cases hd₂; rfl
    subst hlen
    have hs₂ : t = (({ U with heap := t.heap, slotsUsed := t.slotsUsed } : State).setVm t.vm).setTop { g with pc := g.pc + len₂, stack := v.toList ++ g.stack } := by
      refine e3.trans ?_
      rw [hf₂, State.calling_eq X.here.top, State.setFrames_setFrames, State.setTop_of_frames _ hr']
      rfl
    rw [← hs₂]
    exact hstep acts
  | threw a =>
    right
    refine ⟨a, rfl, fun acts => ?_⟩
    have hs₂ : t = ((({ U with heap := t.heap, slotsUsed := t.slotsUsed } : State).setVm t.vm).setTop g).pushFrame (.throwing a) := by
      refine e3.trans ?_
      rw [show t.frames = .throwing a :: .java g :: r from hend, State.calling_eq X.here.top, State.setFrames_setFrames, State.pushFrame, State.frames_setTop _ hr', State.setTop_of_frames _ hr', State.setFrames_setFrames]
      rfl
    rw [← hs₂]
    exact hstep acts
end XG
