/-! handlers: which one takes an exception -/
section XH
variable {e : Env} {a : Addr} {f : JFrame}
/-- one row of a handler table, its class cold or warm -/
theorem fh_row {S : State} {x : ExceptionTableEntry} {t : List ExceptionTableEntry} {k : ClassId} {cell : Cell} {Q : Handler → Pre} {E : CtlPost} {d : Bool} {acts : List Action} (hx : covers x f.pc = true) (h0 : x.catchType ≠ 0) (hl : S.vm.ClassLinks e.platform f.method.cls x.catchType k) (hcell : S.heap[a]? = some cell) (hobj : ∀ z, cell.vm ≠ .statics z) (hk : ∃ z, S.vm.classes[cell.cls]? = some z) (hc : ∃ z, S.vm.classes[k]? = some z) :
    Sem.wp (findHandler.go f a (x :: t)) Q E e d acts S ↔ if S.vm.assignable cell.cls k = true then Q (.found x.handlerPc) d acts (S.setVm (S.vm.noted f.method.cls x.catchType (.cls k))) else Sem.wp (findHandler.go f a t) Q E e d acts (S.setVm (S.vm.noted f.method.cls x.catchType (.cls k))) := by
  simp only [covers] at hx
  obtain ⟨ha, ht⟩ := (resolveClass_links e.toSetting hl).op (op := VmOp.resolveClass f.method.cls x.catchType) rfl
  have hal : S.vm.Alike (S.vm.noted f.method.cls x.catchType (.cls k)) := (Vm.Alike.refl S.vm).noted _ _ _
  obtain ⟨k1, hk1⟩ := hk
  obtain ⟨k2, hk2⟩ := hc
  obtain ⟨k1', hk1', -⟩ := hal.2.2 _ _ hk1
  obtain ⟨k2', hk2', -⟩ := hal.2.2 _ _ hk2
  have hasg := hal.assignable cell.cls k
  cases hfit : S.vm.assignable cell.cls k <;> rw [hfit] at hasg <;> simp [findHandler.go, hx, h0, ha, ht, hcell, hobj, hk1', hk2', hasg, VmOp.dirties, VmOp.acts]
/-- rows that all cover the place: those ahead don't take it, x does -/
theorem fh_walk {s0 : State} {cell : Cell} (hobj : ∀ z, cell.vm ≠ .statics z) (hk0 : ∃ z, s0.vm.classes[cell.cls]? = some z) (x : ExceptionTableEntry) (rest : List ExceptionTableEntry) (hx : covers x f.pc = true) (h0 : x.catchType ≠ 0) (hend : ∃ k, s0.vm.ClassLinks e.platform f.method.cls x.catchType k ∧ s0.vm.assignable cell.cls k = true) :
    ∀ (pre : List ExceptionTableEntry) (S : State), s0.WarmedH S.vm → S.heap[a]? = some cell → (∀ y ∈ pre, covers y f.pc = true ∧ y.catchType ≠ 0 ∧ ∃ k, s0.vm.ClassLinks e.platform f.method.cls y.catchType k ∧ s0.vm.assignable cell.cls k = false) →
      ∃ vm', s0.WarmedH vm' ∧ ∀ (Q : Handler → Pre) (E : CtlPost) (d : Bool) (acts : List Action), Sem.wp (findHandler.go f a (pre ++ x :: rest)) Q E e d acts S ↔ Q (.found x.handlerPc) d acts (S.setVm vm') := by
  obtain ⟨k0, hk0⟩ := hk0
  obtain ⟨kx, hlx, hfx⟩ := hend
  intro pre
  induction pre with
  | nil =>
    intro S hW hcell _
    obtain ⟨k0', hk0', -⟩ := hW.alike.2.2 _ _ hk0
    obtain ⟨dk, _, _, kt, hd, _, _, _, _, hkt, _, hopen⟩ := hlx.here
    obtain ⟨kt', hkt', -⟩ := hW.alike.2.2 _ _ hkt
    refine ⟨_, hW.noted hd hopen (State.rightAt_cls hlx), fun Q E d acts => ?_⟩
    rw [List.nil_append, fh_row hx h0 (hW.classLinks hlx) hcell hobj ⟨k0', hk0'⟩ ⟨kt', hkt'⟩, if_pos (by rw [hW.alike.assignable]; exact hfx)]
  | cons y ys ih =>
    intro S hW hcell hpass
    obtain ⟨k0', hk0', -⟩ := hW.alike.2.2 _ _ hk0
    obtain ⟨hcy, h0y, ky, hly, hny⟩ := hpass y (List.mem_cons_self ..)
    obtain ⟨dk, _, _, kt, hd, _, _, _, _, hkt, _, hopen⟩ := hly.here
    obtain ⟨kt', hkt', -⟩ := hW.alike.2.2 _ _ hkt
    obtain ⟨vm', hW', hq⟩ := ih (S.setVm (S.vm.noted f.method.cls y.catchType (.cls ky))) (hW.noted hd hopen (State.rightAt_cls hly)) hcell (fun z hz => hpass z (List.mem_cons_of_mem _ hz))
    refine ⟨vm', hW', fun Q E d acts => ?_⟩
    rw [List.cons_append, fh_row hcy h0y (hW.classLinks hly) hcell hobj ⟨k0', hk0'⟩ ⟨kt', hkt'⟩, if_neg (by rw [hW.alike.assignable, hny]; decide)]
    exact hq Q E d acts
theorem thr_step {S : State} {r : List Frame} {pc : Nat} {vm' : Vm} (hf : ∀ (Q : Handler → Pre) (E : CtlPost) (d : Bool) (acts : List Action), Sem.wp (findHandler f a) Q E e d acts S ↔ Q (.found pc) d acts (S.setVm vm')) : (stepThrowing e S a (.java f :: r)).1 = (S.setVm vm').setFrames (.java { f with pc := pc, stack := [.ref a] } :: r) := by
  simp only [stepThrowing, searchFrame, vmDo]
  generalize hr : Sem.go _ e false [] S = res
  obtain ⟨as, rfl, ha⟩ := Sem.eq_ok_of hr (a := Handler.found pc) (s' := S.setVm vm') (acts' := []) (by simp [hf _ _ _ _])
  rfl
end XH
section XT
variable {p : Program} {l : Launch} {e : Env} {R : Room} {s : State} {m : MethodId} {args : Array Value} {below : List Frame} {meth : Method} {c : Code} {H : Heap} {locs : List Loc} {cells slots : Nat} {Q : State → Prop}
variable {cc cb : ByteArray} {pc nL nLb index n : Nat} {ls : Array Slot} {rest : List Value} {K : State → Prop} {D : va_G} {A : Nat → Prop} {y : MethodName} {ret : Option FieldType} {rm : Room} {As : List Value} {own C : String}
def tabOf (c : Code) : List (Nat × Nat × Nat × Nat) := c.exceptionTable.toList.map (fun h => (h.startPc, h.endPc, h.handlerPc, h.catchType))
/-- no handler: out of the method -/
theorem WT.leave {g : JFrame} {a : Addr} {Qc : State → Outcome → State → Prop} {mc ms : Nat} {free : Addr → Prop} (hg : g.method = m) (hlocked : g.locked = none) (hentered : g.entered = []) (hlk : meth.locks = false) (hout : tabOf c = []) (h1 : cells ≤ mc) (h2 : slots ≤ ms) (hq : ∀ t : State, t.heap = H → s.WarmedH t.vm → Qc s (.threw a) t) (hf : ∀ q ∈ locs, free q.base) : WT p l e R s m args below meth c H locs cells slots (MQX below Qc s mc ms free) a g := by
  intro T hT X
  have hnil : c.exceptionTable.toList = [] := List.map_eq_nil_iff.mp hout
  obtain ⟨a1, a2, a3, a4, a5⟩ := X.leaveThrown a hg hlocked hentered (fun x hx => by rw [hnil] at hx; cases hx) hlk
  exact ⟨_, a1, .threw a, a2, a3, hq _ hT a4, locs, ⟨a4, a5.mono h1 h2⟩, hf⟩
/-- the j-th of the handlers, which all cover the place, takes it -/
theorem WT.take {g : JFrame} {a : Addr} {tb : List (Nat × Nat × Nat × Nat)} {ce : Cell} {ex : String} {k : ClassId} (hg : g.method = m) (hown : s.vm.findClass own = some m.cls) (htb : tabOf c = tb) (hcell : H[a]? = some ce) (hvm : ce.vm = .none) (hex : s.vm.findClass ex = some k) (hcls : ce.cls = k) (names : List String)
    (hcov : ∀ q ∈ tb, q.1 ≤ g.pc ∧ g.pc < q.2.1 ∧ q.2.2.2 ≠ 0) (hlinks : ∀ (i : Nat) (q : Nat × Nat × Nat × Nat) (nm : String), tb[i]? = some q → names[i]? = some nm → (Cond.classLink own q.2.2.2 nm).before args s = true) (j : Nat) {q0 : Nat × Nat × Nat × Nat} {nm0 : String} (hj : tb[j]? = some q0) (hnj : names[j]? = some nm0)
    (hno : ∀ (i : Nat) (nm : String), i < j → names[i]? = some nm → va_Nc ex nm s) (hlen : j < names.length) (hyes : va_Nw (.castable ex nm0) s) (kk : W p l e R s m args below meth c H locs cells slots Q { g with pc := q0.2.2.1, stack := [.ref a] }) : WT p l e R s m args below meth c H locs cells slots Q a g := by
  subst hg
  subst hcls
  intro T hT X
  have hpl : e.platform.magicAccessors = ({} : Platform).magicAccessors := by rw [X.admits.platform]
  have hlk : ∀ (i : Nat) (x : ExceptionTableEntry) (nm : String), c.exceptionTable.toList[i]? = some x → names[i]? = some nm → ∃ k, s.vm.findClass nm = some k ∧ s.vm.ClassLinks e.platform g.method.cls x.catchType k := by
    intro i x nm hi hn
    refine Cond.classLink_spec hown (hlinks i (x.startPc, x.endPc, x.handlerPc, x.catchType) nm ?_ hn) e.platform hpl
    rw [← htb, tabOf, List.getElem?_map, hi]; rfl
  have hcv : ∀ x ∈ c.exceptionTable.toList, covers x g.pc = true ∧ x.catchType ≠ 0 := by
    intro x hx
    have := hcov (x.startPc, x.endPc, x.handlerPc, x.catchType) (by rw [← htb, tabOf]; exact List.mem_map.mpr ⟨x, hx, rfl⟩)
    exact ⟨by simp only [covers, Bool.and_eq_true, decide_eq_true_eq]; exact ⟨this.1, this.2.1⟩, this.2.2⟩
  obtain ⟨x, hxj, hxq⟩ : ∃ x, c.exceptionTable.toList[j]? = some x ∧ (x.startPc, x.endPc, x.handlerPc, x.catchType) = q0 := by
    rw [← htb, tabOf, List.getElem?_map, Option.map_eq_some_iff] at hj
    exact hj
  have hsplit : c.exceptionTable.toList = c.exceptionTable.toList.take j ++ x :: c.exceptionTable.toList.drop (j + 1) := by
    have hlt := (List.getElem?_eq_some_iff.mp hxj)
    obtain ⟨hl1, hl2⟩ := hlt
    rw [← hl2, ← List.drop_eq_getElem_cons hl1, List.take_append_drop]
  obtain ⟨kx, hkx1, hkx2⟩ := hlk j x nm0 hxj hnj
  have hcast := va_Nw.use (A := args) rfl hyes
  obtain ⟨c3, cT, hc3, hcT, hasg⟩ := Cond.castable_spec hcast
  cases hex.symm.trans hc3
  cases hkx1.symm.trans hcT
  obtain ⟨z0, hz0⟩ := Vm.classAt_of_findClass hex
  have hcellT : T.heap[a]? = some ce := by rw [hT]; exact hcell
  obtain ⟨vm', hW', hq⟩ := fh_walk (e := e) (a := a) (f := g) (s0 := s) (cell := ce) (fun z => by rw [hvm]; intro h; cases h) ⟨z0, hz0⟩ x (c.exceptionTable.toList.drop (j + 1)) (hcv x (List.mem_of_getElem? hxj)).1 (hcv x (List.mem_of_getElem? hxj)).2 ⟨_, hkx2, hasg⟩ (c.exceptionTable.toList.take j) ((T.setTop g).pushFrame (.throwing a)) X.warmed hcellT (fun y hy => by
    obtain ⟨i, hi⟩ := List.getElem?_of_mem hy
    rw [List.getElem?_take] at hi
    split at hi
    · rename_i hij
      obtain ⟨nm, hnm⟩ : ∃ nm, names[i]? = some nm := ⟨_, List.getElem?_eq_getElem (Nat.lt_trans hij hlen)⟩
      obtain ⟨ky, hky1, hky2⟩ := hlk i y nm hi hnm
      obtain ⟨c5, t5, w1, w2, w3⟩ := hno i nm hij hnm
      cases hex.symm.trans w1
      cases hky1.symm.trans w2
      have hm := List.mem_of_getElem? hi
      exact ⟨(hcv y hm).1, (hcv y hm).2, _, hky2, w3⟩
    · cases hi)
  have hfind : ∀ (Q : Handler → Pre) (E : CtlPost) (d : Bool) (acts : List Action), Sem.wp (findHandler g a) Q E e d acts ((T.setTop g).pushFrame (.throwing a)) ↔ Q (.found x.handlerPc) d acts (((T.setTop g).pushFrame (.throwing a)).setVm vm') := by
    intro Q E d acts
    have hm' : ((T.setTop g).pushFrame (.throwing a)).vm.method? g.method = some meth := X.method'
    rw [W.findHandler_eq hm' X.code, hsplit]
    exact hq Q E d acts
  obtain ⟨t, h1, h2⟩ := kk (T.setVm vm') hT (X.noted hW')
  refine ⟨t, ?_, h2⟩
  obtain ⟨hgo, hw⟩ := X.here.throwing a
  refine Steps.head hgo hw ?_
  obtain ⟨g₀, hg0⟩ := Option.isSome_iff_exists.mp X.here.top
  obtain ⟨r, hr⟩ := State.topJava?_eq_some.mp hg0
  rw [stepThread_throwing (frames_entered X.here.top _), thr_step hfind]
  have e1 : (((T.setTop g).pushFrame (.throwing a)).setVm vm').setFrames (.java { g with pc := x.handlerPc, stack := [.ref a] } :: T.frames.tail) = (T.setVm vm').setTop { g with pc := q0.2.2.1, stack := [.ref a] } := by
    rw [State.setTop_of_frames (s := T.setVm vm') _ (show (T.setVm vm').frames = _ from hr), State.pushFrame, State.setTop_of_frames _ hr, hr, ← hxq, State.setFrames_setFrames, show ∀ F, (T.setFrames F).setVm vm' = (T.setVm vm').setFrames F from fun _ => rfl, State.setFrames_setFrames]
    rfl
  rw [e1]
  exact h1
/-- what a method that may throw comes to -/
def qX (D : va_G) (A : Nat → Prop) (ws : va_W) (Post : Option Value → va_W → Prop) (Exc : String → Prop) : State → Outcome → State → Prop := fun st o t => ((∃ (r : Option Value) (ws' : va_W), o = .returned r ∧ Post r ws' ∧ va_P D vwCl ws' t.heap ∧ va_D A ws') ∨ (∃ (a : Addr) (ex : String) (k : ClassId) (ce : Cell), o = .threw a ∧ Exc ex ∧ st.vm.findClass ex = some k ∧ t.heap[a]? = some ce ∧ ce.cls = k ∧ ce.vm = .none ∧ va_P D vwCl ws t.heap ∧ va_D A ws)) ∧ va_F A st t
/-- what is written is no cell of statics -/
def nS (A : Nat → Prop) (H : Heap) : Prop := ∀ (q : Nat) (cell : Cell), A q → H[q]? = some cell → cell.vm.isStatics = false
/-- the contract of a method that may throw, or has handlers (tb) -/
def cX (l : Launch) (K : State → Prop) (H00 : Heap) (D : va_G) (y : MethodName) (cc : ByteArray) (nL : Nat) (ret : Option FieldType) (tb : List (Nat × Nat × Nat × Nat)) (rm : Room) (av : List Value) (ws : va_W) (Post : Option Value → va_W → Prop) (Exc : String → Prop) : Prop :=
  ∀ (p : Program) (e : Env) (s : State) (m : MethodId) (below : List Frame) (meth : Method) (c : Code) (A : Nat → Prop), p.tables.exec = Jvm.exec → l.admits e → c.code = cc → c.maxLocals = nL → tabOf c = tb → s.vm.findClass y.cls = some m.cls → (∀ w ∈ lw_all, w.before av.toArray s = true) → meth.sig.returnType = ret → meth.locks = false → K s → (∀ q : Nat, s.heap.size ≤ q → A q) → (∀ q : Nat, A q → H00.size ≤ q) → (H00.size ≤ s.heap.size ∧ ∀ q : Nat, q < H00.size → s.heap[q]? = H00[q]?) → nS A s.heap → uW D A s.heap s.heap [] ws → ∀ ls : Array Slot, lv_has ls nL (lv_args 0 av) → W p l e rm s m av.toArray below meth c s.heap [] 0 0 (MQX below (qX D A ws Post Exc) s rm.cells rm.slots A) (F0 m 0 ls [])
theorem nS_A {ws : va_W} {H : Heap} (hP : va_P D vwCl ws H) : nS (va_A ws H.size) H := by
  intro q cell hq hc
  rcases hq with ⟨k, q2, hk⟩ | hq
  · have h := hP k _ hk
    cases q2 with
    | inl z =>
      have h : H[q]? = some (vp_cell z.1 z.2) := h
      rw [hc] at h
      cases h
      obtain ⟨cA, n, w⟩ := z
      rcases w with w | w | w | w | w <;> rfl
    | inr o =>
      obtain ⟨r, -, cell', h1, -, h3, -⟩ := h
      have h1 : H[q]? = some cell' := h1
      cases hc.symm.trans h1
      rw [h3]; rfl
  · have := (Array.getElem?_eq_some_iff.mp hc).1
    omega
end XT
