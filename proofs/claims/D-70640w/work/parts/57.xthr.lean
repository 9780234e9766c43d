/-! what the machine throws, in a walk -/
/-- an exception of that class lies at a -/
def XO (cls : String) (s : State) (H : Heap) (a : Addr) : Prop := ∃ (k : ClassId) (ce : Cell), s.vm.findClass cls = some k ∧ H[a]? = some ce ∧ ce.cls = k ∧ ce.vm = .none
/-- what a walk that may throw knows -/
def XV (D : va_G) (d : Nat → ClassId) (e0 : Nat) (H00 : Heap) (A : Nat → Prop) (e : Env) (s : State) (args : Array Value) : Prop := e.platform.stackTraces = false ∧ (∀ w ∈ lw_all, w.before args s = true) ∧ KE D d e0 H00 s ∧ (H00.size ≤ s.heap.size ∧ ∀ q : Nat, q < H00.size → s.heap[q]? = H00[q]?) ∧ nS A s.heap ∧ (∀ q : Nat, s.heap.size ≤ q → A q)
theorem Stand.more {p : Program} {l : Launch} {e : Env} {R : Room} {s : State} {m : MethodId} {args : Array Value} {below : List Frame} {meth : Method} {c : Code} {T : State} {locs : List Loc} {cells slots c2 s2 : Nat} (X : Stand p l e R s m args below meth c T locs cells slots) (h1 : cells ≤ c2) (h2 : slots ≤ s2) : Stand p l e R s m args below meth c T locs c2 s2 :=
  ⟨X.admits, X.cas, X.clock, X.frames, X.room, X.hears, X.method, X.code, X.here, X.tail, X.warmed, X.limits, X.bytes, X.same.mono h1 h2⟩
theorem uW.grown {D : va_G} {A : Nat → Prop} {H0 H H' : Heap} {locs locs' : List Loc} {ws : va_W} (hu : uW D A H0 H locs ws) (hA : ∀ q : Nat, H0.size ≤ q → A q) (hs : H.size ≤ H'.size) (hq : ∀ q, q < H.size → H'[q]? = H[q]?) (hl : ∀ y ∈ locs', y ∈ locs ∨ H.size ≤ y.base) : uW D A H0 H' locs' ws := by
  obtain ⟨hP, hD, hS⟩ := hu
  refine ⟨hP.kept (fun k q hk => hq q.1 (hP k q hk).lt), hD, Nat.le_trans hS.1 hs, fun q h1 h2 => ?_, fun y hy => ?_⟩
  · rw [hq q (Nat.lt_of_lt_of_le h1 hS.1)]
    exact hS.2.1 q h1 h2
  · rcases hl y hy with h | h
    · exact hS.2.2 y h
    · exact hA _ (Nat.le_trans hS.1 h)
section XR
variable {p : Program} {l : Launch} {e : Env} {R : Room} {s : State} {m : MethodId} {args : Array Value} {below : List Frame} {meth : Method} {c : Code} {H : Heap} {locs : List Loc} {cells slots : Nat} {Q : State → Prop}
variable {cc : ByteArray} {pc nL : Nat} {ls : Array Slot} {rest : List Value} {D : va_G} {d : Nat → ClassId} {e0 : Nat} {H00 : Heap} {A : Nat → Prop} {ws : va_W} {lv : List (Nat × Value)}
theorem thr_M {cls : String} {names : List String} (hat : ∀ w ∈ Bundle.messageArmAtoms cls names, w.before args s = true) (hcls : Bundle.fit cls = true) (hnames : ∀ n ∈ names, Bundle.fit n = true) (hsoe : (cls == "java/lang/StackOverflowError") = false) (hoom : (cls == "java/lang/OutOfMemoryError") = false) (hnl : names.length ≤ 3)
    (hx : p.tables.exec = Jvm.exec) (hv : XV D d e0 H00 A e s args) (hml : c.maxLocals = nL) (hls : lv_has ls nL lv) (hu : uW D A s.heap H locs ws) (hR : 8 ≤ R.frames) (hlo : (rest.map fun v => v.category).sum + 10240 ≤ R.locals) (hc : cells + 3 ≤ R.cells) (hsl : slots + 1000 ≤ R.slots) {g : JFrame}
    (law : ∀ T : State, T.heap = H → Stand p l e R s m args below meth c T locs cells slots → ∃ (T2 : State) (text : String), T2.heap = H ∧ Stand p l e R s m args below meth c T2 locs cells slots ∧ (text == notModelled) = false ∧ (stringBytes (stringToUtf16 text)).size ≤ 990 ∧ ∀ target, Steps p.tables e below ((T2.setTop (F0 m pc ls rest)).pushFrame (.throwNew cls (some text) none)) target → Steps p.tables e below (T.setTop g) target)
    (kt : ∀ (H' : Heap) (locs' : List Loc) (a : Addr), uW D A s.heap H' locs' ws → XO cls s H' a → WT p l e R s m args below meth c H' locs' (cells + 3) (slots + 1000) Q a (F0 m pc ls rest)) : W p l e R s m args below meth c H locs cells slots Q g := by
  intro T hT X
  obtain ⟨T2, text, hT2, X2, ht1, ht2, hst⟩ := law T hT X
  obtain ⟨U, locs', n, h1, h2, h3, h4, h5, ⟨k, ce, h6, h7, h8, h9⟩, h10⟩ := msgNote X2 hx hv.1 hcls hnames hsoe hoom hat (fun x hxl cell hcell => hv.2.2.2.2.1 _ _ (hu.2.2.2.2 x hxl) hcell) ht1 (Nat.le_trans ht2 (by decide)) (g := F0 m pc ls rest) rfl (by show ls.size = _; rw [hml]; exact hls.1) (by omega) (by simpa [JFrame.monitorRoom, F0] using hlo) (by omega) hc (by omega)
  rw [hT2] at h3 h4 h5 h7 h10
  obtain ⟨t, k1, k2⟩ := kt U.heap locs' _ (hu.grown hv.2.2.2.2.2 h5 h4 (fun y hy => (h3 y hy).imp id (fun q => by rw [q]; first | exact Nat.le_add_right _ _ | exact Nat.le_refl _))) ⟨k, ce, h6, h7, h8, h9⟩ U rfl (h2.more (Nat.le_refl _) (by omega))
  exact ⟨t, hst _ (h10 _ k1), k2⟩
theorem thr_N (hx : p.tables.exec = Jvm.exec) (hv : XV D d e0 H00 A e s args) (hml : c.maxLocals = nL) (hls : lv_has ls nL lv) (hu : uW D A s.heap H locs ws) (hR : 8 ≤ R.frames) (hlo : (rest.map fun v => v.category).sum + 10240 ≤ R.locals) (hc : cells + 3 ≤ R.cells) (hsl : slots + 1000 ≤ R.slots) {g : JFrame}
    (law : ∀ T : State, T.heap = H → Stand p l e R s m args below meth c T locs cells slots → ∀ target, Steps p.tables e below ((T.setTop (F0 m pc ls rest)).pushFrame (.throwNew "java/lang/NullPointerException" none none)) target → Steps p.tables e below (T.setTop g) target)
    (kt : ∀ (H' : Heap) (locs' : List Loc) (a : Addr), uW D A s.heap H' locs' ws → XO "java/lang/NullPointerException" s H' a → WT p l e R s m args below meth c H' locs' (cells + 3) (slots + 1000) Q a (F0 m pc ls rest)) : W p l e R s m args below meth c H locs cells slots Q g := by
  intro T hT X
  have hst := law T hT X
  obtain ⟨U, locs', h2, h3, h4, h5, ⟨k, ce, h6, h7, h8, h9⟩, h10⟩ := npeNote X hx hv.1 (at_N hv.2.1 hv.2.2.1 hv.2.2.2.1) (fun x hxl cell hcell => hv.2.2.2.2.1 _ _ (hu.2.2.2.2 x hxl) hcell) (g := F0 m pc ls rest) rfl (by show ls.size = _; rw [hml]; exact hls.1) (by omega) (by simpa [JFrame.monitorRoom, F0] using hlo) (by omega) (by omega)
  rw [hT] at h3 h4 h5 h7 h10
  obtain ⟨t, k1, k2⟩ := kt U.heap locs' _ (hu.grown hv.2.2.2.2.2 h5 h4 (fun y hy => (h3 y hy).imp id (fun q => by rw [q]; first | exact Nat.le_add_right _ _ | exact Nat.le_refl _))) ⟨k, ce, h6, h7, h8, h9⟩ U rfl (h2.more (by omega) (by omega))
  exact ⟨t, hst _ (h10 _ k1), k2⟩
end XR
