/-! rows of System.arraycopy that throw -/
section VR
variable {p : Program} {l : Launch} {e : Env} {R : Room} {s : State} {m : MethodId} {args : Array Value} {below : List Frame} {meth : Method} {c : Code} {H : Heap} {locs : List Loc} {cells slots : Nat} {Q : State → Prop}
variable {cc : ByteArray} {pc nL : Nat} {ls : Array Slot} {rest : List Value} {D : va_G} {d : Nat → ClassId} {e0 : Nat} {H00 : Heap} {A : Nat → Prop} {ws : va_W} {lv : List (Nat × Value)}
theorem thrV_M {cls : String} {names : List String} (hat : ∀ w ∈ Bundle.messageArmAtoms cls names, w.before args s = true) (hcls : Bundle.fit cls = true) (hnames : ∀ n ∈ names, Bundle.fit n = true) (hsoe : (cls == "java/lang/StackOverflowError") = false) (hoom : (cls == "java/lang/OutOfMemoryError") = false) (hnl : names.length ≤ 3)
    (hx : p.tables.exec = Jvm.exec) (hv : XV D d e0 H00 A e s args) (hml : c.maxLocals = nL) (hls : lv_has ls nL lv) (hu : uW D A s.heap H locs ws) (hR : 9 ≤ R.frames) (hlo : (rest.map fun v => v.category).sum + 10240 ≤ R.locals) (hc : cells + 3 ≤ R.cells) (hsl : slots + 1000 ≤ R.slots) {g : JFrame}
    (law : ∀ T : State, T.heap = H → Stand p l e R s m args below meth c T locs cells slots → ∃ (T2 : State) (nf : NFrame) (text : String), T2.heap = H ∧ Stand p l e R s m args below meth c T2 locs cells slots ∧ (Frame.native nf).words = 0 ∧ nf.awaiting = false ∧ nf.locked = none ∧ (text == notModelled) = false ∧ (stringBytes (stringToUtf16 text)).size ≤ 990 ∧ ∀ target, Steps p.tables e below (T2.setFrames (.throwNew cls (some text) none :: .native nf :: .java (F0 m pc ls rest) :: below)) target → Steps p.tables e below (T.setTop g) target)
    (kt : kT p l e R s m args below meth c (cells + 3) (slots + 1000) Q D A ws cls (F0 m pc ls rest)) : W p l e R s m args below meth c H locs cells slots Q g := by
  intro T hT X
  obtain ⟨T2, nf, text, hT2, X2, hw1, hw2, hw3, ht1, ht2, hst⟩ := law T hT X
  obtain ⟨U, locs', n, h1, h2, h3, h4, h5, ⟨k, ce, h6, h7, h8, h9⟩, h10⟩ := natMsg X2 hx hv.1 hcls hnames hsoe hoom hat (fun x hxl cell hcell => hv.2.2.2.2.1 _ _ (hu.2.2.2.2 x hxl) hcell) ht1 (Nat.le_trans ht2 (by decide)) hw1 hw2 hw3 (g := F0 m pc ls rest) rfl (by show ls.size = _; rw [hml]; exact hls.1) (by omega) (by simpa [JFrame.monitorRoom, F0] using hlo) (by omega) hc (by omega)
  rw [hT2] at h3 h4 h5 h7 h10
  obtain ⟨t, k1, k2⟩ := kt U.heap locs' _ (hu.grown hv.2.2.2.2.2 h5 h4 (fun y hy => (h3 y hy).imp id (fun q => by rw [q]; first | exact Nat.le_add_right _ _ | exact Nat.le_refl _))) ⟨k, ce, h6, h7, h8, h9⟩ U rfl (h2.more (Nat.le_refl _) (by omega))
  exact ⟨t, hst _ (h10 _ k1), k2⟩
theorem thrV_N (hx : p.tables.exec = Jvm.exec) (hv : XV D d e0 H00 A e s args) (hml : c.maxLocals = nL) (hls : lv_has ls nL lv) (hu : uW D A s.heap H locs ws) (hR : 9 ≤ R.frames) (hlo : (rest.map fun v => v.category).sum + 10240 ≤ R.locals) (hc : cells + 3 ≤ R.cells) (hsl : slots + 1000 ≤ R.slots) {g : JFrame}
    (law : ∀ T : State, T.heap = H → Stand p l e R s m args below meth c T locs cells slots → ∃ (T2 : State) (nf : NFrame), T2.heap = H ∧ Stand p l e R s m args below meth c T2 locs cells slots ∧ (Frame.native nf).words = 0 ∧ nf.awaiting = false ∧ nf.locked = none ∧ ∀ target, Steps p.tables e below (T2.setFrames (.throwNew "java/lang/NullPointerException" none none :: .native nf :: .java (F0 m pc ls rest) :: below)) target → Steps p.tables e below (T.setTop g) target)
    (kt : kT p l e R s m args below meth c (cells + 3) (slots + 1000) Q D A ws "java/lang/NullPointerException" (F0 m pc ls rest)) : W p l e R s m args below meth c H locs cells slots Q g := by
  intro T hT X
  obtain ⟨T2, nf, hT2, X2, hw1, hw2, hw3, hst⟩ := law T hT X
  obtain ⟨U, locs', h2, h3, h4, h5, ⟨k, ce, h6, h7, h8, h9⟩, h10⟩ := natNpe X2 hx hv.1 (at_N hv.2.1 hv.2.2.1 hv.2.2.2.1) (fun x hxl cell hcell => hv.2.2.2.2.1 _ _ (hu.2.2.2.2 x hxl) hcell) hw1 hw2 hw3 (g := F0 m pc ls rest) rfl (by show ls.size = _; rw [hml]; exact hls.1) (by omega) (by simpa [JFrame.monitorRoom, F0] using hlo) (by omega) (by omega)
  rw [hT2] at h3 h4 h5 h7 h10
  obtain ⟨t, k1, k2⟩ := kt U.heap locs' _ (hu.grown hv.2.2.2.2.2 h5 h4 (fun y hy => (h3 y hy).imp id (fun q => by rw [q]; first | exact Nat.le_add_right _ _ | exact Nat.le_refl _))) ⟨k, ce, h6, h7, h8, h9⟩ U rfl (h2.more (by omega) (by omega))
  exact ⟨t, hst _ (h10 _ k1), k2⟩
/-- the call of System.arraycopy, up to the machine's note over its frame -/
theorem cpCall {T : State} (X : Stand p l e R s m args below meth c T locs cells slots) (hx : p.tables.exec = Jvm.exec) (hb : c.code = cc) (hml : c.maxLocals = nL) (hl : ls.size = nL) {own : String} {index : Nat} (hown : s.vm.findClass own = some m.cls) (hlink : (Cond.methodLink own index arraycopyName).before args s = true) (hnat : (Cond.native arraycopyName).before args s = true) (hstat : (Cond.static arraycopyName).before args s = true) (hini : (Cond.initialized "java/lang/System").before args s = true)
    {v0 v1 : Value} (h0 : v0 = .null ∨ ∃ a, v0 = .ref a) (h1 : v1 = .null ∨ ∃ a, v1 = .ref a) {i j n : Int32} {cls : String} {msg : Option String} (hw : ∀ S : State, S.heap = T.heap → s.vm.Alike S.vm → ∀ E : CtlPost, (∀ acts', E (.throwNew cls msg) acts' S) → wp (Native.java_lang_System.arraycopy.sem #[v0, .int i, v1, .int j, .int n]) (fun _ _ _ _ => False) E e false [] S)
    (hdg : decode cc pc = .ok (.invokestatic index, 3)) (hframes : 1 ≤ R.frames) (hlocals : (rest.map fun v => v.category).sum + (nativeFrameWords "java/lang/System" "arraycopy" 5 + 11) ≤ R.locals) :
    ∃ (T2 : State) (nf : NFrame), T2.heap = T.heap ∧ Stand p l e R s m args below meth c T2 locs cells slots ∧ (Frame.native nf).words = 0 ∧ nf.awaiting = false ∧ nf.locked = none ∧ ∀ target, Steps p.tables e below (T2.setFrames (.throwNew cls msg none :: .native nf :: .java (F0 m pc ls rest) :: below)) target → Steps p.tables e below (T.setTop (F0 m pc ls (.int n :: .int j :: v1 :: .int i :: v0 :: rest))) target := by
  obtain ⟨r, kS, methS, hnS, hmS, hkS, N⟩ := NativeOf.of_static hnat hstat (ps := [.object "java/lang/Object", .int, .object "java/lang/Object", .int, .int]) (ret := none) (by decide +kernel)
  have hinitS : kS.init = .initialized := Cond.initialized_spec (findClass_of_methodNamed hnS) hkS hini
  obtain ⟨vm', X', step⟩ := X.invokestatic hx hown hlink hnS hmS N.static hkS hinitS (by decide) (g := F0 m pc ls (.int n :: .int j :: v1 :: .int i :: v0 :: rest)) rfl (argsL := [v0, .int i, v1, .int j, .int n]) (rest := rest) (by rw [N.sig]; rfl) rfl (by rw [hb]; exact hdg)
  have hA' : s.vm.Alike vm' := X'.warmed.alike
  obtain ⟨kS', N'⟩ := N.alike hA'
  have hseen : seenByNative methS #[v0, .int i, v1, .int j, .int n] = #[v0, .int i, v1, .int j, .int n] := by
    rcases h0 with rfl | ⟨a, rfl⟩ <;> rcases h1 with rfl | ⟨b, rfl⟩ <;> simp [seenByNative, N'.static, N'.sig, narrow]
  have hops : operandWords (#[v0, .int i, v1, .int j, .int n] : Array Value).toList = 5 := by
    rcases h0 with rfl | ⟨a, rfl⟩ <;> rcases h1 with rfl | ⟨b, rfl⟩ <;> rfl
  refine ⟨T.setVm vm', { method := r, args := seenByNative methS #[v0, .int i, v1, .int j, .int n], locked := none }, rfl, X', rfl, rfl, rfl, fun target hrest => step target fun acts => ?_⟩
  have hat : At (T.setVm vm') (F0 m pc ls rest).method c below := X'.here
  refine nv_call (g := F0 m pc ls rest) (row := arraycopyRow) hat acts N'.cls N'.meth N'.boot N'.native N'.noCode N'.noLock (by rw [N'.className, N'.name, N'.desc]; exact arraycopy_row p)
    (by rw [N'.className, N'.name]
        show e.platform.stackFull _ _ (nativeFrameWords "java/lang/System" "arraycopy" (operandWords (#[v0, .int i, v1, .int j, .int n] : Array Value).toList)) = false
        rw [hops]
        exact X'.notFull (g := F0 m pc ls rest) (by show ls.size = _; rw [hml]; exact hl) (vars := nativeFrameWords "java/lang/System" "arraycopy" 5) hframes (by show 2 * 0 + (rest.map fun v => v.category).sum + _ ≤ _; omega))
    (cls := cls) (msg := msg) (fun E hE => ?_) ?_
  · rw [arraycopyRow_sem]
    have h9 := hw (((T.setVm vm').setTop (F0 m pc ls rest)).pushFrame (.native { method := r, args := seenByNative methS #[v0, .int i, v1, .int j, .int n], locked := none })) rfl hA' E hE
    have e2 : Native.java_lang_System.arraycopy.sem (seenByNative methS #[v0, .int i, v1, .int j, .int n]) = Native.java_lang_System.arraycopy.sem #[v0, .int i, v1, .int j, .int n] := by rw [hseen]
    show wp (Native.java_lang_System.arraycopy.sem (seenByNative methS #[v0, .int i, v1, .int j, .int n])) _ E e false [] _
    rw [e2]
    exact h9
  · obtain ⟨g9, hfr9⟩ := X'.frames_eq
    have hcur9 := State.cur_lt_of_frames hfr9
    have e1 : (((T.setVm vm').setTop (F0 m pc ls rest)).pushFrame (.native { method := r, args := seenByNative methS #[v0, .int i, v1, .int j, .int n], locked := none })) = (T.setVm vm').setFrames (.native { method := r, args := seenByNative methS #[v0, .int i, v1, .int j, .int n], locked := none } :: .java (F0 m pc ls rest) :: below) := by
      rw [State.pushFrame, State.frames_setTop _ hfr9, State.setTop_of_frames _ hfr9, State.setFrames_setFrames]
    show Steps p.tables e below ((((T.setVm vm').setTop (F0 m pc ls rest)).pushFrame (.native { method := r, args := seenByNative methS #[v0, .int i, v1, .int j, .int n], locked := none })).pushFrame (.throwNew cls msg none)) target
    rw [e1, State.pushFrame, State.frames_setFrames _ hcur9, State.setFrames_setFrames]
    exact hrest
def rV (R : Room) (rest : List Value) (cells slots : Nat) : Prop := 9 ≤ R.frames ∧ (rest.map fun v => v.category).sum + 10240 ≤ R.locals ∧ cells + 3 ≤ R.cells ∧ slots + 1000 ≤ R.slots
theorem tV_N (hx : p.tables.exec = Jvm.exec) (hb : c.code = cc) (hv : XV D d e0 H00 A e s args) (hml : c.maxLocals = nL) (hls : lv_has ls nL lv) (hu : uW D A s.heap H locs ws) (hR : rV R rest cells slots) (hown : s.vm.findClass RX0 = some m.cls)
    {v0 v1 : Value} (h01 : (v0 = .null ∧ (v1 = .null ∨ ∃ a, v1 = .ref a)) ∨ ((∃ a, v0 = .ref a) ∧ v1 = .null)) {i j n : Int32} (hdg : decode cc pc = .ok (.invokestatic 131, 3)) (kt : kT p l e R s m args below meth c (cells + 3) (slots + 1000) Q D A ws nmN (F0 m pc ls rest)) : W p l e R s m args below meth c H locs cells slots Q (F0 m pc ls (.int n :: .int j :: v1 :: .int i :: v0 :: rest)) := by
  refine thrV_N hx hv hml hls hu hR.1 hR.2.1 hR.2.2.1 hR.2.2.2 (fun T hT X => ?_) kt
  have hlo := hR.2.1
  have hfr := hR.1
  obtain ⟨T2, nf, a1, a2, a3, a4, a5, a6⟩ := cpCall (rest := rest) (v0 := v0) (v1 := v1) (i := i) (j := j) (n := n) (cls := "java/lang/NullPointerException") (msg := none) X hx hb hml hls.1 hown (hv.2.1 _ q399) (hv.2.1 _ q401) (hv.2.1 _ q400) (hv.2.1 _ q67)
    (by rcases h01 with ⟨h, -⟩ | ⟨h, -⟩; exact Or.inl h; exact Or.inr h) (by rcases h01 with ⟨-, h⟩ | ⟨-, h⟩; exact h; exact Or.inl h) (fun S _ _ E hE => by
      rcases h01 with ⟨rfl, -⟩ | ⟨⟨a, rfl⟩, rfl⟩
      · exact cp_null1 _ E hE
      · exact cp_null2 E hE) hdg (by omega) (by
        have : nativeFrameWords "java/lang/System" "arraycopy" 5 = 7 := by decide
        omega)
  exact ⟨T2, nf, a1.trans hT, a2, a3, a4, a5, a6⟩
theorem tV_M {cls : String} {names : List String} (hat : ∀ w ∈ Bundle.messageArmAtoms cls names, w.before args s = true) (hcls : Bundle.fit cls = true) (hnames : ∀ n ∈ names, Bundle.fit n = true) (hsoe : (cls == "java/lang/StackOverflowError") = false) (hoom : (cls == "java/lang/OutOfMemoryError") = false) (hnl : names.length ≤ 3)
    (hx : p.tables.exec = Jvm.exec) (hb : c.code = cc) (hv : XV D d e0 H00 A e s args) (hml : c.maxLocals = nL) (hls : lv_has ls nL lv) (hu : uW D A s.heap H locs ws) (hR : rV R rest cells slots) (hown : s.vm.findClass RX0 = some m.cls)
    {a0 a1 : Addr} {i j n : Int32} (hw : cpM e H s.vm #[.ref a0, .int i, .ref a1, .int j, .int n] cls) (hdg : decode cc pc = .ok (.invokestatic 131, 3)) (kt : kT p l e R s m args below meth c (cells + 3) (slots + 1000) Q D A ws cls (F0 m pc ls rest)) : W p l e R s m args below meth c H locs cells slots Q (F0 m pc ls (.int n :: .int j :: .ref a1 :: .int i :: .ref a0 :: rest)) := by
  refine thrV_M hat hcls hnames hsoe hoom hnl hx hv hml hls hu hR.1 hR.2.1 hR.2.2.1 hR.2.2.2 (fun T hT X => ?_) kt
  have hlo := hR.2.1
  have hfr := hR.1
  obtain ⟨text, t1, t2, hw⟩ := hw
  obtain ⟨T2, nf, b1, b2, b3, b4, b5, b6⟩ := cpCall (rest := rest) (v0 := .ref a0) (v1 := .ref a1) (i := i) (j := j) (n := n) (cls := cls) (msg := some text) X hx hb hml hls.1 hown (hv.2.1 _ q399) (hv.2.1 _ q401) (hv.2.1 _ q400) (hv.2.1 _ q67)
    (Or.inr ⟨_, rfl⟩) (Or.inr ⟨_, rfl⟩) (fun S hS hV E hE => hw S (hS.trans hT) hV E hE) hdg (by omega) (by
        have : nativeFrameWords "java/lang/System" "arraycopy" 5 = 7 := by decide
        omega)
  exact ⟨T2, nf, text, b1.trans hT, b2, b3, b4, b5, t1, t2, b6⟩
end VR
