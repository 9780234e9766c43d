/-! generic contracts: cR (a method that only reads), cU (a method that changes its world), and the rows that begin, end and call them -/
set_option maxRecDepth 100000
abbrev vwCl : List vw_C := [(RX0, TX0, 20), (RX2, TX2, 29), (RX1, TX1, 1), (RX3, TX3, 5), (RX4, TX4, 6), (RX5, TX5, 7), (RJ2, TJ2, 3)]
def tysOf (d : Nat → ClassId) : List (ClassId × FieldType) := [(d 0, .int), (d 1, .boolean), (d 2, .byte), (d 3, .short), (d 4, .object "java/lang/Object"), (d 5, .object "MustardFast$Place")]
/-- the tables: every class and array class of the run has its number -/
def KM (D : va_G) (d : Nat → ClassId) (U : State) : Prop := va_K D vwCl (tysOf d) U ∧ U.vm.findClass "[I" = some (d 0) ∧ U.vm.findClass "[Z" = some (d 1) ∧ U.vm.findClass "[B" = some (d 2) ∧ U.vm.findClass "[S" = some (d 3)
/-- a fact of the tables that stays along a run -/
def Kst (K : State → Prop) : Prop := ∀ u U : State, u.WarmedH U.vm → K u → K U
theorem KM_st {D : va_G} {d : Nat → ClassId} : Kst (KM D d) := fun u U hW h => by
  obtain ⟨h0, h1, h2, h3, h4⟩ := h
  have hf : ∀ n, U.vm.findClass n = u.vm.findClass n := fun n => by first | exact hW.alike.findClass n | exact (hW.alike.findClass n).symm | simp [hW.alike.findClass]
  exact ⟨va_K.moved hW.alike h0, by rw [hf]; exact h1, by rw [hf]; exact h2, by rw [hf]; exact h3, by rw [hf]; exact h4⟩
/-- room: k frames deep, no cells -/
abbrev rk (k : Nat) : Room := { frames := k, cells := 0, slots := 0, locals := 40 * k }
/-- room: k frames deep, with cells and slots -/
abbrev rc (k mc ms : Nat) : Room := { frames := k, cells := mc, slots := ms, locals := 40 * k }
/-- a truth value on the stack -/
def bI (b : Bool) : Int32 := if b then 1 else 0
theorem bI_t : bI true = 1 := rfl
theorem bI_f : bI false = 0 := rfl
theorem bI_z {b : Bool} (h : bI b = 0) : b = false := by
  cases b
  · rfl
  · exact absurd h (by decide)
theorem bI_nz {b : Bool} (h : ¬ bI b = 0) : b = true := by
  cases b
  · exact absurd rfl h
  · rfl
theorem bI_nar (b : Bool) : narrow .boolean (.int (bI b)) = .int (bI b) := by cases b <;> rfl
def pIn (v lo hi : Int64) : Bool := decide (lo ≤ v) && decide (v ≤ hi)
def qR (r : Value) : Array Value → State → Outcome → State → Prop := fun _ st o t => o = .returned (some r) ∧ t.heap = st.heap
def cR (l : Launch) (K : State → Prop) (y : MethodName) (cc : ByteArray) (nL : Nat) (ret : Option FieldType) (rm : Room) (av : List Value) (HP : Heap → Prop) (r : Value) : Prop :=
  Met l y (ws_ y cc nL ret) rm (va_Pc av (fun U => HP U.heap ∧ K U)) (qR r) 0 0 (fun _ => False)
theorem cR_start {l : Launch} {K : State → Prop} {y : MethodName} {cc : ByteArray} {nL : Nat} {ret : Option FieldType} {rm : Room} {av : List Value} {HP : Heap → Prop} {r : Value} (own : String) (ho : y.cls = own) (hy : plainName y.cls = true) (hlen : (lg_sl av).length ≤ nL)
    (body : ∀ (p : Program) (e : Env) (s : State) (m : MethodId) (below : List Frame) (meth : Method) (c : Code), p.tables.exec = Jvm.exec → c.code = cc → c.maxLocals = nL → s.vm.findClass own = some m.cls → (∀ w ∈ lw_all, w.before av.toArray s = true) → meth.sig.returnType = ret → meth.locks = false → K s → HP s.heap → ∀ ls : Array Slot, lv_has ls nL (lv_args 0 av) → W p l e rm s m av.toArray below meth c s.heap [] 0 0 (MQ below (qR r) av.toArray s 0 0 (fun _ => False)) (F0 m 0 ls [])) : cR l K y cc nL ret rm av HP r := by
  refine Met.ofW (cc := cc) (maxL := nL) (ret := ret) hy rfl ?_
  intro p e s m args below meth c s₁ B hml hv
  obtain ⟨rfl, hHP, hK⟩ := hv
  have hts := atoms_spec (ws := ws_ y cc nL ret) B.pre
  have hts : ∀ w ∈ lw_all, w.before _ s = true := fun w h => hts w (List.mem_cons_of_mem _ h)
  have hl := lv_entry av (n := nL) hlen
  rw [lg_entry_eq]
  generalize (lg_sl av ++ List.replicate (nL - (lg_sl av).length) Slot.unset).toArray = ls at hl ⊢
  subst ho
  exact body p e s m below meth c B.exec B.bytes hml (findClass_of_methodNamed B.named) hts B.returns B.notSynchronized hK hHP ls hl
/-- a world in a walk: the cells, apart, in A; what isn't in A is as it was at H0 -/
def uW (D : va_G) (A : Nat → Prop) (H0 H : Heap) (locs : List Loc) (ws : va_W) : Prop := va_P D vwCl ws H ∧ va_D A ws ∧ va_S A H0 H locs
def qU (D : va_G) (A : Nat → Prop) (Post : Option Value → va_W → Prop) : Array Value → State → Outcome → State → Prop := fun _ st o t => (∃ (r : Option Value) (ws' : va_W), o = .returned r ∧ Post r ws' ∧ va_P D vwCl ws' t.heap ∧ va_D A ws') ∧ va_F A st t
def pU (D : va_G) (H00 : Heap) (ws : va_W) (sz : Nat) (K : State → Prop) (U : State) : Prop := U.heap.size = sz ∧ va_P D vwCl ws U.heap ∧ va_D (fun q => H00.size ≤ q) ws ∧ (H00.size ≤ U.heap.size ∧ ∀ q : Nat, q < H00.size → U.heap[q]? = H00[q]?) ∧ K U
def cU (l : Launch) (K : State → Prop) (H00 : Heap) (D : va_G) (y : MethodName) (cc : ByteArray) (nL : Nat) (ret : Option FieldType) (rm : Room) (av : List Value) (ws : va_W) (Post : Option Value → va_W → Prop) : Prop :=
  ∀ sz, Met l y (ws_ y cc nL ret) rm (va_Pc av (pU D H00 ws sz K)) (qU D (va_A ws sz) Post) rm.cells rm.slots (va_A ws sz)
theorem cU_start {l : Launch} {K : State → Prop} {H00 : Heap} {D : va_G} {y : MethodName} {cc : ByteArray} {nL : Nat} {ret : Option FieldType} {rm : Room} {av : List Value} {ws : va_W} {Post : Option Value → va_W → Prop} (own : String) (ho : y.cls = own) (hy : plainName y.cls = true) (hlen : (lg_sl av).length ≤ nL)
    (body : ∀ (p : Program) (e : Env) (s : State) (m : MethodId) (below : List Frame) (meth : Method) (c : Code) (A : Nat → Prop), p.tables.exec = Jvm.exec → c.code = cc → c.maxLocals = nL → s.vm.findClass own = some m.cls → (∀ w ∈ lw_all, w.before av.toArray s = true) → meth.sig.returnType = ret → meth.locks = false → (y.name = "<init>" → meth.name = "<init>") → K s → (∀ q : Nat, s.heap.size ≤ q → A q) → (∀ q : Nat, A q → H00.size ≤ q) → (H00.size ≤ s.heap.size ∧ ∀ q : Nat, q < H00.size → s.heap[q]? = H00[q]?) → uW D A s.heap s.heap [] ws → ∀ ls : Array Slot, lv_has ls nL (lv_args 0 av) → W p l e rm s m av.toArray below meth c s.heap [] 0 0 (MQ below (qU D A Post) av.toArray s rm.cells rm.slots A) (F0 m 0 ls [])) : cU l K H00 D y cc nL ret rm av ws Post := by
  intro sz
  refine Met.ofW (cc := cc) (maxL := nL) (ret := ret) hy rfl ?_
  intro p e s m args below meth c s₁ B hml hv
  obtain ⟨rfl, hsz, hP, hD, hZ, hK⟩ := hv
  subst hsz
  have hts := atoms_spec (ws := ws_ y cc nL ret) B.pre
  have hts : ∀ w ∈ lw_all, w.before _ s = true := fun w h => hts w (List.mem_cons_of_mem _ h)
  have hl := lv_entry av (n := nL) hlen
  rw [lg_entry_eq]
  generalize (lg_sl av ++ List.replicate (nL - (lg_sl av).length) Slot.unset).toArray = ls at hl ⊢
  subst ho
  refine body p e s m below meth c (va_A ws s.heap.size) B.exec B.bytes hml (findClass_of_methodNamed B.named) hts B.returns B.notSynchronized (fun h => ((name_of_methodNamed B.named B.method).1).trans h) hK (fun q h => Or.inr h) (fun q h => ?_) hZ ⟨hP, hD.self, va_S.rf⟩ ls hl
  rcases h with ⟨k, e0, hk⟩ | h
  · exact hD.2 k _ hk
  · exact Nat.le_trans hZ.1 h
section BS
variable {p : Program} {l : Launch} {e : Env} {R : Room} {s : State} {m : MethodId} {args : Array Value} {below : List Frame} {meth : Method} {c : Code} {H : Heap} {locs : List Loc} {cells slots : Nat} {Q : State → Prop}
variable {cc : ByteArray} {pc : Nat} {ls : Array Slot} {rest st0 : List Value} {K : State → Prop} {D : va_G} {A : Nat → Prop} {Post : Option Value → va_W → Prop} {mc ms : Nat} {ws : va_W}
theorem rR_i (hexec : p.tables.exec = Jvm.exec) (hb : c.code = cc) (hr : meth.sig.returnType = some .int) (hlocks : meth.locks = false) {v : Int32} {r : Value} (hdg : decode cc pc = .ok (.ireturn, 1)) (hv : Value.int v = r) : W p l e R s m args below meth c s.heap [] 0 0 (MQ below (qR r) args s 0 0 (fun _ => False)) (F0 m pc ls [.int v]) := by
  subst hv
  exact W.iret hexec hb hr (fun t ht _ => ⟨rfl, ht⟩) (fun q h => by cases h) hdg hlocks
theorem rR_z (hexec : p.tables.exec = Jvm.exec) (hb : c.code = cc) (hr : meth.sig.returnType = some .boolean) (hlocks : meth.locks = false) {v : Int32} {b : Bool} (hdg : decode cc pc = .ok (.ireturn, 1)) (hv : v = bI b) : W p l e R s m args below meth c s.heap [] 0 0 (MQ below (qR (.int (bI b))) args s 0 0 (fun _ => False)) (F0 m pc ls [.int v]) := by
  subst hv
  exact W.zret hexec hb hr (bI_nar b) (fun t ht _ => ⟨rfl, ht⟩) (fun q h => by cases h) hdg hlocks
theorem rR_l (hexec : p.tables.exec = Jvm.exec) (hb : c.code = cc) (hr : meth.sig.returnType = some .long) (hlocks : meth.locks = false) {v : Int64} {r : Value} (hdg : decode cc pc = .ok (.lreturn, 1)) (hv : Value.long v = r) : W p l e R s m args below meth c s.heap [] 0 0 (MQ below (qR r) args s 0 0 (fun _ => False)) (F0 m pc ls [.long v]) := by
  subst hv
  exact W.lret hexec hb hr (fun t ht _ => ⟨rfl, ht⟩) (fun q h => by cases h) hdg hlocks
theorem uW_F {t : State} {ws' : va_W} (hu : uW D A s.heap H locs ws') (ht : t.heap = H) {r : Option Value} (hp : Post r ws') : qU D A Post args s (.returned r) t := ⟨⟨r, ws', rfl, hp, by rw [ht]; exact hu.1, hu.2.1⟩, hu.2.2.F ht⟩
theorem rU_i (hexec : p.tables.exec = Jvm.exec) (hb : c.code = cc) (hr : meth.sig.returnType = some .int) (hlocks : meth.locks = false) {v : Int32} {ws' : va_W} (hu : uW D A s.heap H locs ws') (hdg : decode cc pc = .ok (.ireturn, 1)) (h1 : cells ≤ mc) (h2 : slots ≤ ms) (hp : Post (some (.int v)) ws') : W p l e R s m args below meth c H locs cells slots (MQ below (qU D A Post) args s mc ms A) (F0 m pc ls [.int v]) :=
  W.widen h1 h2 (W.iret hexec hb hr (fun t ht _ => uW_F hu ht hp) hu.2.2.2.2 hdg hlocks)
theorem rU_z (hexec : p.tables.exec = Jvm.exec) (hb : c.code = cc) (hr : meth.sig.returnType = some .boolean) (hlocks : meth.locks = false) {v : Int32} {b : Bool} {ws' : va_W} (hu : uW D A s.heap H locs ws') (hdg : decode cc pc = .ok (.ireturn, 1)) (h1 : cells ≤ mc) (h2 : slots ≤ ms) (hv : v = bI b) (hp : Post (some (.int (bI b))) ws') : W p l e R s m args below meth c H locs cells slots (MQ below (qU D A Post) args s mc ms A) (F0 m pc ls [.int v]) := by
  subst hv
  exact W.widen h1 h2 (W.zret hexec hb hr (bI_nar b) (fun t ht _ => uW_F hu ht hp) hu.2.2.2.2 hdg hlocks)
theorem rU_l (hexec : p.tables.exec = Jvm.exec) (hb : c.code = cc) (hr : meth.sig.returnType = some .long) (hlocks : meth.locks = false) {v : Int64} {ws' : va_W} (hu : uW D A s.heap H locs ws') (hdg : decode cc pc = .ok (.lreturn, 1)) (h1 : cells ≤ mc) (h2 : slots ≤ ms) (hp : Post (some (.long v)) ws') : W p l e R s m args below meth c H locs cells slots (MQ below (qU D A Post) args s mc ms A) (F0 m pc ls [.long v]) :=
  W.widen h1 h2 (W.lret hexec hb hr (fun t ht _ => uW_F hu ht hp) hu.2.2.2.2 hdg hlocks)
theorem rU_v (hexec : p.tables.exec = Jvm.exec) (hb : c.code = cc) (hr : meth.sig.returnType = none) (hlocks : meth.locks = false) {ws' : va_W} (hu : uW D A s.heap H locs ws') (hdg : decode cc pc = .ok (.return_, 1)) (h1 : cells ≤ mc) (h2 : slots ≤ ms) (hp : Post none ws') : W p l e R s m args below meth c H locs cells slots (MQ below (qU D A Post) args s mc ms A) (F0 m pc ls []) :=
  W.widen h1 h2 (W.vret hexec hb hr (fun t ht _ => uW_F hu ht hp) hu.2.2.2.2 hdg hlocks)
theorem rU_a (hexec : p.tables.exec = Jvm.exec) (hb : c.code = cc) {rt : FieldType} (hr : meth.sig.returnType = some rt) (hrt : (∃ n, rt = .object n) ∨ ∃ t, rt = .array t) (hlocks : meth.locks = false) {v : Nat} {ws' : va_W} (hu : uW D A s.heap H locs ws') (hdg : decode cc pc = .ok (.areturn, 1)) (h1 : cells ≤ mc) (h2 : slots ≤ ms) (hp : Post (some (.ref v)) ws') : W p l e R s m args below meth c H locs cells slots (MQ below (qU D A Post) args s mc ms A) (F0 m pc ls [.ref v]) :=
  W.widen h1 h2 (W.aret hexec hb hr hrt (Or.inr ⟨v, rfl⟩) (fun t ht _ => uW_F hu ht hp) hu.2.2.2.2 hdg hlocks)
/-- the top of the stack, under another name -/
theorem top_i {x y : Int32} (h : x = y) (k : W p l e R s m args below meth c H locs cells slots Q (F0 m pc ls (.int y :: rest))) : W p l e R s m args below meth c H locs cells slots Q (F0 m pc ls (.int x :: rest)) := by
  subst h; exact k
theorem top_l {x y : Int64} (h : x = y) (k : W p l e R s m args below meth c H locs cells slots Q (F0 m pc ls (.long y :: rest))) : W p l e R s m args below meth c H locs cells slots Q (F0 m pc ls (.long x :: rest)) := by
  subst h; exact k
/-- a join: prove it once, come to it twice -/
theorem jn_i {P : Int32 → Prop} (tgt : Nat) (rest' : List Value) {g : JFrame} (hk : ∀ v : Int32, P v → W p l e R s m args below meth c H locs cells slots Q (F0 m tgt ls (.int v :: rest'))) (hb : (∀ v : Int32, P v → W p l e R s m args below meth c H locs cells slots Q (F0 m tgt ls (.int v :: rest'))) → W p l e R s m args below meth c H locs cells slots Q g) : W p l e R s m args below meth c H locs cells slots Q g := hb hk
theorem jn_l {P : Int64 → Prop} (tgt : Nat) (rest' : List Value) {g : JFrame} (hk : ∀ v : Int64, P v → W p l e R s m args below meth c H locs cells slots Q (F0 m tgt ls (.long v :: rest'))) (hb : (∀ v : Int64, P v → W p l e R s m args below meth c H locs cells slots Q (F0 m tgt ls (.long v :: rest'))) → W p l e R s m args below meth c H locs cells slots Q g) : W p l e R s m args below meth c H locs cells slots Q g := hb hk
/-- a branch on a truth value -/
theorem bz_eq (hexec : p.tables.exec = Jvm.exec) (hb : c.code = cc) {b : Bool} {off : Int} {tgt : Nat} (hdg : decode cc pc = .ok (.ifCond .eq off, 3)) (ht : (pc : Int) + off = (tgt : Int)) (kt : b = false → W p l e R s m args below meth c H locs cells slots Q (F0 m tgt ls rest)) (kf : b = true → W p l e R s m args below meth c H locs cells slots Q (F0 m (pc + 3) ls rest)) : W p l e R s m args below meth c H locs cells slots Q (F0 m pc ls (.int (bI b) :: rest)) :=
  lv_if_eq hexec hb hdg ht (fun h => kt (bI_z h)) (fun h => kf (bI_nz h))
theorem bz_ne (hexec : p.tables.exec = Jvm.exec) (hb : c.code = cc) {b : Bool} {off : Int} {tgt : Nat} (hdg : decode cc pc = .ok (.ifCond .ne off, 3)) (ht : (pc : Int) + off = (tgt : Int)) (kt : b = true → W p l e R s m args below meth c H locs cells slots Q (F0 m tgt ls rest)) (kf : b = false → W p l e R s m args below meth c H locs cells slots Q (F0 m (pc + 3) ls rest)) : W p l e R s m args below meth c H locs cells slots Q (F0 m pc ls (.int (bI b) :: rest)) :=
  lv_if_ne hexec hb hdg ht (fun h => kt (bI_nz h)) (fun h => kf (bI_z h))
/-- lcmp and the branch behind it -/
theorem lc_lt (hexec : p.tables.exec = Jvm.exec) (hb : c.code = cc) {x y : Int64} {off : Int} {tgt : Nat} (hd1 : decode cc pc = .ok (.lcmp, 1)) (hdg : decode cc (pc + 1) = .ok (.ifCond .lt off, 3)) (ht : ((pc + 1 : Nat) : Int) + off = (tgt : Int)) (kt : x < y → W p l e R s m args below meth c H locs cells slots Q (F0 m tgt ls rest)) (kf : ¬ x < y → W p l e R s m args below meth c H locs cells slots Q (F0 m (pc + 1 + 3) ls rest)) : W p l e R s m args below meth c H locs cells slots Q (F0 m pc ls (.long y :: .long x :: rest)) :=
  W.lcmp hexec hb hd1 (lv_if_lt hexec hb hdg ht (fun h => kt ((lg_cmp_lt x y).mp h)) (fun h => kf (fun h2 => h ((lg_cmp_lt x y).mpr h2))))
theorem lc_gt (hexec : p.tables.exec = Jvm.exec) (hb : c.code = cc) {x y : Int64} {off : Int} {tgt : Nat} (hd1 : decode cc pc = .ok (.lcmp, 1)) (hdg : decode cc (pc + 1) = .ok (.ifCond .gt off, 3)) (ht : ((pc + 1 : Nat) : Int) + off = (tgt : Int)) (kt : y < x → W p l e R s m args below meth c H locs cells slots Q (F0 m tgt ls rest)) (kf : ¬ y < x → W p l e R s m args below meth c H locs cells slots Q (F0 m (pc + 1 + 3) ls rest)) : W p l e R s m args below meth c H locs cells slots Q (F0 m pc ls (.long y :: .long x :: rest)) :=
  W.lcmp hexec hb hd1 (lv_if_gt hexec hb hdg ht (fun h => kt ((lg_cmp_gt x y).mp h)) (fun h => kf (fun h2 => h ((lg_cmp_gt x y).mpr h2))))
theorem lc_ge (hexec : p.tables.exec = Jvm.exec) (hb : c.code = cc) {x y : Int64} {off : Int} {tgt : Nat} (hd1 : decode cc pc = .ok (.lcmp, 1)) (hdg : decode cc (pc + 1) = .ok (.ifCond .ge off, 3)) (ht : ((pc + 1 : Nat) : Int) + off = (tgt : Int)) (kt : y ≤ x → W p l e R s m args below meth c H locs cells slots Q (F0 m tgt ls rest)) (kf : ¬ y ≤ x → W p l e R s m args below meth c H locs cells slots Q (F0 m (pc + 1 + 3) ls rest)) : W p l e R s m args below meth c H locs cells slots Q (F0 m pc ls (.long y :: .long x :: rest)) :=
  W.lcmp hexec hb hd1 (lv_if_ge hexec hb hdg ht (fun h => kt ((lg_cmp_ge x y).mp h)) (fun h => kf (fun h2 => h ((lg_cmp_ge x y).mpr h2))))
theorem lc_le (hexec : p.tables.exec = Jvm.exec) (hb : c.code = cc) {x y : Int64} {off : Int} {tgt : Nat} (hd1 : decode cc pc = .ok (.lcmp, 1)) (hdg : decode cc (pc + 1) = .ok (.ifCond .le off, 3)) (ht : ((pc + 1 : Nat) : Int) + off = (tgt : Int)) (kt : x ≤ y → W p l e R s m args below meth c H locs cells slots Q (F0 m tgt ls rest)) (kf : ¬ x ≤ y → W p l e R s m args below meth c H locs cells slots Q (F0 m (pc + 1 + 3) ls rest)) : W p l e R s m args below meth c H locs cells slots Q (F0 m pc ls (.long y :: .long x :: rest)) :=
  W.lcmp hexec hb hd1 (lv_if_le hexec hb hdg ht (fun h => kt ((lg_cmp_le x y).mp h)) (fun h => kf (fun h2 => h ((lg_cmp_le x y).mpr h2))))
theorem lc_eq (hexec : p.tables.exec = Jvm.exec) (hb : c.code = cc) {x y : Int64} {off : Int} {tgt : Nat} (hd1 : decode cc pc = .ok (.lcmp, 1)) (hdg : decode cc (pc + 1) = .ok (.ifCond .eq off, 3)) (ht : ((pc + 1 : Nat) : Int) + off = (tgt : Int)) (kt : x = y → W p l e R s m args below meth c H locs cells slots Q (F0 m tgt ls rest)) (kf : ¬ x = y → W p l e R s m args below meth c H locs cells slots Q (F0 m (pc + 1 + 3) ls rest)) : W p l e R s m args below meth c H locs cells slots Q (F0 m pc ls (.long y :: .long x :: rest)) :=
  W.lcmp hexec hb hd1 (lv_if_eq hexec hb hdg ht (fun h => kt ((lg_cmp_eq x y).mp h)) (fun h => kf (fun h2 => h ((lg_cmp_eq x y).mpr h2))))
theorem lc_ne (hexec : p.tables.exec = Jvm.exec) (hb : c.code = cc) {x y : Int64} {off : Int} {tgt : Nat} (hd1 : decode cc pc = .ok (.lcmp, 1)) (hdg : decode cc (pc + 1) = .ok (.ifCond .ne off, 3)) (ht : ((pc + 1 : Nat) : Int) + off = (tgt : Int)) (kt : ¬ x = y → W p l e R s m args below meth c H locs cells slots Q (F0 m tgt ls rest)) (kf : x = y → W p l e R s m args below meth c H locs cells slots Q (F0 m (pc + 1 + 3) ls rest)) : W p l e R s m args below meth c H locs cells slots Q (F0 m pc ls (.long y :: .long x :: rest)) :=
  W.lcmp hexec hb hd1 (lv_if_ne hexec hb hdg ht (fun h => kt (fun h2 => h ((lg_cmp_eq x y).mpr h2))) (fun h => kf ((lg_cmp_eq x y).mp h)))
/-- compares of small naturals -/
theorem nc_ge (hexec : p.tables.exec = Jvm.exec) (hb : c.code = cc) {a b : Nat} {off : Int} {tgt : Nat} (hdg : decode cc pc = .ok (.if_icmp .ge off, 3)) (ht : (pc : Int) + off = (tgt : Int)) (ha : a < 2 ^ 31) (hb2 : b < 2 ^ 31) (kt : b ≤ a → W p l e R s m args below meth c H locs cells slots Q (F0 m tgt ls rest)) (kf : a < b → W p l e R s m args below meth c H locs cells slots Q (F0 m (pc + 3) ls rest)) : W p l e R s m args below meth c H locs cells slots Q (F0 m pc ls (.int (nI b) :: .int (nI a) :: rest)) :=
  lv_icmp_ge hexec hb hdg ht (fun h => kt ((nI_leI hb2 ha).mp h)) (fun h => kf (Nat.lt_of_not_le fun q => h ((nI_leI hb2 ha).mpr q)))
theorem nc_gt (hexec : p.tables.exec = Jvm.exec) (hb : c.code = cc) {a b : Nat} {off : Int} {tgt : Nat} (hdg : decode cc pc = .ok (.if_icmp .gt off, 3)) (ht : (pc : Int) + off = (tgt : Int)) (ha : a < 2 ^ 31) (hb2 : b < 2 ^ 31) (kt : b < a → W p l e R s m args below meth c H locs cells slots Q (F0 m tgt ls rest)) (kf : a ≤ b → W p l e R s m args below meth c H locs cells slots Q (F0 m (pc + 3) ls rest)) : W p l e R s m args below meth c H locs cells slots Q (F0 m pc ls (.int (nI b) :: .int (nI a) :: rest)) :=
  lv_icmp_gt hexec hb hdg ht (fun h => kt ((nI_ltI hb2 ha).mp h)) (fun h => kf (Nat.le_of_not_lt fun q => h ((nI_ltI hb2 ha).mpr q)))
theorem nc_lt (hexec : p.tables.exec = Jvm.exec) (hb : c.code = cc) {a b : Nat} {off : Int} {tgt : Nat} (hdg : decode cc pc = .ok (.if_icmp .lt off, 3)) (ht : (pc : Int) + off = (tgt : Int)) (ha : a < 2 ^ 31) (hb2 : b < 2 ^ 31) (kt : a < b → W p l e R s m args below meth c H locs cells slots Q (F0 m tgt ls rest)) (kf : b ≤ a → W p l e R s m args below meth c H locs cells slots Q (F0 m (pc + 3) ls rest)) : W p l e R s m args below meth c H locs cells slots Q (F0 m pc ls (.int (nI b) :: .int (nI a) :: rest)) :=
  lv_icmp_lt hexec hb hdg ht (fun h => kt ((nI_ltI ha hb2).mp h)) (fun h => kf (Nat.le_of_not_lt fun q => h ((nI_ltI ha hb2).mpr q)))
theorem nc_le (hexec : p.tables.exec = Jvm.exec) (hb : c.code = cc) {a b : Nat} {off : Int} {tgt : Nat} (hdg : decode cc pc = .ok (.if_icmp .le off, 3)) (ht : (pc : Int) + off = (tgt : Int)) (ha : a < 2 ^ 31) (hb2 : b < 2 ^ 31) (kt : a ≤ b → W p l e R s m args below meth c H locs cells slots Q (F0 m tgt ls rest)) (kf : b < a → W p l e R s m args below meth c H locs cells slots Q (F0 m (pc + 3) ls rest)) : W p l e R s m args below meth c H locs cells slots Q (F0 m pc ls (.int (nI b) :: .int (nI a) :: rest)) :=
  lv_icmp_le hexec hb hdg ht (fun h => kt ((nI_leI ha hb2).mp h)) (fun h => kf (Nat.lt_of_not_le fun q => h ((nI_leI ha hb2).mpr q)))
theorem nc_eq (hexec : p.tables.exec = Jvm.exec) (hb : c.code = cc) {a b : Nat} {off : Int} {tgt : Nat} (hdg : decode cc pc = .ok (.if_icmp .eq off, 3)) (ht : (pc : Int) + off = (tgt : Int)) (ha : a < 2 ^ 31) (hb2 : b < 2 ^ 31) (kt : a = b → W p l e R s m args below meth c H locs cells slots Q (F0 m tgt ls rest)) (kf : ¬ a = b → W p l e R s m args below meth c H locs cells slots Q (F0 m (pc + 3) ls rest)) : W p l e R s m args below meth c H locs cells slots Q (F0 m pc ls (.int (nI b) :: .int (nI a) :: rest)) :=
  lv_icmp_eq hexec hb hdg ht (fun h => kt ((nI_eq ha hb2).mp h)) (fun h => kf (fun q => h ((nI_eq ha hb2).mpr q)))
theorem nc_ne (hexec : p.tables.exec = Jvm.exec) (hb : c.code = cc) {a b : Nat} {off : Int} {tgt : Nat} (hdg : decode cc pc = .ok (.if_icmp .ne off, 3)) (ht : (pc : Int) + off = (tgt : Int)) (ha : a < 2 ^ 31) (hb2 : b < 2 ^ 31) (kt : ¬ a = b → W p l e R s m args below meth c H locs cells slots Q (F0 m tgt ls rest)) (kf : a = b → W p l e R s m args below meth c H locs cells slots Q (F0 m (pc + 3) ls rest)) : W p l e R s m args below meth c H locs cells slots Q (F0 m pc ls (.int (nI b) :: .int (nI a) :: rest)) :=
  lv_icmp_ne hexec hb hdg ht (fun h => kt (fun q => h ((nI_eq ha hb2).mpr q))) (fun h => kf ((nI_eq ha hb2).mp h))
end BS
/-! calls -/
section BC
variable {p : Program} {l : Launch} {e : Env} {R : Room} {s : State} {m : MethodId} {args : Array Value} {below : List Frame} {meth : Method} {c : Code} {H : Heap} {locs : List Loc} {cells slots : Nat} {Q : State → Prop}
variable {cc cb : ByteArray} {pc nL nLb index n : Nat} {ls : Array Slot} {rest : List Value} {K : State → Prop} {D : va_G} {A : Nat → Prop} {y : MethodName} {ret : Option FieldType} {rm : Room} {As : List Value} {HP : Heap → Prop} {r : Value} {own C : String}
theorem blindR (hst : Kst K) (av : List Value) : FrameBlind (va_Pc av (fun U => HP U.heap ∧ K U)) := fun a U g mk q => ⟨q.1, q.2.1, hst U (U.calling g mk a) (State.WarmedH.refl U) q.2.2⟩
theorem callR_S (hx : p.tables.exec = Jvm.exec) (hb : c.code = cc) (hml : c.maxLocals = nL) (hown : s.vm.findClass own = some m.cls) (hts : ∀ w ∈ lw_all, w.before args s = true) (hst : Kst K) (hK : K s) (hM : cR l K y cb nLb ret rm As HP r)
    (cw : CallB R s args own index y cb nLb ret (ws_ y cb nLb ret) rm 0 0 n ∧ (Cond.static y).before args s = true) (hp : HP H) (hn : As.length = n) (hl : ls.size = nL) {st0 : List Value} (hs0 : st0 = As.reverse ++ rest) (hW : (rest.map fun v => v.category).sum ≤ 8) (hdg : decode cc pc = .ok (.invokestatic index, 3)) (hf : cells ≤ R.cells ∧ slots ≤ R.slots)
    (kk : W p l e R s m args below meth c H locs cells slots Q (F0 m (pc + 3) ls (r :: rest))) : W p l e R s m args below meth c H locs cells slots Q (F0 m pc ls st0) := by
  have hr := W.runS (l := l) (e := e) (below := below) (meth := meth) (H := H) (locs := locs) (cells := cells) (slots := slots) (g := F0 m pc ls st0) (rest := rest) ⟨hx, hb, hml, hown, hts⟩ hM cw ⟨blindR hst As, fun U hU hW => ⟨rfl, by rw [hU]; exact hp, hst s U hW hK⟩⟩ rfl hn hl hs0 (lv_room hW) hdg hf
  intro T hT X
  obtain ⟨v, st₀, t, T', L, h0, X', hL, e1, ⟨hv, hh⟩, st⟩ := hr T hT X
  cases hv
  obtain ⟨t2, a1, b1⟩ := kk T' (by rw [e1, hh, h0]) (Stand.forget X' (fun q h => (hL q h).elim))
  exact ⟨t2, st t2 a1, b1⟩
theorem callR_V (hx : p.tables.exec = Jvm.exec) (hb : c.code = cc) (hml : c.maxLocals = nL) (hown : s.vm.findClass own = some m.cls) (hts : ∀ w ∈ lw_all, w.before args s = true) (hst : Kst K) (hK : K s) {b : Addr} (hM : cR l K y cb nLb ret rm (.ref b :: As) HP r)
    (cw : CallW R s args own C index y cb nLb ret (ws_ y cb nLb ret) rm 0 0 n) (hrc : ∃ cellB : Cell, H[b]? = some cellB ∧ cellB.vm.isStatics = false ∧ s.vm.findClass C = some cellB.cls) (hp : HP H) (hn : As.length = n) (hl : ls.size = nL) {st0 : List Value} (hs0 : st0 = As.reverse ++ .ref b :: rest) (hW : (rest.map fun v => v.category).sum ≤ 8) (hdg : decode cc pc = .ok (.invokevirtual index, 3)) (hf : cells ≤ R.cells ∧ slots ≤ R.slots)
    (kk : W p l e R s m args below meth c H locs cells slots Q (F0 m (pc + 3) ls (r :: rest))) : W p l e R s m args below meth c H locs cells slots Q (F0 m pc ls st0) := by
  have hr := W.runV (l := l) (e := e) (below := below) (meth := meth) (H := H) (locs := locs) (cells := cells) (slots := slots) (g := F0 m pc ls st0) (rest := rest) ⟨hx, hb, hml, hown, hts⟩ hM cw ⟨blindR hst (.ref b :: As), hrc, fun U hU hW => ⟨rfl, by rw [hU]; exact hp, hst s U hW hK⟩⟩ rfl hn hl hs0 (lv_room hW) hdg hf
  intro T hT X
  obtain ⟨v, st₀, t, T', L, h0, X', hL, e1, ⟨hv, hh⟩, st⟩ := hr T hT X
  cases hv
  obtain ⟨t2, a1, b1⟩ := kk T' (by rw [e1, hh, h0]) (Stand.forget X' (fun q h => (hL q h).elim))
  exact ⟨t2, st t2 a1, b1⟩
theorem blindU {H00 : Heap} {ws : va_W} {sz : Nat} (hst : Kst K) (av : List Value) : FrameBlind (va_Pc av (pU D H00 ws sz K)) := fun a U g mk q => ⟨q.1, q.2.1, q.2.2.1, q.2.2.2.1, q.2.2.2.2.1, hst U (U.calling g mk a) (State.WarmedH.refl U) q.2.2.2.2.2⟩
/-- what a changing callee asks of the world, and what its end gives -/
theorem uPre {H00 : Heap} {ws : va_W} (hst : Kst K) (hK : K s) (hAN : ∀ q : Nat, A q → H00.size ≤ q) (hZ : H00.size ≤ s.heap.size ∧ ∀ q : Nat, q < H00.size → s.heap[q]? = H00[q]?) (hu : uW D A s.heap H locs ws) (av : List Value) : ∀ U : State, U.heap = H → s.WarmedH U.vm → va_Pc av (pU D H00 ws H.size K) av.toArray U := by
  intro U hU hW
  refine ⟨rfl, by rw [hU], by rw [hU]; exact hu.1, hu.2.1.weaken (fun _ _ _ h => hAN _ h), ⟨by rw [hU]; exact Nat.le_trans hZ.1 hu.2.2.1, fun q hq => ?_⟩, hst s U hW hK⟩
  rw [hU, hu.2.2.2.1 q (Nat.lt_of_lt_of_le hq hZ.1) (fun h => Nat.not_le.mpr hq (hAN q h))]
  exact hZ.2 q hq
theorem uSub {ws : va_W} {H0 : Heap} (hA : ∀ q : Nat, H0.size ≤ q → A q) (hu : uW D A H0 H locs ws) : ∀ q, va_A ws H.size q → A q := fun q h => by
  rcases h with ⟨k, e0, hk⟩ | h
  · exact hu.2.1.2 k _ hk
  · exact hA q (Nat.le_trans hu.2.2.1 h)
theorem uEnd {ws ws' : va_W} {H0 : Heap} {st0 t : State} {L : List Loc} (hA : ∀ q : Nat, H0.size ≤ q → A q) (hu : uW D A H0 H locs ws) (h0 : st0.heap = H) (hP : va_P D vwCl ws' t.heap) (hD : va_D (va_A ws H.size) ws') (hF : va_F (va_A ws H.size) st0 t) (hL : ∀ q ∈ L, va_A ws H.size q.base) : uW D A H0 t.heap (locs ++ L) ws' := by
  have hs := uSub hA hu
  obtain ⟨hz, hk⟩ := hF
  rw [h0] at hz hk
  refine ⟨hP, hD.weaken (fun _ _ _ h => hs _ h), Nat.le_trans hu.2.2.1 hz, fun q h1 h2 => ?_, fun q hq => ?_⟩
  · rw [hk q (Nat.lt_of_lt_of_le h1 hu.2.2.1) (fun z => h2 (hs q z))]
    exact hu.2.2.2.1 q h1 h2
  · rcases List.mem_append.mp hq with h | h
    · exact hu.2.2.2.2 q h
    · exact hs _ (hL q h)
theorem callU_V {H00 : Heap} {ws : va_W} {Post : Option Value → va_W → Prop} (hx : p.tables.exec = Jvm.exec) (hb : c.code = cc) (hml : c.maxLocals = nL) (hown : s.vm.findClass own = some m.cls) (hts : ∀ w ∈ lw_all, w.before args s = true) (hst : Kst K) (hK : K s) (hA : ∀ q : Nat, s.heap.size ≤ q → A q) (hAN : ∀ q : Nat, A q → H00.size ≤ q) (hZ : H00.size ≤ s.heap.size ∧ ∀ q : Nat, q < H00.size → s.heap[q]? = H00[q]?) {b : Addr} (hM : cU l K H00 D y cb nLb ret rm (.ref b :: As) ws Post)
    (cw : CallW R s args own C index y cb nLb ret (ws_ y cb nLb ret) rm rm.cells rm.slots n) (hrc : ∃ cellB : Cell, H[b]? = some cellB ∧ cellB.vm.isStatics = false ∧ s.vm.findClass C = some cellB.cls) (hu : uW D A s.heap H locs ws) (hn : As.length = n) (hl : ls.size = nL) {st0 : List Value} (hs0 : st0 = As.reverse ++ .ref b :: rest) (hW : (rest.map fun v => v.category).sum ≤ 8) (hdg : decode cc pc = .ok (.invokevirtual index, 3)) (hf : cells + rm.cells ≤ R.cells ∧ slots + rm.slots ≤ R.slots)
    (kk : ∀ (r : Option Value) (ws' : va_W) (H1 : Heap) (locs1 : List Loc), Post r ws' → uW D A s.heap H1 locs1 ws' → W p l e R s m args below meth c H1 locs1 (cells + rm.cells) (slots + rm.slots) Q (F0 m (pc + 3) ls (r.toList ++ rest))) : W p l e R s m args below meth c H locs cells slots Q (F0 m pc ls st0) := by
  have hr := W.runV (l := l) (e := e) (below := below) (meth := meth) (H := H) (locs := locs) (cells := cells) (slots := slots) (g := F0 m pc ls st0) (rest := rest) ⟨hx, hb, hml, hown, hts⟩ (hM H.size) cw ⟨blindU hst (.ref b :: As), hrc, uPre hst hK hAN hZ hu (.ref b :: As)⟩ rfl hn hl hs0 (lv_room hW) hdg hf
  intro T hT X
  obtain ⟨v, st₀, t, T', L, h0, X', hL, e1, ⟨⟨r, ws', hv, hp, hP, hD⟩, hF⟩, st⟩ := hr T hT X
  cases hv
  have hu' := uEnd hA hu h0 hP hD hF hL
  obtain ⟨t2, a1, b1⟩ := kk v ws' t.heap (locs ++ L) hp hu' T' e1 X'
  exact ⟨t2, st t2 a1, b1⟩
theorem callU_S {H00 : Heap} {ws : va_W} {Post : Option Value → va_W → Prop} (hx : p.tables.exec = Jvm.exec) (hb : c.code = cc) (hml : c.maxLocals = nL) (hown : s.vm.findClass own = some m.cls) (hts : ∀ w ∈ lw_all, w.before args s = true) (hst : Kst K) (hK : K s) (hA : ∀ q : Nat, s.heap.size ≤ q → A q) (hAN : ∀ q : Nat, A q → H00.size ≤ q) (hZ : H00.size ≤ s.heap.size ∧ ∀ q : Nat, q < H00.size → s.heap[q]? = H00[q]?) (hM : cU l K H00 D y cb nLb ret rm As ws Post)
    (cw : CallB R s args own index y cb nLb ret (ws_ y cb nLb ret) rm rm.cells rm.slots n ∧ (Cond.static y).before args s = true) (hu : uW D A s.heap H locs ws) (hn : As.length = n) (hl : ls.size = nL) {st0 : List Value} (hs0 : st0 = As.reverse ++ rest) (hW : (rest.map fun v => v.category).sum ≤ 8) (hdg : decode cc pc = .ok (.invokestatic index, 3)) (hf : cells + rm.cells ≤ R.cells ∧ slots + rm.slots ≤ R.slots)
    (kk : ∀ (r : Option Value) (ws' : va_W) (H1 : Heap) (locs1 : List Loc), Post r ws' → uW D A s.heap H1 locs1 ws' → W p l e R s m args below meth c H1 locs1 (cells + rm.cells) (slots + rm.slots) Q (F0 m (pc + 3) ls (r.toList ++ rest))) : W p l e R s m args below meth c H locs cells slots Q (F0 m pc ls st0) := by
  have hr := W.runS (l := l) (e := e) (below := below) (meth := meth) (H := H) (locs := locs) (cells := cells) (slots := slots) (g := F0 m pc ls st0) (rest := rest) ⟨hx, hb, hml, hown, hts⟩ (hM H.size) cw ⟨blindU hst As, uPre hst hK hAN hZ hu As⟩ rfl hn hl hs0 (lv_room hW) hdg hf
  intro T hT X
  obtain ⟨v, st₀, t, T', L, h0, X', hL, e1, ⟨⟨r, ws', hv, hp, hP, hD⟩, hF⟩, st⟩ := hr T hT X
  cases hv
  have hu' := uEnd hA hu h0 hP hD hF hL
  obtain ⟨t2, a1, b1⟩ := kk v ws' t.heap (locs ++ L) hp hu' T' e1 X'
  exact ⟨t2, st t2 a1, b1⟩
theorem callU_I {H00 : Heap} {ws : va_W} {Post : Option Value → va_W → Prop} (hx : p.tables.exec = Jvm.exec) (hb : c.code = cc) (hml : c.maxLocals = nL) (hown : s.vm.findClass own = some m.cls) (hts : ∀ w ∈ lw_all, w.before args s = true) (hst : Kst K) (hK : K s) (hA : ∀ q : Nat, s.heap.size ≤ q → A q) (hAN : ∀ q : Nat, A q → H00.size ≤ q) (hZ : H00.size ≤ s.heap.size ∧ ∀ q : Nat, q < H00.size → s.heap[q]? = H00[q]?) {b : Addr} (hM : cU l K H00 D y cb nLb none rm (.ref b :: As) ws Post)
    (cw : CallB R s args own index y cb nLb none (ws_ y cb nLb none) rm rm.cells rm.slots n ∧ y.name = "<init>" ∧ (Cond.instanceMethod y).before args s = true) (hu : uW D A s.heap H locs ws) (hn : As.length = n) (hl : ls.size = nL) {st0 : List Value} (hs0 : st0 = As.reverse ++ .ref b :: rest) (hW : (rest.map fun v => v.category).sum ≤ 8) (hdg : decode cc pc = .ok (.invokespecial index, 3)) (hf : cells + rm.cells ≤ R.cells ∧ slots + rm.slots ≤ R.slots)
    (kk : ∀ (r : Option Value) (ws' : va_W) (H1 : Heap) (locs1 : List Loc), Post r ws' → uW D A s.heap H1 locs1 ws' → W p l e R s m args below meth c H1 locs1 (cells + rm.cells) (slots + rm.slots) Q (F0 m (pc + 3) ls (r.toList ++ rest))) : W p l e R s m args below meth c H locs cells slots Q (F0 m pc ls st0) := by
  have hr := W.runI (l := l) (e := e) (below := below) (meth := meth) (H := H) (locs := locs) (cells := cells) (slots := slots) (g := F0 m pc ls st0) (rest := rest) ⟨hx, hb, hml, hown, hts⟩ (hM H.size) cw ⟨blindU hst (.ref b :: As), uPre hst hK hAN hZ hu (.ref b :: As)⟩ rfl hn hl hs0 (lv_room hW) hdg hf
  intro T hT X
  obtain ⟨v, st₀, t, T', L, h0, X', hL, e1, ⟨⟨r, ws', hv, hp, hP, hD⟩, hF⟩, st⟩ := hr T hT X
  cases hv
  have hu' := uEnd hA hu h0 hP hD hF hL
  obtain ⟨t2, a1, b1⟩ := kk v ws' t.heap (locs ++ L) hp hu' T' e1 X'
  exact ⟨t2, st t2 a1, b1⟩
end BC
/-! loops and joins -/
section BL
variable {p : Program} {l : Launch} {e : Env} {R : Room} {s : State} {m : MethodId} {args : Array Value} {below : List Frame} {meth : Method} {c : Code} {H : Heap} {locs : List Loc} {cells slots : Nat} {Q : State → Prop}
variable {pc nL : Nat} {ls : Array Slot} {rest : List Value} {D : va_G} {A : Nat → Prop} {H0 : Heap}
/-- a loop that changes no cell: σ its numbers, I n x the invariant with n a bound on what is left -/
theorem lp_R {σ : Type} (I : Nat → σ → Prop) (lvf : σ → List (Nat × Value)) (hb : ∀ (n : Nat) (x : σ), I n x → (∀ (n' : Nat) (y : σ) (ls : Array Slot), n' < n → I n' y → lv_has ls nL (lvf y) → W p l e R s m args below meth c H locs cells slots Q (F0 m pc ls rest)) → ∀ ls : Array Slot, lv_has ls nL (lvf x) → W p l e R s m args below meth c H locs cells slots Q (F0 m pc ls rest)) (n : Nat) (x : σ) (hI : I n x) (hl : lv_has ls nL (lvf x)) : W p l e R s m args below meth c H locs cells slots Q (F0 m pc ls rest) := by
  revert x ls
  induction n using Nat.strongRecOn with
  | _ n ih => exact fun {ls} x hI hl => hb n x hI (fun n' y ls hn hI hl => ih n' hn (ls := ls) y hI hl) ls hl
/-- a loop that changes the world -/
theorem lp_U {σ : Type} (I : Nat → σ → Prop) (lvf : σ → List (Nat × Value)) (wsf : σ → va_W) (hb : ∀ (n : Nat) (x : σ), I n x → (∀ (n' : Nat) (y : σ) (H : Heap) (locs : List Loc) (ls : Array Slot), n' < n → I n' y → uW D A H0 H locs (wsf y) → lv_has ls nL (lvf y) → W p l e R s m args below meth c H locs cells slots Q (F0 m pc ls rest)) → ∀ (H : Heap) (locs : List Loc) (ls : Array Slot), uW D A H0 H locs (wsf x) → lv_has ls nL (lvf x) → W p l e R s m args below meth c H locs cells slots Q (F0 m pc ls rest)) (n : Nat) (x : σ) (hI : I n x) (hu : uW D A H0 H locs (wsf x)) (hl : lv_has ls nL (lvf x)) : W p l e R s m args below meth c H locs cells slots Q (F0 m pc ls rest) := by
  revert x ls H locs
  induction n using Nat.strongRecOn with
  | _ n ih => exact fun {H locs ls} x hI hu hl => hb n x hI (fun n' y H locs ls hn hI hu hl => ih n' hn (H := H) (locs := locs) (ls := ls) y hI hu hl) H locs ls hu hl
/-- a join: σ what differs from branch to branch -/
theorem jn_R {σ : Type} (P : σ → Prop) (lvf : σ → List (Nat × Value)) (stf : σ → List Value) (tgt : Nat) {g : JFrame} (hk : ∀ (x : σ) (ls : Array Slot), P x → lv_has ls nL (lvf x) → W p l e R s m args below meth c H locs cells slots Q (F0 m tgt ls (stf x))) (hb : (∀ (x : σ) (ls : Array Slot), P x → lv_has ls nL (lvf x) → W p l e R s m args below meth c H locs cells slots Q (F0 m tgt ls (stf x))) → W p l e R s m args below meth c H locs cells slots Q g) : W p l e R s m args below meth c H locs cells slots Q g := hb hk
theorem jn_U {σ : Type} (P : σ → Prop) (lvf : σ → List (Nat × Value)) (stf : σ → List Value) (wsf : σ → va_W) (cells' slots' tgt : Nat) {g : JFrame} (hk : ∀ (x : σ) (H : Heap) (locs : List Loc) (ls : Array Slot), P x → uW D A H0 H locs (wsf x) → lv_has ls nL (lvf x) → W p l e R s m args below meth c H locs cells' slots' Q (F0 m tgt ls (stf x))) (hb : (∀ (x : σ) (H : Heap) (locs : List Loc) (ls : Array Slot), P x → uW D A H0 H locs (wsf x) → lv_has ls nL (lvf x) → W p l e R s m args below meth c H locs cells' slots' Q (F0 m tgt ls (stf x))) → W p l e R s m args below meth c H locs cells slots Q g) : W p l e R s m args below meth c H locs cells slots Q g := hb hk
end BL
