/-! the tables for methods that may throw, and the words of the exceptions of the machine -/
def eC : List (String × String) := [("java/lang/ArrayIndexOutOfBoundsException", "java/lang/ArrayIndexOutOfBoundsException"), ("java/lang/NegativeArraySizeException", "java/lang/NegativeArraySizeException"), ("java/lang/ClassCastException", "java/lang/ClassCastException"), ("java/lang/ArrayStoreException", "java/lang/ArrayStoreException"), ("java/lang/RuntimeException", "java/lang/Throwable"), ("java/lang/NullPointerException", "java/lang/NullPointerException"), ("java/lang/ArrayIndexOutOfBoundsException", "java/lang/IndexOutOfBoundsException"), ("[I", "java/lang/Object"), ("[B", "java/lang/Object"), ("[S", "java/lang/Object"), ("[Ljava/lang/Object;", "java/lang/Object"), ("[Z", "java/lang/Object")]
def eD : List (String × String × String) := [("java/lang/IndexOutOfBoundsException", "<init>", "(Ljava/lang/String;)V"), ("java/lang/RuntimeException", "<init>", "(Ljava/lang/String;)V"), ("java/lang/Exception", "<init>", "(Ljava/lang/String;)V"), ("java/lang/Throwable", "<init>", "(Ljava/lang/String;)V"), ("java/lang/RuntimeException", "<init>", "()V"), ("java/lang/Exception", "<init>", "()V"), ("java/lang/Throwable", "<init>", "()V"), ("java/lang/IndexOutOfBoundsException", "<init>", "()V")]
def eN : List (String × String) := [("java/lang/NullPointerException", "java/lang/ClassCastException"), ("java/lang/NegativeArraySizeException", "java/lang/ClassCastException"), ("java/lang/NegativeArraySizeException", "java/lang/NullPointerException"), ("java/lang/ArrayIndexOutOfBoundsException", "java/lang/ClassCastException"), ("java/lang/ArrayIndexOutOfBoundsException", "java/lang/NullPointerException"), ("java/lang/ArrayIndexOutOfBoundsException", "java/lang/NegativeArraySizeException"), ("java/lang/ArrayStoreException", "java/lang/NullPointerException"), ("java/lang/ArrayIndexOutOfBoundsException", "java/lang/ArrayStoreException")]
/-- a word about a static, read on the heap H -/
def va_LS (C n d : String) (H : Heap) (U : State) : Prop := (Cond.laysStatic C n d).before #[] ({ U with heap := H } : State) = true
theorem va_LS.moved {C n d : String} {H : Heap} {u U : State} (hvm : u.vm.Alike U.vm) (h : va_LS C n d H u) : va_LS C n d H U := by
  have h2 := Cond.laysStatic_setVm (s := ({ u with heap := H } : State)) hvm h
  obtain ⟨c, k, i, f, a, cell, hc, hi, hst, ha, hcell, hs, hcls, hlt, hty⟩ := Cond.laysStatic_spec h2
  exact Cond.laysStatic_of (s := ({ U with heap := H } : State)) hc hi hst ha hcell hs hcls hlt hty
theorem va_LS.use {C n d : String} {H : Heap} {U : State} {args : Array Value} (h : va_LS C n d H U) (hZ : H.size ≤ U.heap.size ∧ ∀ q : Nat, q < H.size → U.heap[q]? = H[q]?) : (Cond.laysStatic C n d).before args U = true := by
  obtain ⟨c, k, i, f, a, cell, hc, hi, hst, ha, hcell, hs, hcls, hlt, hty⟩ := Cond.laysStatic_spec h
  have hcell : H[a]? = some cell := hcell
  exact Cond.laysStatic_of (s := U) hc hi hst ha (by rw [hZ.2 a (Array.getElem?_eq_some_iff.mp hcell).1]; exact hcell) hs hcls hlt hty
theorem va_Zq.ref {C n d : String} {H : Heap} {U : State} {args : Array Value} (h : va_Zq C n d (fun q => H.size ≤ q) U H) (hZ : H.size ≤ U.heap.size ∧ ∀ q : Nat, q < H.size → U.heap[q]? = H[q]?) : (Cond.isRef (.static C n d)).before args U = true := by
  have hu : ∀ v : Value, va_Z C n d v (fun q => H.size ≤ q) U H → (Term.static C n d).eval args U none [] U = some v := by
    intro v hz
    obtain ⟨cf, kf, fi, f, a, cell, h1, h2, h3, h4, h5, h6, h7, h8⟩ := hz
    have h5' : U.heap[a]? = some cell := by rw [hZ.2 a (Array.getElem?_eq_some_iff.mp h5).1]; exact h5
    simp [Term.eval, State.fieldNamed?, h1, h2, h4, h5', h6, h7]
  rcases h with h | ⟨t, h⟩
  · have := hu _ h
    simp [Cond.before, Cond.holds, Cond.value, this]
  · have := hu _ h
    simp [Cond.before, Cond.holds, Cond.value, this]
def allB (args : Array Value) (s : State) : List Cond → Prop
  | [] => True
  | w :: r => w.before args s = true ∧ allB args s r
theorem allB_use {args : Array Value} {s : State} {l : List Cond} (h : allB args s l) : ∀ w ∈ l, w.before args s = true := by
  induction l with
  | nil => intro w hw; cases hw
  | cons a r ih =>
    intro w hw
    rcases List.mem_cons.mp hw with rfl | hw
    · exact h.1
    · exact ih h.2 w hw
/-- the tables, for X's methods that may throw; H00: the heap at the start of the run; e0: the list's empty table -/
def KE (D : va_G) (d : Nat → ClassId) (e0 : Nat) (H00 : Heap) (U : State) : Prop := KX D d U ∧ (∀ x ∈ eC, va_Nw (.castable x.1 x.2) U) ∧ (∀ x ∈ eD, va_Nw (.declares ⟨x.1, x.2.1, x.2.2⟩) U) ∧ (∀ x ∈ eN, va_Nc x.1 x.2 U) ∧ (va_Zq Bundle.tN "UNASSIGNED_STACK" Bundle.steD (fun q => H00.size ≤ q) U H00 ∧ va_Zq Bundle.tN "SUPPRESSED_SENTINEL" Bundle.listD (fun q => H00.size ≤ q) U H00) ∧ (va_LS Bundle.tN "UNASSIGNED_STACK" Bundle.steD H00 U ∧ va_LS Bundle.tN "SUPPRESSED_SENTINEL" Bundle.listD H00 U) ∧ (va_Z RJ2 "DEFAULTCAPACITY_EMPTY_ELEMENTDATA" "[Ljava/lang/Object;" (.ref e0) (fun q => H00.size ≤ q) U H00 ∧ va_T (.object "java/lang/Object") e0 0 (fun _ => .null) (fun q => H00.size ≤ q) U H00) ∧ modulesRight_1 U = true
theorem KE_st {D : va_G} {d : Nat → ClassId} {e0 : Nat} {H00 : Heap} : Kst (KE D d e0 H00) := fun u U hW h => by
  obtain ⟨h0, h1, h2, h3, ⟨h4, h5⟩, ⟨h6, h7⟩, ⟨h8, h9⟩, h10⟩ := h
  refine ⟨KX_st u U hW h0, fun x hx => (h1 x hx).warmC hW, fun x hx => (h2 x hx).warmD hW, fun x hx => va_Nc.moved hW.alike (h3 x hx), ⟨h4.moved hW.alike, h5.moved hW.alike⟩, ⟨h6.moved hW.alike, h7.moved hW.alike⟩, ⟨h8.moved hW.alike, h9.moved hW.alike⟩, ?_⟩
  have hm : U.vm.modules = u.vm.modules := by
    have := hW.alike.1
    rw [this]
    try rfl
  unfold modulesRight_1 at h10 ⊢
  rw [hm]; exact h10
section KEu
variable {D : va_G} {d : Nat → ClassId} {e0 : Nat} {H00 : Heap} {U : State} {args : Array Value}
theorem KE.c (h : KE D d e0 H00 U) (k : Nat) {x : String × String} (e : eC[k]? = some x) (A : Array Value) : (Cond.castable x.1 x.2).before A U = true := va_Nw.use rfl (h.2.1 x (List.mem_of_getElem? e))
theorem KE.cw (h : KE D d e0 H00 U) (k : Nat) {x : String × String} (e : eC[k]? = some x) : va_Nw (.castable x.1 x.2) U := h.2.1 x (List.mem_of_getElem? e)
theorem KE.dc (h : KE D d e0 H00 U) (k : Nat) {x : String × String × String} (e : eD[k]? = some x) (A : Array Value) : (Cond.declares ⟨x.1, x.2.1, x.2.2⟩).before A U = true := va_Nw.use rfl (h.2.2.1 x (List.mem_of_getElem? e))
theorem KE.n (h : KE D d e0 H00 U) (k : Nat) {x : String × String} (e : eN[k]? = some x) : va_Nc x.1 x.2 U := h.2.2.2.1 x (List.mem_of_getElem? e)
theorem KE.ru (h : KE D d e0 H00 U) (hZ : H00.size ≤ U.heap.size ∧ ∀ q : Nat, q < H00.size → U.heap[q]? = H00[q]?) : (Cond.isRef (.static Bundle.tN "UNASSIGNED_STACK" Bundle.steD)).before args U = true := h.2.2.2.2.1.1.ref hZ
theorem KE.rs (h : KE D d e0 H00 U) (hZ : H00.size ≤ U.heap.size ∧ ∀ q : Nat, q < H00.size → U.heap[q]? = H00[q]?) : (Cond.isRef (.static Bundle.tN "SUPPRESSED_SENTINEL" Bundle.listD)).before args U = true := h.2.2.2.2.1.2.ref hZ
theorem KE.lu (h : KE D d e0 H00 U) (hZ : H00.size ≤ U.heap.size ∧ ∀ q : Nat, q < H00.size → U.heap[q]? = H00[q]?) : (Cond.laysStatic Bundle.tN "UNASSIGNED_STACK" Bundle.steD).before args U = true := h.2.2.2.2.2.1.1.use hZ
theorem KE.ls (h : KE D d e0 H00 U) (hZ : H00.size ≤ U.heap.size ∧ ∀ q : Nat, q < H00.size → U.heap[q]? = H00[q]?) : (Cond.laysStatic Bundle.tN "SUPPRESSED_SENTINEL" Bundle.listD).before args U = true := h.2.2.2.2.2.1.2.use hZ
end KEu
section KEa
variable {D : va_G} {d : Nat → ClassId} {e0 : Nat} {H00 : Heap} {s : State} {args : Array Value}
set_option maxRecDepth 100000
theorem at_A (hts : ∀ w ∈ lw_all, w.before args s = true) (hK : KE D d e0 H00 s) (hZ : H00.size ≤ s.heap.size ∧ ∀ q : Nat, q < H00.size → s.heap[q]? = H00[q]?) : ∀ w ∈ Bundle.messageArmAtoms "java/lang/ArrayIndexOutOfBoundsException" ["java/lang/IndexOutOfBoundsException", "java/lang/RuntimeException", "java/lang/Exception"], w.before args s = true := by
  refine allB_use ?_
  refine And.intro (hts _ q57) ?_
  refine And.intro (hts _ q271) ?_
  refine And.intro (hts _ q213) ?_
  refine And.intro (hts _ q233) ?_
  refine And.intro (hts _ q236) ?_
  refine And.intro (hts _ q238) ?_
  refine And.intro (hts _ q272) ?_
  refine And.intro (hts _ q273) ?_
  refine And.intro (hts _ q82) ?_
  refine And.intro (hts _ q83) ?_
  refine And.intro (hts _ q207) ?_
  refine And.intro (hts _ q212) ?_
  refine And.intro (hts _ q234) ?_
  refine And.intro (hts _ q241) ?_
  refine And.intro (hts _ q265) ?_
  refine And.intro (hts _ q242) ?_
  refine And.intro (hts _ q266) ?_
  refine And.intro (hts _ q243) ?_
  refine And.intro (hts _ q267) ?_
  refine And.intro (hts _ q208) ?_
  refine And.intro (hK.lu (args := args) hZ) ?_
  refine And.intro (hts _ q210) ?_
  refine And.intro (hK.ls (args := args) hZ) ?_
  refine And.intro (hts _ q268) ?_
  refine And.intro (hts _ q205) ?_
  refine And.intro (hts _ q206) ?_
  refine And.intro (hts _ q240) ?_
  refine And.intro (hts _ q268) ?_
  refine And.intro (hts _ q321) ?_
  refine And.intro (hts _ q322) ?_
  refine And.intro (hts _ q323) ?_
  refine And.intro (hts _ q324) ?_
  refine And.intro (hK.dc 0 rfl args) ?_
  refine And.intro (hts _ q324) ?_
  refine And.intro (hts _ q325) ?_
  refine And.intro (hts _ q326) ?_
  refine And.intro (hts _ q199) ?_
  refine And.intro (hK.dc 1 rfl args) ?_
  refine And.intro (hts _ q199) ?_
  refine And.intro (hts _ q200) ?_
  refine And.intro (hts _ q201) ?_
  refine And.intro (hts _ q202) ?_
  refine And.intro (hK.dc 2 rfl args) ?_
  refine And.intro (hts _ q202) ?_
  refine And.intro (hts _ q203) ?_
  refine And.intro (hts _ q204) ?_
  refine And.intro (hts _ q205) ?_
  refine And.intro (hK.dc 3 rfl args) ?_
  refine And.intro (hts _ q61) ?_
  refine And.intro (hts _ q274) ?_
  refine And.intro (hts _ q275) ?_
  refine And.intro (hts _ q276) ?_
  refine And.intro (hts _ q278) ?_
  refine And.intro (hts _ q277) ?_
  refine And.intro (hts _ q279) ?_
  refine And.intro (hts _ q65) ?_
  refine And.intro (hts _ q320) ?_
  refine And.intro (hK.c 0 rfl args) ?_
  refine And.intro (hts _ q337) ?_
  refine And.intro (hts _ q215) ?_
  refine And.intro (hts _ q329) ?_
  refine And.intro (hts _ q330) ?_
  refine And.intro (hts _ q332) ?_
  refine And.intro (hts _ q328) ?_
  refine And.intro (hK.ru (args := args) hZ) ?_
  refine And.intro (hK.rs (args := args) hZ) ?_
  refine And.intro (hts _ q239) ?_
  refine And.intro (hts _ q269) ?_
  refine And.intro (hts _ q327) ?_
  exact trivial
theorem at_S (hts : ∀ w ∈ lw_all, w.before args s = true) (hK : KE D d e0 H00 s) (hZ : H00.size ≤ s.heap.size ∧ ∀ q : Nat, q < H00.size → s.heap[q]? = H00[q]?) : ∀ w ∈ Bundle.messageArmAtoms "java/lang/NegativeArraySizeException" ["java/lang/RuntimeException", "java/lang/Exception"], w.before args s = true := by
  refine allB_use ?_
  refine And.intro (hts _ q57) ?_
  refine And.intro (hts _ q271) ?_
  refine And.intro (hts _ q213) ?_
  refine And.intro (hts _ q233) ?_
  refine And.intro (hts _ q236) ?_
  refine And.intro (hts _ q238) ?_
  refine And.intro (hts _ q272) ?_
  refine And.intro (hts _ q273) ?_
  refine And.intro (hts _ q82) ?_
  refine And.intro (hts _ q83) ?_
  refine And.intro (hts _ q207) ?_
  refine And.intro (hts _ q212) ?_
  refine And.intro (hts _ q234) ?_
  refine And.intro (hts _ q241) ?_
  refine And.intro (hts _ q265) ?_
  refine And.intro (hts _ q242) ?_
  refine And.intro (hts _ q266) ?_
  refine And.intro (hts _ q243) ?_
  refine And.intro (hts _ q267) ?_
  refine And.intro (hts _ q208) ?_
  refine And.intro (hK.lu (args := args) hZ) ?_
  refine And.intro (hts _ q210) ?_
  refine And.intro (hK.ls (args := args) hZ) ?_
  refine And.intro (hts _ q268) ?_
  refine And.intro (hts _ q205) ?_
  refine And.intro (hts _ q206) ?_
  refine And.intro (hts _ q240) ?_
  refine And.intro (hts _ q268) ?_
  refine And.intro (hts _ q307) ?_
  refine And.intro (hts _ q308) ?_
  refine And.intro (hts _ q309) ?_
  refine And.intro (hts _ q199) ?_
  refine And.intro (hK.dc 1 rfl args) ?_
  refine And.intro (hts _ q199) ?_
  refine And.intro (hts _ q200) ?_
  refine And.intro (hts _ q201) ?_
  refine And.intro (hts _ q202) ?_
  refine And.intro (hK.dc 2 rfl args) ?_
  refine And.intro (hts _ q202) ?_
  refine And.intro (hts _ q203) ?_
  refine And.intro (hts _ q204) ?_
  refine And.intro (hts _ q205) ?_
  refine And.intro (hK.dc 3 rfl args) ?_
  refine And.intro (hts _ q61) ?_
  refine And.intro (hts _ q274) ?_
  refine And.intro (hts _ q275) ?_
  refine And.intro (hts _ q276) ?_
  refine And.intro (hts _ q278) ?_
  refine And.intro (hts _ q277) ?_
  refine And.intro (hts _ q279) ?_
  refine And.intro (hts _ q63) ?_
  refine And.intro (hts _ q306) ?_
  refine And.intro (hK.c 1 rfl args) ?_
  refine And.intro (hts _ q318) ?_
  refine And.intro (hts _ q218) ?_
  refine And.intro (hts _ q312) ?_
  refine And.intro (hts _ q313) ?_
  refine And.intro (hts _ q315) ?_
  refine And.intro (hts _ q311) ?_
  refine And.intro (hK.ru (args := args) hZ) ?_
  refine And.intro (hK.rs (args := args) hZ) ?_
  refine And.intro (hts _ q239) ?_
  refine And.intro (hts _ q269) ?_
  refine And.intro (hts _ q310) ?_
  exact trivial
theorem at_C (hts : ∀ w ∈ lw_all, w.before args s = true) (hK : KE D d e0 H00 s) (hZ : H00.size ≤ s.heap.size ∧ ∀ q : Nat, q < H00.size → s.heap[q]? = H00[q]?) : ∀ w ∈ Bundle.messageArmAtoms "java/lang/ClassCastException" ["java/lang/RuntimeException", "java/lang/Exception"], w.before args s = true := by
  refine allB_use ?_
  refine And.intro (hts _ q57) ?_
  refine And.intro (hts _ q271) ?_
  refine And.intro (hts _ q213) ?_
  refine And.intro (hts _ q233) ?_
  refine And.intro (hts _ q236) ?_
  refine And.intro (hts _ q238) ?_
  refine And.intro (hts _ q272) ?_
  refine And.intro (hts _ q273) ?_
  refine And.intro (hts _ q82) ?_
  refine And.intro (hts _ q83) ?_
  refine And.intro (hts _ q207) ?_
  refine And.intro (hts _ q212) ?_
  refine And.intro (hts _ q234) ?_
  refine And.intro (hts _ q241) ?_
  refine And.intro (hts _ q265) ?_
  refine And.intro (hts _ q242) ?_
  refine And.intro (hts _ q266) ?_
  refine And.intro (hts _ q243) ?_
  refine And.intro (hts _ q267) ?_
  refine And.intro (hts _ q208) ?_
  refine And.intro (hK.lu (args := args) hZ) ?_
  refine And.intro (hts _ q210) ?_
  refine And.intro (hK.ls (args := args) hZ) ?_
  refine And.intro (hts _ q268) ?_
  refine And.intro (hts _ q205) ?_
  refine And.intro (hts _ q206) ?_
  refine And.intro (hts _ q240) ?_
  refine And.intro (hts _ q268) ?_
  refine And.intro (hts _ q196) ?_
  refine And.intro (hts _ q197) ?_
  refine And.intro (hts _ q198) ?_
  refine And.intro (hts _ q199) ?_
  refine And.intro (hK.dc 1 rfl args) ?_
  refine And.intro (hts _ q199) ?_
  refine And.intro (hts _ q200) ?_
  refine And.intro (hts _ q201) ?_
  refine And.intro (hts _ q202) ?_
  refine And.intro (hK.dc 2 rfl args) ?_
  refine And.intro (hts _ q202) ?_
  refine And.intro (hts _ q203) ?_
  refine And.intro (hts _ q204) ?_
  refine And.intro (hts _ q205) ?_
  refine And.intro (hK.dc 3 rfl args) ?_
  refine And.intro (hts _ q61) ?_
  refine And.intro (hts _ q274) ?_
  refine And.intro (hts _ q275) ?_
  refine And.intro (hts _ q276) ?_
  refine And.intro (hts _ q278) ?_
  refine And.intro (hts _ q277) ?_
  refine And.intro (hts _ q279) ?_
  refine And.intro (hts _ q60) ?_
  refine And.intro (hts _ q195) ?_
  refine And.intro (hK.c 2 rfl args) ?_
  refine And.intro (hts _ q264) ?_
  refine And.intro (hts _ q217) ?_
  refine And.intro (hts _ q248) ?_
  refine And.intro (hts _ q250) ?_
  refine And.intro (hts _ q254) ?_
  refine And.intro (hts _ q246) ?_
  refine And.intro (hK.ru (args := args) hZ) ?_
  refine And.intro (hK.rs (args := args) hZ) ?_
  refine And.intro (hts _ q239) ?_
  refine And.intro (hts _ q269) ?_
  refine And.intro (hts _ q244) ?_
  exact trivial
theorem at_T (hts : ∀ w ∈ lw_all, w.before args s = true) (hK : KE D d e0 H00 s) (hZ : H00.size ≤ s.heap.size ∧ ∀ q : Nat, q < H00.size → s.heap[q]? = H00[q]?) : ∀ w ∈ Bundle.messageArmAtoms "java/lang/ArrayStoreException" ["java/lang/RuntimeException", "java/lang/Exception"], w.before args s = true := by
  refine allB_use ?_
  refine And.intro (hts _ q57) ?_
  refine And.intro (hts _ q271) ?_
  refine And.intro (hts _ q213) ?_
  refine And.intro (hts _ q233) ?_
  refine And.intro (hts _ q236) ?_
  refine And.intro (hts _ q238) ?_
  refine And.intro (hts _ q272) ?_
  refine And.intro (hts _ q273) ?_
  refine And.intro (hts _ q82) ?_
  refine And.intro (hts _ q83) ?_
  refine And.intro (hts _ q207) ?_
  refine And.intro (hts _ q212) ?_
  refine And.intro (hts _ q234) ?_
  refine And.intro (hts _ q241) ?_
  refine And.intro (hts _ q265) ?_
  refine And.intro (hts _ q242) ?_
  refine And.intro (hts _ q266) ?_
  refine And.intro (hts _ q243) ?_
  refine And.intro (hts _ q267) ?_
  refine And.intro (hts _ q208) ?_
  refine And.intro (hK.lu (args := args) hZ) ?_
  refine And.intro (hts _ q210) ?_
  refine And.intro (hK.ls (args := args) hZ) ?_
  refine And.intro (hts _ q268) ?_
  refine And.intro (hts _ q205) ?_
  refine And.intro (hts _ q206) ?_
  refine And.intro (hts _ q240) ?_
  refine And.intro (hts _ q268) ?_
  refine And.intro (hts _ q798) ?_
  refine And.intro (hts _ q799) ?_
  refine And.intro (hts _ q800) ?_
  refine And.intro (hts _ q199) ?_
  refine And.intro (hK.dc 1 rfl args) ?_
  refine And.intro (hts _ q199) ?_
  refine And.intro (hts _ q200) ?_
  refine And.intro (hts _ q201) ?_
  refine And.intro (hts _ q202) ?_
  refine And.intro (hK.dc 2 rfl args) ?_
  refine And.intro (hts _ q202) ?_
  refine And.intro (hts _ q203) ?_
  refine And.intro (hts _ q204) ?_
  refine And.intro (hts _ q205) ?_
  refine And.intro (hK.dc 3 rfl args) ?_
  refine And.intro (hts _ q61) ?_
  refine And.intro (hts _ q274) ?_
  refine And.intro (hts _ q275) ?_
  refine And.intro (hts _ q276) ?_
  refine And.intro (hts _ q278) ?_
  refine And.intro (hts _ q277) ?_
  refine And.intro (hts _ q279) ?_
  refine And.intro (hts _ q75) ?_
  refine And.intro (hts _ q797) ?_
  refine And.intro (hK.c 3 rfl args) ?_
  refine And.intro (hts _ q809) ?_
  refine And.intro (hts _ q216) ?_
  refine And.intro (hts _ q803) ?_
  refine And.intro (hts _ q804) ?_
  refine And.intro (hts _ q806) ?_
  refine And.intro (hts _ q802) ?_
  refine And.intro (hK.ru (args := args) hZ) ?_
  refine And.intro (hK.rs (args := args) hZ) ?_
  refine And.intro (hts _ q239) ?_
  refine And.intro (hts _ q269) ?_
  refine And.intro (hts _ q801) ?_
  exact trivial
theorem at_N (hts : ∀ w ∈ lw_all, w.before args s = true) (hK : KE D d e0 H00 s) (hZ : H00.size ≤ s.heap.size ∧ ∀ q : Nat, q < H00.size → s.heap[q]? = H00[q]?) : ∀ w ∈ Bundle.npeArmAtoms 8, w.before args s = true := by
  refine allB_use ?_
  refine And.intro (hts _ q57) ?_
  refine And.intro (hts _ q271) ?_
  refine And.intro (hts _ q213) ?_
  refine And.intro (hts _ q233) ?_
  refine And.intro (hts _ q236) ?_
  refine And.intro (hts _ q238) ?_
  refine And.intro (hts _ q272) ?_
  refine And.intro (hts _ q273) ?_
  refine And.intro (hts _ q82) ?_
  refine And.intro (hts _ q83) ?_
  refine And.intro (hts _ q207) ?_
  refine And.intro (hts _ q212) ?_
  refine And.intro (hts _ q234) ?_
  refine And.intro (hts _ q241) ?_
  refine And.intro (hts _ q265) ?_
  refine And.intro (hts _ q242) ?_
  refine And.intro (hts _ q266) ?_
  refine And.intro (hts _ q243) ?_
  refine And.intro (hts _ q267) ?_
  refine And.intro (hts _ q208) ?_
  refine And.intro (hK.lu (args := args) hZ) ?_
  refine And.intro (hts _ q210) ?_
  refine And.intro (hK.ls (args := args) hZ) ?_
  refine And.intro (hts _ q268) ?_
  refine And.intro (hts _ q230) ?_
  refine And.intro (hts _ q220) ?_
  refine And.intro (hts _ q221) ?_
  refine And.intro (hts _ q290) ?_
  refine And.intro (hts _ q292) ?_
  refine And.intro (hts _ q227) ?_
  refine And.intro (hts _ q228) ?_
  refine And.intro (hK.c 4 rfl args) ?_
  refine And.intro (hts _ q281) ?_
  refine And.intro (hts _ q282) ?_
  refine And.intro (hts _ q283) ?_
  refine And.intro (hts _ q284) ?_
  refine And.intro (hK.dc 4 rfl args) ?_
  refine And.intro (hts _ q284) ?_
  refine And.intro (hts _ q285) ?_
  refine And.intro (hts _ q286) ?_
  refine And.intro (hts _ q287) ?_
  refine And.intro (hK.dc 5 rfl args) ?_
  refine And.intro (hts _ q287) ?_
  refine And.intro (hts _ q288) ?_
  refine And.intro (hts _ q289) ?_
  refine And.intro (hts _ q272) ?_
  refine And.intro (hK.dc 6 rfl args) ?_
  refine And.intro (hts _ q62) ?_
  refine And.intro (hts _ q225) ?_
  refine And.intro (hK.c 5 rfl args) ?_
  refine And.intro (hts _ q303) ?_
  refine And.intro (hts _ q219) ?_
  refine And.intro (hts _ q298) ?_
  refine And.intro (hts _ q299) ?_
  refine And.intro (hts _ q301) ?_
  refine And.intro (hK.ru (args := args) hZ) ?_
  refine And.intro (hK.rs (args := args) hZ) ?_
  refine And.intro (hts _ q239) ?_
  refine And.intro (hts _ q269) ?_
  refine And.intro (hts _ q296) ?_
  exact trivial
theorem at_O (hts : ∀ w ∈ lw_all, w.before args s = true) (hK : KE D d e0 H00 s) (hZ : H00.size ≤ s.heap.size ∧ ∀ q : Nat, q < H00.size → s.heap[q]? = H00[q]?) : ∀ w ∈ Bundle.ownAtoms0 "MustardFast" 306 "java/lang/ArrayIndexOutOfBoundsException" ["java/lang/IndexOutOfBoundsException", "java/lang/RuntimeException", "java/lang/Exception"], w.before args s = true := by
  refine allB_use ?_
  refine And.intro (hts _ q57) ?_
  refine And.intro (hts _ q271) ?_
  refine And.intro (hts _ q213) ?_
  refine And.intro (hts _ q233) ?_
  refine And.intro (hts _ q236) ?_
  refine And.intro (hts _ q238) ?_
  refine And.intro (hts _ q272) ?_
  refine And.intro (hts _ q273) ?_
  refine And.intro (hts _ q82) ?_
  refine And.intro (hts _ q83) ?_
  refine And.intro (hts _ q207) ?_
  refine And.intro (hts _ q212) ?_
  refine And.intro (hts _ q234) ?_
  refine And.intro (hts _ q241) ?_
  refine And.intro (hts _ q265) ?_
  refine And.intro (hts _ q242) ?_
  refine And.intro (hts _ q266) ?_
  refine And.intro (hts _ q243) ?_
  refine And.intro (hts _ q267) ?_
  refine And.intro (hts _ q208) ?_
  refine And.intro (hK.lu (args := args) hZ) ?_
  refine And.intro (hts _ q210) ?_
  refine And.intro (hK.ls (args := args) hZ) ?_
  refine And.intro (hts _ q268) ?_
  refine And.intro (hts _ q365) ?_
  refine And.intro (hts _ q366) ?_
  refine And.intro (hts _ q367) ?_
  refine And.intro (hts _ q368) ?_
  refine And.intro (hK.dc 7 rfl args) ?_
  refine And.intro (hts _ q368) ?_
  refine And.intro (hts _ q369) ?_
  refine And.intro (hts _ q370) ?_
  refine And.intro (hts _ q284) ?_
  refine And.intro (hK.dc 4 rfl args) ?_
  refine And.intro (hts _ q284) ?_
  refine And.intro (hts _ q285) ?_
  refine And.intro (hts _ q286) ?_
  refine And.intro (hts _ q287) ?_
  refine And.intro (hK.dc 5 rfl args) ?_
  refine And.intro (hts _ q287) ?_
  refine And.intro (hts _ q288) ?_
  refine And.intro (hts _ q289) ?_
  refine And.intro (hts _ q272) ?_
  refine And.intro (hK.dc 6 rfl args) ?_
  refine And.intro (hts _ q364) ?_
  refine And.intro (hts _ q320) ?_
  refine And.intro (hK.c 0 rfl args) ?_
  refine And.intro (hts _ q337) ?_
  refine And.intro (hts _ q215) ?_
  refine And.intro (hts _ q329) ?_
  refine And.intro (hts _ q330) ?_
  refine And.intro (hts _ q332) ?_
  refine And.intro (hts _ q328) ?_
  refine And.intro (hK.ru (args := args) hZ) ?_
  refine And.intro (hK.rs (args := args) hZ) ?_
  refine And.intro (hts _ q239) ?_
  refine And.intro (hts _ q269) ?_
  refine And.intro (hts _ q327) ?_
  exact trivial
end KEa
