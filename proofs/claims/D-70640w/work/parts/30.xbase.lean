/-! the tables' words that X's methods carry beside lw_all -/
def xF : List (String × Nat × String × String × String × String) := [(RX0, 158, RX1, "has", "Ljava/lang/Object;", RX0), (RX0, 201, RX3, "spoons", "I", RX0), (RX0, 198, RX3, "stay", "I", RX0), (RX0, 204, RX3, "need", "I", RX0), (RX3, 32, RX0, "changed", "I", RX0), (RX3, 35, RX0, "changedKind", "I", RX0), (RX3, 19, RX0, "read", "[I", RX0)]
def xM : List (String × Nat × MethodName × String) := [(RX0, 279, yX1_init, RX0), (RX3, 38, yX0_asKind, RX0), (RX3, 49, yX0_all, RX0), (RX3, 59, yX0_bits, RX0), (RX3, 65, yX0_begins, RX0), (RX4, 23, yX0_begins, RX0), (RX5, 17, yX0_begins, RX0)]
def xC : List (String × String) := [(RX3, RJ18), (RX4, RJ18), (RX5, RJ18), (RX4, RX3), (RX5, RX3), (RX5, RX4), (RX3, RX6), (RX4, RX6), (RX5, RX6)]
def yLget : MethodName := ⟨"java/util/List", "get", "(I)Ljava/lang/Object;"⟩
def yLsize : MethodName := ⟨"java/util/List", "size", "()I"⟩
def yLadd : MethodName := ⟨"java/util/List", "add", "(Ljava/lang/Object;)Z"⟩
def yLclear : MethodName := ⟨"java/util/List", "clear", "()V"⟩
def ySusual : MethodName := ⟨RX6, "usual", "()I"⟩
def xI : List (String × MethodName × MethodName) := [(RJ2, yLget, yJ2_get), (RJ2, yLsize, yJ2_size), (RJ2, yLadd, yJ2_add), (RJ2, yLclear, yJ2_clear), (RX3, ySusual, yX3_usual), (RX4, ySusual, yX3_usual), (RX5, yX6_sniff, yX5_sniff), (RX3, yX6_sniff, yX6_sniff), (RX4, yX6_sniff, yX6_sniff)]
def xN : List (String × String) := [(RX3, RX4), (RX3, RX5), (RX4, RX5), ("[I", "[B"), ("[S", "[B"), ("[I", "[S"), ("[B", "[S"), ("[B", "[I"), ("[S", "[I")]
theorem xI_ok : ∀ x ∈ xI, x.2.1.cls ≠ "java/lang/invoke/MethodHandle" ∧ x.2.1.cls ≠ "java/lang/invoke/VarHandle" := by decide
/-- a default method that an interface call lands in -/
def dflt (C : String) (x y : MethodName) (U : State) : Prop := ∃ (k : ClassId) (r m : MethodId), U.vm.findClass C = some k ∧ U.methodFound? x.cls x.name x.desc = some r ∧ U.methodNamed? y = some m ∧ selectMethod {} U.vm k r = .method m
theorem dflt.of {C : String} {x y : MethodName} {U : State} {A : Array Value} (h : (Cond.landsInDefault C x y).before A U = true) : dflt C x y U := by
  simp only [Cond.before, Cond.holds, Cond.value] at h
  cases hc : U.vm.findClass C with
  | none => simp [hc] at h
  | some k =>
    cases hr : U.methodFound? x.cls x.name x.desc with
    | none => simp [hc, hr] at h
    | some r =>
      cases hm : U.methodNamed? y with
      | none => simp [hc, hr, hm] at h
      | some m =>
        cases hq : U.vm.method? r with
        | none => simp [hc, hr, hm, hq] at h
        | some rm =>
          cases hs : selectMethod {} U.vm k r with
          | method m' =>
            simp [hc, hr, hm, hq, hs] at h
            have e : m' = m := h.1.1.1.1
            subst e
            exact ⟨k, r, _, hc, hr, hm, hs⟩
          | _ => simp [hc, hr, hm, hq, hs] at h
theorem dflt.moved {C : String} {x y : MethodName} {u U : State} (hvm : u.vm.Alike U.vm) (h : dflt C x y u) : dflt C x y U := by
  obtain ⟨k, r, m, h1, h2, h3, h4⟩ := h
  refine ⟨k, r, m, by rw [hvm.findClass]; exact h1, ?_, ?_, by rw [hvm.selectMethod]; exact h4⟩
  · have e := State.methodFound?_setVm hvm x.cls x.name x.desc
    rw [h2] at e
    exact e
  · have e := State.methodNamed?_setVm hvm y
    rw [h3] at e
    exact e
/-- the tables, for X -/
def KX (D : va_G) (d : Nat → ClassId) (U : State) : Prop := KM D d U ∧ (∀ x ∈ xF, va_Nw (.fieldLinkNest x.1 x.2.1 x.2.2.1 x.2.2.2.1 x.2.2.2.2.1 x.2.2.2.2.2) U) ∧ (∀ x ∈ xM, va_Nw (.methodLinkNest x.1 x.2.1 x.2.2.1 x.2.2.2) U) ∧ (∀ x ∈ xC, va_Nw (.castable x.1 x.2) U) ∧ (∀ x ∈ xI, va_Fw x.1 x.2.1 x.2.2 U) ∧ (∀ x ∈ xN, va_Nc x.1 x.2 U) ∧ (va_AO RX1 U ∧ va_AO RJ18 U) ∧ U.vm.findClass "[Ljava/lang/Object;" = some (d 4) ∧ U.vm.findClass "[LMustardFast$Place;" = some (d 5) ∧ dflt RX3 yX6_sniff yX6_sniff U ∧ dflt RX4 yX6_sniff yX6_sniff U
theorem KX_st {D : va_G} {d : Nat → ClassId} : Kst (KX D d) := fun u U hW h => by
  obtain ⟨h0, h1, h2, h3, h4, h5, ⟨h6, h7⟩, h8, h9, h10, h11⟩ := h
  have hf : ∀ n, U.vm.findClass n = u.vm.findClass n := fun n => by first | exact hW.alike.findClass n | exact (hW.alike.findClass n).symm | simp [hW.alike.findClass]
  exact ⟨KM_st u U hW h0, fun x hx => (h1 x hx).warmF hW, fun x hx => (h2 x hx).warmM hW, fun x hx => (h3 x hx).warmC hW, fun x hx => va_Fw.moved (xI_ok x hx) hW.alike (h4 x hx), fun x hx => va_Nc.moved hW.alike (h5 x hx), ⟨va_AO.moved hW.alike h6, va_AO.moved hW.alike h7⟩, by rw [hf]; exact h8, by rw [hf]; exact h9, h10.moved hW.alike, h11.moved hW.alike⟩
section KXu
variable {D : va_G} {d : Nat → ClassId} {U : State}
theorem KX.f (h : KX D d U) (k : Nat) {x : String × Nat × String × String × String × String} (e : xF[k]? = some x) (A : Array Value) : (Cond.fieldLinkNest x.1 x.2.1 x.2.2.1 x.2.2.2.1 x.2.2.2.2.1 x.2.2.2.2.2).before A U = true := va_Nw.use rfl (h.2.1 x (List.mem_of_getElem? e))
theorem KX.m (h : KX D d U) (k : Nat) {x : String × Nat × MethodName × String} (e : xM[k]? = some x) : va_Nw (.methodLinkNest x.1 x.2.1 x.2.2.1 x.2.2.2) U := h.2.2.1 x (List.mem_of_getElem? e)
theorem KX.c (h : KX D d U) (k : Nat) {x : String × String} (e : xC[k]? = some x) : va_Nw (.castable x.1 x.2) U := h.2.2.2.1 x (List.mem_of_getElem? e)
theorem KX.i (h : KX D d U) (k : Nat) {x : String × MethodName × MethodName} (e : xI[k]? = some x) : va_Fw x.1 x.2.1 x.2.2 U := h.2.2.2.2.1 x (List.mem_of_getElem? e)
theorem KX.n (h : KX D d U) (k : Nat) {x : String × String} (e : xN[k]? = some x) : va_Nc x.1 x.2 U := h.2.2.2.2.2.1 x (List.mem_of_getElem? e)
end KXu
