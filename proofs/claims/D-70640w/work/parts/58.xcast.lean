/-! a cast that fails -/
theorem mod_name {s : State} (hm : modulesRight_1 s = true) {k : Class} (hl : k.loader = none) (hp : packageOf k.name = "") {x : ModuleInfo} (h : s.vm.moduleOf k = some x) : x.name = "java.base" := by
  unfold Vm.moduleOf at h
  split at h
  · have := List.find?_some h
    simpa using this
  · have h1 := List.find?_some h
    have h2 := List.mem_of_find?_eq_some h
    simp only [Bool.and_eq_true, beq_iff_eq] at h1
    unfold modulesRight_1 at hm
    rw [List.all_eq_true] at hm
    have h3 := hm x h2
    rw [h1.1, hl] at h3
    have h4 : (castPackages_1.any fun p => x.packages.contains p) = true := by
      rw [List.any_eq_true]
      exact ⟨"", by decide, by rw [← hp]; exact h1.2⟩
    rw [h4] at h3
    simpa using h3
theorem home_len {s : State} (hm : modulesRight_1 s = true) {k : Class} (hl : k.loader = none) (hp : packageOf k.name = "") : (s.vm.home k).toList.length ≤ 38 := by
  unfold Vm.home
  rw [hl]
  cases h : s.vm.moduleOf k with
  | none =>
    show ("unnamed module" ++ " of loader " ++ "'bootstrap'").toList.length ≤ 38
    decide
  | some x =>
    show ("module " ++ x.name ++ " of loader " ++ "'bootstrap'").toList.length ≤ 38
    rw [mod_name hm hl hp h]
    decide
theorem homes_len {s : State} (hm : modulesRight_1 s = true) {a b : Class} (ha : a.loader = none) (hpa : packageOf a.name = "") (hb : b.loader = none) (hpb : packageOf b.name = "") (hsa : a.shown.toList.length ≤ 20) (hsb : b.shown.toList.length ≤ 20) : (s.vm.homes a b).toList.length ≤ 132 := by
  have h1 := home_len hm ha hpa
  have h2 := home_len hm hb hpb
  have e1 : (" and " : String).toList.length = 5 := by decide
  have e2 : (" are in " : String).toList.length = 8 := by decide
  have e3 : (" is in " : String).toList.length = 7 := by decide
  have e4 : ("; " : String).toList.length = 2 := by decide
  unfold Vm.homes
  split
  · show (toString a.shown ++ toString " and " ++ toString b.shown ++ toString " are in " ++ toString (s.vm.home a)).toList.length ≤ 132
    simp only [String.toList_append, List.length_append, toString, e1, e2]
    omega
  · show (toString a.shown ++ toString " is in " ++ toString (s.vm.home a) ++ toString "; " ++ toString b.shown ++ toString " is in " ++ toString (s.vm.home b)).toList.length ≤ 132
    simp only [String.toList_append, List.length_append, toString, e3, e4]
    omega
theorem cast_text {s : State} (hm : modulesRight_1 s = true) {a b : Class} (ha : a.loader = none) (hpa : packageOf a.name = "") (hb : b.loader = none) (hpb : packageOf b.name = "") (hsa : a.shown.toList.length ≤ 20) (hsb : b.shown.toList.length ≤ 20) : (Op.checkcast.message s.vm a b == notModelled) = false ∧ (stringBytes (stringToUtf16 (Op.checkcast.message s.vm a b))).size ≤ 990 := by
  have e : (Op.checkcast.message s.vm a b).toList = 'c' :: ("lass ".toList ++ a.shown.toList ++ " cannot be cast to class ".toList ++ b.shown.toList ++ " (".toList ++ (s.vm.homes a b).toList ++ ")".toList) := by
    show (toString "class " ++ toString a.shown ++ toString " cannot be cast to class " ++ toString b.shown ++ toString " (" ++ toString (s.vm.homes a b) ++ toString ")").toList = _
    simp only [String.toList_append, toString]
    rfl
  constructor
  · rw [beq_eq_false_iff_ne]
    intro h
    have h2 := congrArg String.toList h
    rw [e] at h2
    have h4 : notModelled.toList = '\u0000' :: " a message that is not modelled".toList := by decide
    rw [h4] at h2
    simp at h2
  · have b1 := stringBytes_size_le (stringToUtf16 (Op.checkcast.message s.vm a b))
    have b2 := utf16_size_le (Op.checkcast.message s.vm a b)
    have b3 := homes_len hm ha hpa hb hpb hsa hsb
    have c1 : ("lass ".toList).length = 5 := by decide
    have c2 : (" cannot be cast to class ".toList).length = 25 := by decide
    have c3 : (" (".toList).length = 2 := by decide
    have c4 : (")".toList).length = 1 := by decide
    rw [e] at b2
    simp only [List.length_cons, List.length_append, c1, c2, c3, c4] at b2
    omega
/-- a class by a name: of the first loader, not hidden -/
theorem fc_home {vm : Vm} {name : String} {k : ClassId} {K : Class} (h : vm.findClass name = some k) (hK : vm.classes[k]? = some K) : K.name = name ∧ K.loader = none ∧ K.hidden = none := by
  obtain ⟨hlt, hp, _⟩ := Array.findIdx?_eq_some_iff_getElem.mp h
  have e : vm.classes[k] = K := (Array.getElem?_eq_some_iff.mp hK).2
  rw [e] at hp
  simp only [Bool.and_eq_true, beq_iff_eq] at hp
  exact ⟨hp.1.1.1, by simpa using hp.2, by simpa using hp.1.1.2⟩
section XC
variable {p : Program} {l : Launch} {e : Env} {R : Room} {s : State} {m : MethodId} {args : Array Value} {below : List Frame} {meth : Method} {c : Code} {T : State} {locs : List Loc} {cells slots : Nat}
theorem checkcastNo (X : Stand p l e R s m args below meth c T locs cells slots) (hexec : p.tables.exec = Jvm.exec) (hm : modulesRight_1 s = true)
    {own name C : String} {index : Nat} (hown : s.vm.findClass own = some m.cls) (hlink : (Cond.classLink own index name).before args s = true)
    {a : Addr} {cell : Cell} (hcell : T.heap[a]? = some cell) (hobj : cell.vm.isStatics = false) (hcC : s.vm.findClass C = some cell.cls) (hno : va_Nc C name s)
    (hpC : packageOf C = "") (hpN : packageOf name = "") (hdC : (dotted C).toList.length ≤ 20) (hdN : (dotted name).toList.length ≤ 20)
    {g : JFrame} (hg : g.method = m) {rest : List Value} (hstack : g.stack = .ref a :: rest) (hdg : decode c.code g.pc = .ok (.checkcast index, 3)) :
    ∃ vm', Stand p l e R s m args below meth c (T.setVm vm') locs cells slots ∧ ∃ text : String, (text == notModelled) = false ∧ (stringBytes (stringToUtf16 text)).size ≤ 990 ∧
      ∀ target, Steps p.tables e below (((T.setVm vm').setTop g).pushFrame (.throwNew "java/lang/ClassCastException" (some text) none)) target → Steps p.tables e below (T.setTop g) target := by
  have hpl : e.platform.magicAccessors = ({} : Platform).magicAccessors := by rw [X.admits.platform]
  obtain ⟨c', hc', hcl⟩ := Cond.classLink_spec hown hlink e.platform hpl
  obtain ⟨c5, cT, w1, w2, w3⟩ := hno
  cases hcC.symm.trans w1
  have ecT : c' = cT := Option.some.inj (hc'.symm.trans w2)
  subst ecT
  obtain ⟨dk, _, _, kt, hd, _, _, _, _, hkt, _, hopen⟩ := hcl.here
  obtain ⟨ks, hks⟩ := Vm.classAt_of_findClass hcC
  have hcl₀ := X.warmed.classLinks hcl
  have hW' : s.WarmedH (T.vm.noted m.cls index (.cls c')) := X.warmed.noted hd hopen (State.rightAt_cls hcl)
  obtain ⟨ks', hks', hes⟩ := hW'.alike.2.2 _ _ hks
  obtain ⟨kt', hkt', het⟩ := hW'.alike.2.2 _ _ hkt
  have hmod : modulesRight_1 (T.setVm (T.vm.noted m.cls index (.cls c'))) = true := by
    have h0 : (T.vm.noted m.cls index (.cls c')).modules = s.vm.modules := by
      have := hW'.alike.1
      rw [this]
    unfold modulesRight_1 at hm ⊢
    show (T.vm.noted m.cls index (.cls c')).modules.all _ = true
    rw [h0]; exact hm
  obtain ⟨n1, n2, n3⟩ := fc_home hcC hks
  obtain ⟨m1, m2, m3⟩ := fc_home hc' hkt
  have s1 : ks'.shown = dotted C := by
    unfold Class.shown
    have : ks'.hidden = none := by rw [hes]; exact n3
    rw [this]
    have : ks'.name = C := by rw [hes]; exact n1
    rw [this]
  have s2 : kt'.shown = dotted name := by
    unfold Class.shown
    have : kt'.hidden = none := by rw [het]; exact m3
    rw [this]
    have : kt'.name = name := by rw [het]; exact m1
    rw [this]
  obtain ⟨t1, t2⟩ := cast_text (s := T.setVm (T.vm.noted m.cls index (.cls c'))) hmod (a := ks') (b := kt') (by rw [hes]; exact n2) (by rw [hes]; show packageOf ks.name = ""; rw [n1]; exact hpC) (by rw [het]; exact m2) (by rw [het]; show packageOf kt.name = ""; rw [m1]; exact hpN) (by rw [s1]; exact hdC) (by rw [s2]; exact hdN)
  refine ⟨_, X.noted hW', _, t1, t2, fun target hrest => ?_⟩
  subst hg
  have h1 : (T.vm.noted g.method.cls index (Resolved.cls c')).assignable cell.cls c' = false := by rw [hW'.alike.assignable]; exact w3
  jvm_step X.here [hexec, hdg, checkcast.wp_cold (e := e) (s := T) (f := g) X.here.top hstack (resolveClass_links e.toSetting hcl₀) hcl₀.ready,
    checkcast.wp_ready (e := e) (s := T.setVm (T.vm.noted g.method.cls index (.cls c'))) (f := g) X.here.top hcl₀.ready hstack]
  refine ⟨cell, hcell, VmData.noStatics_of hobj, ks', hks', kt', hkt', ?_⟩
  simp only [h1, Bool.false_eq_true, if_false]
  exact hrest
end XC
