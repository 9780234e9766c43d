/-! new arrays of ints and truth values in a world, under the tables' own array classes -/
section NW
variable {p : Program} {l : Launch} {e : Env} {R : Room} {s : State} {m : MethodId} {args : Array Value} {below : List Frame} {meth : Method} {c : Code} {H : Heap} {locs : List Loc} {cells slots : Nat} {Q : State → Prop}
variable {cc : ByteArray} {pc : Nat} {ls : Array Slot} {rest : List Value} {D : va_G} {d : Nat → ClassId} {A : Nat → Prop} {H0 : Heap} {ws : va_W}
theorem nw_g (hx : p.tables.exec = Jvm.exec) (hb : c.code = cc) {atype : ArrayType} {cA : ClassId} {f : Nat → Int32} (harr : (Cond.arrayClass (newarray.typeOf atype)).before args s = true) (hfc : s.vm.findClass ("[" ++ (newarray.typeOf atype).toString) = some cA) (hdv : ∀ j, Value.int (f j) = defaultValue (newarray.typeOf atype)) (hA : ∀ q, H0.size ≤ q → A q) (hu : uW D A H0 H locs ws)
    {n : Int32} {N : Nat} (hn : ¬ n < 0) (hN : n.toNatClampNeg = N) (hby : N * componentBytes (newarray.typeOf atype) ≤ 536870912) (hcells : cells + 1 ≤ R.cells) (hslots : slots + N ≤ R.slots) (hdg : decode cc pc = .ok (.newarray atype, 2))
    (kk : ∀ (q : Nat) (H1 : Heap), uW D A H0 H1 locs (ws ++ [(q, .inl (cA, N, .inl f))]) → W p l e R s m args below meth c H1 locs (cells + 1) (slots + N) Q (F0 m (pc + 2) ls (.ref q :: rest))) : W p l e R s m args below meth c H locs cells slots Q (F0 m pc ls (.int n :: rest)) := by
  refine va_newaK hx hb harr rfl hdg rfl hn hN hby hcells hslots rfl fun H1 cA' e1 z1 o1 hAr hNm => ?_
  obtain ⟨hP, hD, hS⟩ := hu
  have hc : cA' = cA := Option.some.inj (hNm.symm.trans hfc)
  subst hc
  have hk : ∀ (k : Nat) (x : Nat × va_E), ws[k]? = some x → H1[x.1]? = H[x.1]? := fun k x hx => o1 x.1 ((hP k x hx).lt)
  refine kk H.size H1 ⟨(hP.kept hk).app (fun k x hx => ?_), hD.push hP rfl (hA _ hS.1), ⟨Nat.le_trans hS.1 (by omega), fun x h1 h2 => (o1 x (Nat.lt_of_lt_of_le h1 hS.1)).trans (hS.2.1 x h1 h2), hS.2.2⟩⟩
  have hz : k < 1 := (List.getElem?_eq_some_iff.mp hx).1
  rw [show k = 0 by omega] at hx
  cases hx
  show H1[H.size]? = some (arrV cA' N (fun j => .int (f j)))
  rw [e1]
  congr 2
  exact (funext hdv).symm
theorem nw_i (hx : p.tables.exec = Jvm.exec) (hb : c.code = cc) (hts : ∀ w ∈ lw_all, w.before args s = true) (hK : KM D d s) (hA : ∀ q, H0.size ≤ q → A q) (hu : uW D A H0 H locs ws)
    {n : Int32} {N : Nat} (hn : ¬ n < 0) (hN : n.toNatClampNeg = N) (hby : N * 4 ≤ 536870912) (hcells : cells + 1 ≤ R.cells) (hslots : slots + N ≤ R.slots) (hdg : decode cc pc = .ok (.newarray .int, 2))
    (kk : ∀ (q : Nat) (H1 : Heap), uW D A H0 H1 locs (ws ++ [(q, .inl (d 0, N, .inl (fun _ => 0)))]) → W p l e R s m args below meth c H1 locs (cells + 1) (slots + N) Q (F0 m (pc + 2) ls (.ref q :: rest))) : W p l e R s m args below meth c H locs cells slots Q (F0 m pc ls (.int n :: rest)) :=
  nw_g (atype := .int) hx hb (hts _ q124) hK.2.1 (fun _ => rfl) hA hu hn hN hby hcells hslots hdg kk
theorem nw_z (hx : p.tables.exec = Jvm.exec) (hb : c.code = cc) (hts : ∀ w ∈ lw_all, w.before args s = true) (hK : KM D d s) (hA : ∀ q, H0.size ≤ q → A q) (hu : uW D A H0 H locs ws)
    {n : Int32} {N : Nat} (hn : ¬ n < 0) (hN : n.toNatClampNeg = N) (hby : N * 1 ≤ 536870912) (hcells : cells + 1 ≤ R.cells) (hslots : slots + N ≤ R.slots) (hdg : decode cc pc = .ok (.newarray .boolean, 2))
    (kk : ∀ (q : Nat) (H1 : Heap), uW D A H0 H1 locs (ws ++ [(q, .inl (d 1, N, .inl (fun _ => 0)))]) → W p l e R s m args below meth c H1 locs (cells + 1) (slots + N) Q (F0 m (pc + 2) ls (.ref q :: rest))) : W p l e R s m args below meth c H locs cells slots Q (F0 m pc ls (.int n :: rest)) :=
  nw_g (atype := .boolean) hx hb (hts _ q125) hK.2.2.1 (fun _ => rfl) hA hu hn hN hby hcells hslots hdg kk
theorem nw_b (hx : p.tables.exec = Jvm.exec) (hb : c.code = cc) (hts : ∀ w ∈ lw_all, w.before args s = true) (hK : KM D d s) (hA : ∀ q, H0.size ≤ q → A q) (hu : uW D A H0 H locs ws)
    {n : Int32} {N : Nat} (hn : ¬ n < 0) (hN : n.toNatClampNeg = N) (hby : N * 1 ≤ 536870912) (hcells : cells + 1 ≤ R.cells) (hslots : slots + N ≤ R.slots) (hdg : decode cc pc = .ok (.newarray .byte, 2))
    (kk : ∀ (q : Nat) (H1 : Heap), uW D A H0 H1 locs (ws ++ [(q, .inl (d 2, N, .inl (fun _ => 0)))]) → W p l e R s m args below meth c H1 locs (cells + 1) (slots + N) Q (F0 m (pc + 2) ls (.ref q :: rest))) : W p l e R s m args below meth c H locs cells slots Q (F0 m pc ls (.int n :: rest)) :=
  nw_g (atype := .byte) hx hb (hts _ q275) hK.2.2.2.1 (fun _ => rfl) hA hu hn hN hby hcells hslots hdg kk
theorem nw_s (hx : p.tables.exec = Jvm.exec) (hb : c.code = cc) (hts : ∀ w ∈ lw_all, w.before args s = true) (hK : KM D d s) (hA : ∀ q, H0.size ≤ q → A q) (hu : uW D A H0 H locs ws)
    {n : Int32} {N : Nat} (hn : ¬ n < 0) (hN : n.toNatClampNeg = N) (hby : N * 2 ≤ 536870912) (hcells : cells + 1 ≤ R.cells) (hslots : slots + N ≤ R.slots) (hdg : decode cc pc = .ok (.newarray .short, 2))
    (kk : ∀ (q : Nat) (H1 : Heap), uW D A H0 H1 locs (ws ++ [(q, .inl (d 3, N, .inl (fun _ => 0)))]) → W p l e R s m args below meth c H1 locs (cells + 1) (slots + N) Q (F0 m (pc + 2) ls (.ref q :: rest))) : W p l e R s m args below meth c H locs cells slots Q (F0 m pc ls (.int n :: rest)) :=
  nw_g (atype := .short) hx hb (hts _ q775) hK.2.2.2.2 (fun _ => rfl) hA hu hn hN hby hcells hslots hdg kk
end NW
