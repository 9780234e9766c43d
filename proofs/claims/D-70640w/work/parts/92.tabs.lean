/-! the tables at the law's entry -/
theorem va_LSof {args : Array Value} {s : State} {C n d : String} (h : (Cond.laysStatic C n d).before args s = true) : va_LS C n d s.heap s := by
  obtain ⟨c, k, i, f, a, cell, hc, hi, hst, ha, hcell, hs, hcls, hlt, hty⟩ := Cond.laysStatic_spec h
  exact Cond.laysStatic_of (s := s) hc hi hst ha hcell hs hcls hlt hty
section TB
variable {s : State} {ar : Array Value}
set_option maxRecDepth 100000
theorem tb_F (htt : ∀ w ∈ lw_tbl, w.before ar s = true) (hn : ∀ c ∈ flatC (Jvm.Cond.and given_1 narrow_1), c.before ar s = true) : ∀ x ∈ xF, va_Nw (.fieldLinkNest x.1 x.2.1 x.2.2.1 x.2.2.2.1 x.2.2.2.2.1 x.2.2.2.2.2) s :=
  List.forall_mem_cons.mpr ⟨va_Nw.of rfl (htt _ q120), List.forall_mem_cons.mpr ⟨va_Nw.of rfl (htt _ q424), List.forall_mem_cons.mpr ⟨va_Nw.of rfl (htt _ q426), List.forall_mem_cons.mpr ⟨va_Nw.of rfl (htt _ q428), List.forall_mem_cons.mpr ⟨va_Nw.of rfl (htt _ q133), List.forall_mem_cons.mpr ⟨va_Nw.of rfl (htt _ q134), List.forall_mem_cons.mpr ⟨va_Nw.of rfl (htt _ q141), fun _ h9 => absurd h9 List.not_mem_nil⟩⟩⟩⟩⟩⟩⟩
theorem tb_M (htt : ∀ w ∈ lw_tbl, w.before ar s = true) (hn : ∀ c ∈ flatC (Jvm.Cond.and given_1 narrow_1), c.before ar s = true) : ∀ x ∈ xM, va_Nw (.methodLinkNest x.1 x.2.1 x.2.2.1 x.2.2.2) s :=
  List.forall_mem_cons.mpr ⟨va_Nw.of rfl (htt _ q116), List.forall_mem_cons.mpr ⟨va_Nw.of rfl (htt _ q664), List.forall_mem_cons.mpr ⟨va_Nw.of rfl (htt _ q669), List.forall_mem_cons.mpr ⟨va_Nw.of rfl (htt _ q690), List.forall_mem_cons.mpr ⟨va_Nw.of rfl (htt _ q838), List.forall_mem_cons.mpr ⟨va_Nw.of rfl (htt _ q822), List.forall_mem_cons.mpr ⟨va_Nw.of rfl (htt _ q830), fun _ h9 => absurd h9 List.not_mem_nil⟩⟩⟩⟩⟩⟩⟩
theorem tb_C (htt : ∀ w ∈ lw_tbl, w.before ar s = true) (hn : ∀ c ∈ flatC (Jvm.Cond.and given_1 narrow_1), c.before ar s = true) : ∀ x ∈ xC, va_Nw (.castable x.1 x.2) s :=
  List.forall_mem_cons.mpr ⟨va_Nw.of rfl (htt _ q1251), List.forall_mem_cons.mpr ⟨va_Nw.of rfl (htt _ q1252), List.forall_mem_cons.mpr ⟨va_Nw.of rfl (htt _ q1253), List.forall_mem_cons.mpr ⟨va_Nw.of rfl (htt _ q1240), List.forall_mem_cons.mpr ⟨va_Nw.of rfl (htt _ q1241), List.forall_mem_cons.mpr ⟨va_Nw.of rfl (htt _ q1242), List.forall_mem_cons.mpr ⟨va_Nw.of rfl (htt _ q853), List.forall_mem_cons.mpr ⟨va_Nw.of rfl (htt _ q867), List.forall_mem_cons.mpr ⟨va_Nw.of rfl (htt _ q870), fun _ h9 => absurd h9 List.not_mem_nil⟩⟩⟩⟩⟩⟩⟩⟩⟩
theorem tb_I (htt : ∀ w ∈ lw_tbl, w.before ar s = true) (hn : ∀ c ∈ flatC (Jvm.Cond.and given_1 narrow_1), c.before ar s = true) : ∀ x ∈ xI, va_Fw x.1 x.2.1 x.2.2 s :=
  List.forall_mem_cons.mpr ⟨va_Fw.of (htt _ q556) (htt _ q555) (htt _ q560) (htt _ q558) (htt _ q406), List.forall_mem_cons.mpr ⟨va_Fw.of (htt _ q547) (htt _ q546) (htt _ q551) (htt _ q549) (htt _ q406), List.forall_mem_cons.mpr ⟨va_Fw.of (htt _ q475) (htt _ q474) (htt _ q479) (htt _ q477) (htt _ q406), List.forall_mem_cons.mpr ⟨va_Fw.of (htt _ q405) (htt _ q404) (htt _ q410) (htt _ q408) (htt _ q406), List.forall_mem_cons.mpr ⟨va_Fw.of (htt _ q861) (htt _ q860) (htt _ q865) (htt _ q863) (htt _ q853), List.forall_mem_cons.mpr ⟨va_Fw.of (htt _ q861) (htt _ q860) (htt _ q865) (htt _ q869) (htt _ q867), List.forall_mem_cons.mpr ⟨va_Fw.of (htt _ q852) (htt _ q851) (htt _ q877) (htt _ q875) (htt _ q870), List.forall_mem_cons.mpr ⟨va_Fw.of (htt _ q852) (htt _ q851) (htt _ q856) (htt _ q854) (htt _ q853), List.forall_mem_cons.mpr ⟨va_Fw.of (htt _ q852) (htt _ q851) (htt _ q856) (htt _ q873) (htt _ q867), fun _ h9 => absurd h9 List.not_mem_nil⟩⟩⟩⟩⟩⟩⟩⟩⟩
theorem tb_N (htt : ∀ w ∈ lw_tbl, w.before ar s = true) (hn : ∀ c ∈ flatC (Jvm.Cond.and given_1 narrow_1), c.before ar s = true) : ∀ x ∈ xN, va_Nc x.1 x.2 s :=
  List.forall_mem_cons.mpr ⟨va_Nc.of (hn _ (by decide +kernel)), List.forall_mem_cons.mpr ⟨va_Nc.of (hn _ (by decide +kernel)), List.forall_mem_cons.mpr ⟨va_Nc.of (hn _ (by decide +kernel)), List.forall_mem_cons.mpr ⟨va_Nc.of (hn _ (by decide +kernel)), List.forall_mem_cons.mpr ⟨va_Nc.of (hn _ (by decide +kernel)), List.forall_mem_cons.mpr ⟨va_Nc.of (hn _ (by decide +kernel)), List.forall_mem_cons.mpr ⟨va_Nc.of (hn _ (by decide +kernel)), List.forall_mem_cons.mpr ⟨va_Nc.of (hn _ (by decide +kernel)), List.forall_mem_cons.mpr ⟨va_Nc.of (hn _ (by decide +kernel)), fun _ h9 => absurd h9 List.not_mem_nil⟩⟩⟩⟩⟩⟩⟩⟩⟩
theorem tb_EC (htt : ∀ w ∈ lw_tbl, w.before ar s = true) (hn : ∀ c ∈ flatC (Jvm.Cond.and given_1 narrow_1), c.before ar s = true) : ∀ x ∈ eC, va_Nw (.castable x.1 x.2) s :=
  List.forall_mem_cons.mpr ⟨va_Nw.of rfl (htt _ q334), List.forall_mem_cons.mpr ⟨va_Nw.of rfl (htt _ q317), List.forall_mem_cons.mpr ⟨va_Nw.of rfl (htt _ q257), List.forall_mem_cons.mpr ⟨va_Nw.of rfl (htt _ q808), List.forall_mem_cons.mpr ⟨va_Nw.of rfl (htt _ q304), List.forall_mem_cons.mpr ⟨va_Nw.of rfl (htt _ q302), List.forall_mem_cons.mpr ⟨va_Nw.of rfl (htt _ q1239), List.forall_mem_cons.mpr ⟨va_Nw.of rfl (htt _ q1261), List.forall_mem_cons.mpr ⟨va_Nw.of rfl (htt _ q1263), List.forall_mem_cons.mpr ⟨va_Nw.of rfl (htt _ q1265), List.forall_mem_cons.mpr ⟨va_Nw.of rfl (htt _ q1264), List.forall_mem_cons.mpr ⟨va_Nw.of rfl (htt _ q1262), fun _ h9 => absurd h9 List.not_mem_nil⟩⟩⟩⟩⟩⟩⟩⟩⟩⟩⟩⟩
theorem tb_ED (htt : ∀ w ∈ lw_tbl, w.before ar s = true) (hn : ∀ c ∈ flatC (Jvm.Cond.and given_1 narrow_1), c.before ar s = true) : ∀ x ∈ eD, va_Nw (.declares ⟨x.1, x.2.1, x.2.2⟩) s :=
  List.forall_mem_cons.mpr ⟨va_Nw.of rfl (htt _ q336), List.forall_mem_cons.mpr ⟨va_Nw.of rfl (htt _ q259), List.forall_mem_cons.mpr ⟨va_Nw.of rfl (htt _ q261), List.forall_mem_cons.mpr ⟨va_Nw.of rfl (htt _ q263), List.forall_mem_cons.mpr ⟨va_Nw.of rfl (htt _ q258), List.forall_mem_cons.mpr ⟨va_Nw.of rfl (htt _ q260), List.forall_mem_cons.mpr ⟨va_Nw.of rfl (htt _ q262), List.forall_mem_cons.mpr ⟨va_Nw.of rfl (htt _ q335), fun _ h9 => absurd h9 List.not_mem_nil⟩⟩⟩⟩⟩⟩⟩⟩
theorem tb_EN (htt : ∀ w ∈ lw_tbl, w.before ar s = true) (hn : ∀ c ∈ flatC (Jvm.Cond.and given_1 narrow_1), c.before ar s = true) : ∀ x ∈ eN, va_Nc x.1 x.2 s :=
  List.forall_mem_cons.mpr ⟨va_Nc.of (hn _ (by decide +kernel)), List.forall_mem_cons.mpr ⟨va_Nc.of (hn _ (by decide +kernel)), List.forall_mem_cons.mpr ⟨va_Nc.of (hn _ (by decide +kernel)), List.forall_mem_cons.mpr ⟨va_Nc.of (hn _ (by decide +kernel)), List.forall_mem_cons.mpr ⟨va_Nc.of (hn _ (by decide +kernel)), List.forall_mem_cons.mpr ⟨va_Nc.of (hn _ (by decide +kernel)), List.forall_mem_cons.mpr ⟨va_Nc.of (hn _ (by decide +kernel)), List.forall_mem_cons.mpr ⟨va_Nc.of (hn _ (by decide +kernel)), fun _ h9 => absurd h9 List.not_mem_nil⟩⟩⟩⟩⟩⟩⟩⟩
set_option maxHeartbeats 4000000 in
theorem tabs (htt : ∀ w ∈ lw_tbl, w.before ar s = true) (hgv : (Jvm.Cond.and given_1 narrow_1).before ar s = true) (hmod : modulesRight_1 s = true) : ∃ (D : va_G) (d : Nat → ClassId) (e0 : Nat), KE D d e0 s.heap s := by
  have hts : ∀ w ∈ lw_all, w.before ar s = true := fun w hw => htt w (lw_all_tbl hw)
  have hn := flat_of_before _ hgv
  have hA : ∀ a : Nat, a < s.heap.size → ¬ (fun q : Nat => s.heap.size ≤ q) a := fun a h => Nat.not_le.mpr h
  obtain ⟨c0, i0, h0⟩ := u_known (C := RX0) (T := TX0) (N := 20) (n := 20) hts in_X0 (hts _ q77)
  obtain ⟨c1, i1, h1⟩ := u_known (C := RX2) (T := TX2) (N := 29) (n := 29) hts in_X2 (hts _ q899)
  obtain ⟨c2, i2, h2⟩ := u_known (C := RX1) (T := TX1) (N := 1) (n := 1) hts in_X1 (hts _ q115)
  obtain ⟨c3, i3, h3⟩ := u_known (C := RX3) (T := TX3) (N := 5) (n := 5) hts in_X3 (hts _ q417)
  obtain ⟨c4, i4, h4⟩ := u_known (C := RX4) (T := TX4) (N := 6) (n := 6) hts in_X4 (hts _ q442)
  obtain ⟨c5, i5, h5⟩ := u_known (C := RX5) (T := TX5) (N := 7) (n := 7) hts in_X5 (hts _ q457)
  obtain ⟨c6, i6, h6⟩ := u_known (C := RJ2) (T := TJ2) (N := 3) (n := 3) hts in_J2 (hts _ q85)
  obtain ⟨a0, k0, m0, f0, g0, r0⟩ := Cond.arrayClass_spec (show (Cond.arrayClass .int).holds ar s none s [] = true from hts _ q124)
  have b0 : s.vm.findClass "[I" = some a0 := by rw [← show "[" ++ (FieldType.int).toString = "[I" by decide +kernel]; exact f0
  obtain ⟨a1, k1, m1, f1, g1, r1⟩ := Cond.arrayClass_spec (show (Cond.arrayClass .boolean).holds ar s none s [] = true from hts _ q125)
  have b1 : s.vm.findClass "[Z" = some a1 := by rw [← show "[" ++ (FieldType.boolean).toString = "[Z" by decide +kernel]; exact f1
  obtain ⟨a2, k2, m2, f2, g2, r2⟩ := Cond.arrayClass_spec (show (Cond.arrayClass .byte).holds ar s none s [] = true from hts _ q275)
  have b2 : s.vm.findClass "[B" = some a2 := by rw [← show "[" ++ (FieldType.byte).toString = "[B" by decide +kernel]; exact f2
  obtain ⟨a3, k3, m3, f3, g3, r3⟩ := Cond.arrayClass_spec (show (Cond.arrayClass .short).holds ar s none s [] = true from hts _ q775)
  have b3 : s.vm.findClass "[S" = some a3 := by rw [← show "[" ++ (FieldType.short).toString = "[S" by decide +kernel]; exact f3
  obtain ⟨m4, a4, k4, f4, -, g4, r4, b4⟩ := Cond.arrayOver_spec (show (Cond.arrayOver (.object "java/lang/Object")).holds ar s none s [] = true from htt _ q526)
  have b4' : s.vm.findClass "[Ljava/lang/Object;" = some a4 := by rw [← show "[" ++ (FieldType.object "java/lang/Object").toString = "[Ljava/lang/Object;" by decide +kernel]; exact b4
  obtain ⟨m5, a5, k5, f5, -, g5, r5, b5⟩ := Cond.arrayOver_spec (show (Cond.arrayOver (.object "MustardFast$Place")).holds ar s none s [] = true from htt _ q114)
  have b5' : s.vm.findClass "[LMustardFast$Place;" = some a5 := by rw [← show "[" ++ (FieldType.object "MustardFast$Place").toString = "[LMustardFast$Place;" by decide +kernel]; exact b5
  obtain ⟨e0, he0, hT0⟩ := va_Tof (tm := .static "java/util/ArrayList" "DEFAULTCAPACITY_EMPTY_ELEMENTDATA" "[Ljava/lang/Object;") (ty := .object "java/lang/Object") (N := 0) (f := fun _ => .null) (A := fun q : Nat => s.heap.size ≤ q) (by decide) (hn _ (by decide +kernel)) (va_eqt (z := 0) (hn _ (by decide +kernel))) (fun j hj => absurd hj (Nat.not_lt_zero j)) hA
  refine ⟨(fun k => match k with | 0 => c0 | 1 => c1 | 2 => c2 | 3 => c3 | 4 => c4 | 5 => c5 | _ => c6, fun k => match k with | 0 => i0 | 1 => i1 | 2 => i2 | 3 => i3 | 4 => i4 | 5 => i5 | _ => i6), fun k => match k with | 0 => a0 | 1 => a1 | 2 => a2 | 3 => a3 | 4 => a4 | _ => a5, e0, ?_⟩
  refine ⟨⟨⟨⟨fun k q hq => ?_, fun k q hq => ?_⟩, b0, b1, b2, b3⟩, tb_F htt hn, tb_M htt hn, tb_C htt hn, tb_I htt hn, tb_N htt hn, ⟨htt _ q114, htt _ q526⟩, b4', b5', dflt.of (hn _ (by decide +kernel)), dflt.of (hn _ (by decide +kernel))⟩, tb_EC htt hn, tb_ED htt hn, tb_EN htt hn, ⟨va_Zqof (htt _ q209) (hts _ q57) (hn _ (by decide +kernel)) hA, va_Zqof (htt _ q211) (hts _ q57) (hn _ (by decide +kernel)) hA⟩, ⟨va_LSof (htt _ q209), va_LSof (htt _ q211)⟩, ⟨va_Zof (htt _ q97) (hts _ q54) he0 hA, hT0⟩, hmod⟩
  · match k, hq with
    | 0, hq => have e9 := Option.some.inj hq; subst e9; exact h0
    | 1, hq => have e9 := Option.some.inj hq; subst e9; exact h1
    | 2, hq => have e9 := Option.some.inj hq; subst e9; exact h2
    | 3, hq => have e9 := Option.some.inj hq; subst e9; exact h3
    | 4, hq => have e9 := Option.some.inj hq; subst e9; exact h4
    | 5, hq => have e9 := Option.some.inj hq; subst e9; exact h5
    | 6, hq => have e9 := Option.some.inj hq; subst e9; exact h6
    | k + 7, hq => exact absurd hq (by simp)
  · match k, hq with
    | 0, hq => have e9 := Option.some.inj hq; subst e9; exact ⟨fun n z => ⟨fun _ h9 => (by cases h9), k0, g0, m0, r0⟩, f0⟩
    | 1, hq => have e9 := Option.some.inj hq; subst e9; exact ⟨fun n z => ⟨fun _ h9 => (by cases h9), k1, g1, m1, r1⟩, f1⟩
    | 2, hq => have e9 := Option.some.inj hq; subst e9; exact ⟨fun n z => ⟨fun _ h9 => (by cases h9), k2, g2, m2, r2⟩, f2⟩
    | 3, hq => have e9 := Option.some.inj hq; subst e9; exact ⟨fun n z => ⟨fun _ h9 => (by cases h9), k3, g3, m3, r3⟩, f3⟩
    | 4, hq => have e9 := Option.some.inj hq; subst e9; exact ⟨fun n z => ⟨fun _ h9 => (by cases h9), k4, g4, m4, r4⟩, k4, m4, g4, r4, f4, b4⟩
    | 5, hq => have e9 := Option.some.inj hq; subst e9; exact ⟨fun n z => ⟨fun _ h9 => (by cases h9), k5, g5, m5, r5⟩, k5, m5, g5, r5, f5, b5⟩
    | k + 6, hq => exact absurd hq (by simp [tysOf])
end TB
