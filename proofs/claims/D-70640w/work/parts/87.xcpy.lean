/-! System.arraycopy where it throws: what its entry asks for, its texts -/
theorem nv_text {t : String} {r : List Char} (h : t.toList = 'a' :: r) (hl : r.length ≤ 240) : (t == notModelled) = false ∧ (stringBytes (stringToUtf16 t)).size ≤ 990 := by
  constructor
  · rw [beq_eq_false_iff_ne]
    intro h1
    have h2 := congrArg String.toList h1
    rw [h] at h2
    have h4 : notModelled.toList = '\u0000' :: " a message that is not modelled".toList := by decide
    rw [h4] at h2
    simp at h2
  · have b1 := stringBytes_size_le (stringToUtf16 t)
    have b2 := utf16_size_le t
    rw [h, List.length_cons] at b2
    omega
theorem nv_text2 {t : String} (hl : t.toList.length ≤ 220) : ("arraycopy: " ++ t == notModelled) = false ∧ (stringBytes (stringToUtf16 ("arraycopy: " ++ t))).size ≤ 990 := by
  refine nv_text (r := "rraycopy: ".toList ++ t.toList) (by rw [String.toList_append]; rfl) ?_
  rw [List.length_append]
  have e1 : ("rraycopy: " : String).toList.length = 10 := by decide
  omega
theorem kn_len (t : FieldType) : (Native.java_lang_System.arraycopy.kindName t).toList.length ≤ 12 := by
  cases t <;> (simp only [Native.java_lang_System.arraycopy.kindName]; decide)
theorem int_print {z : Int} (h0 : 0 ≤ z) (h1 : z < 10 ^ 10) : (toString z).toList.length ≤ 10 := by
  obtain ⟨m, rfl⟩ := Int.eq_ofNat_of_zero_le h0
  have := nat_print (n := m) (by omega)
  exact this
section CPW
variable {e : Env} {s : State} {src dst : Addr} {srcPos destPos len : Int32} {cs cd : Cell} {ks kd : Class} {sComp dComp : ClassId} {sType dType : FieldType}
theorem cp_null1 (v : Value) (E : CtlPost) (hE : ∀ acts', E (.throwNew "java/lang/NullPointerException" none) acts' s) : wp (Native.java_lang_System.arraycopy.sem #[.null, .int srcPos, v, .int destPos, .int len]) (fun _ _ _ _ => False) E e false [] s := by
  show wp (do Jvm.mark "nat.java_lang_System.arraycopy/null"; Jvm.throwNew "java/lang/NullPointerException") _ E e false [] s
  simpa [W.throwNew] using hE _
theorem cp_null2 (E : CtlPost) (hE : ∀ acts', E (.throwNew "java/lang/NullPointerException" none) acts' s) : wp (Native.java_lang_System.arraycopy.sem #[.ref src, .int srcPos, .null, .int destPos, .int len]) (fun _ _ _ _ => False) E e false [] s := by
  show wp (do Jvm.mark "nat.java_lang_System.arraycopy/null"; Jvm.throwNew "java/lang/NullPointerException") _ E e false [] s
  simpa [W.throwNew] using hE _
/-- the texts do not hang on the state -/
def cpM (e : Env) (H : Heap) (V : Vm) (av : Array Value) (cls : String) : Prop := ∃ text : String, (text == notModelled) = false ∧ (stringBytes (stringToUtf16 text)).size ≤ 990 ∧ ∀ S : State, S.heap = H → V.Alike S.vm → ∀ E : CtlPost, (∀ acts', E (.throwNew cls (some text)) acts' S) → wp (Native.java_lang_System.arraycopy.sem av) (fun _ _ _ _ => False) E e false [] S
theorem cp_type {H : Heap} {V : Vm} (hs : H[src]? = some cs) (hd : H[dst]? = some cd) (hsobj : ∀ k, cs.vm ≠ .statics k) (hdobj : ∀ k, cd.vm ≠ .statics k) (hks : V.classes[cs.cls]? = some ks) (hkd : V.classes[cd.cls]? = some kd) (hsk : ks.kind = .array sComp sType) (hdk : kd.kind = .array dComp dType)
    (hty : ((refKind sType != refKind dType) || (!refKind sType && sType != dType)) = true) : cpM e H V #[.ref src, .int srcPos, .ref dst, .int destPos, .int len] "java/lang/ArrayStoreException" := by
  have k1 := kn_len sType
  have k2 := kn_len dType
  have ht := nv_text (t := toString "arraycopy: type mismatch: can not copy " ++ toString (Native.java_lang_System.arraycopy.kindName sType) ++ toString "[] into " ++ toString (Native.java_lang_System.arraycopy.kindName dType) ++ toString "[]") (r := "rraycopy: type mismatch: can not copy ".toList ++ (Native.java_lang_System.arraycopy.kindName sType).toList ++ "[] into ".toList ++ (Native.java_lang_System.arraycopy.kindName dType).toList ++ "[]".toList) (by
      simp only [String.toList_append, toString]
      rfl) (by
      simp only [List.length_append]
      have e1 : ("rraycopy: type mismatch: can not copy " : String).toList.length = 38 := by decide
      have e2 : ("[] into " : String).toList.length = 8 := by decide
      have e3 : ("[]" : String).toList.length = 2 := by decide
      omega)
  refine ⟨_, ht.1, ht.2, fun S hS hV E hE => ?_⟩
  obtain ⟨ks', hks', hes⟩ := hV.2.2 _ _ hks
  obtain ⟨kd', hkd', hed⟩ := hV.2.2 _ _ hkd
  have hsk' : ks'.kind = .array sComp sType := by rw [hes]; exact hsk
  have hdk' : kd'.kind = .array dComp dType := by rw [hed]; exact hdk
  rw [← hS] at hs hd
  rw [Native.java_lang_System.arraycopy.sem_refs]
  unfold Native.java_lang_System.arraycopy.behind
  simp only [wp_bind', W.classOf, W.theClass, hs, hd, hks', hkd', Option.some.injEq, exists_eq_left', hsk', hdk']
  refine ⟨hsobj, hdobj, ?_⟩
  unfold refKind at hty
  simp only [hty, if_true]
  simp only [wp_bind', W.mark, W.throwNew]
  exact hE _
theorem cp_out {H : Heap} {V : Vm} (hs : H[src]? = some cs) (hd : H[dst]? = some cd) (hsobj : ∀ k, cs.vm ≠ .statics k) (hdobj : ∀ k, cd.vm ≠ .statics k) (hks : V.classes[cs.cls]? = some ks) (hkd : V.classes[cd.cls]? = some kd) (hsk : ks.kind = .array sComp sType) (hdk : kd.kind = .array dComp dType)
    (hty : ((refKind sType != refKind dType) || (!refKind sType && sType != dType)) = false) (hcs : cs.slots.size < 10 ^ 9) (hcd : cd.slots.size < 10 ^ 9)
    (hout : srcPos < 0 ∨ destPos < 0 ∨ len < 0 ∨ srcPos.toInt + len.toInt > cs.slots.size ∨ destPos.toInt + len.toInt > cd.slots.size) : cpM e H V #[.ref src, .int srcPos, .ref dst, .int destPos, .int len] "java/lang/ArrayIndexOutOfBoundsException" := by
  have k1 := kn_len sType
  have k2 := kn_len dType
  have p1 := int32_print srcPos
  have p2 := int32_print destPos
  have p3 := int32_print len
  have n1 := nat_print (n := cs.slots.size) (by omega)
  have n2 := nat_print (n := cd.slots.size) (by omega)
  have e1 : ("source index " : String).toList.length = 13 := by decide
  have e2 : (" out of bounds for " : String).toList.length = 19 := by decide
  have e3 : ("[" : String).toList.length = 1 := by decide
  have e4 : ("]" : String).toList.length = 1 := by decide
  have e5 : ("destination index " : String).toList.length = 18 := by decide
  have e6 : ("length " : String).toList.length = 7 := by decide
  have e7 : (" is negative" : String).toList.length = 12 := by decide
  have e8 : ("last source index " : String).toList.length = 18 := by decide
  have e9 : ("last destination index " : String).toList.length = 23 := by decide
  have hgo : ∀ what : String, what.toList.length ≤ 220 → (∀ S : State, S.heap = H → V.Alike S.vm → ∀ E : CtlPost, (∀ acts', E (.throwNew "java/lang/ArrayIndexOutOfBoundsException" (some ("arraycopy: " ++ what))) acts' S) → wp (Native.java_lang_System.arraycopy.sem #[.ref src, .int srcPos, .ref dst, .int destPos, .int len]) (fun _ _ _ _ => False) E e false [] S) → cpM e H V #[.ref src, .int srcPos, .ref dst, .int destPos, .int len] "java/lang/ArrayIndexOutOfBoundsException" := fun what hl h => ⟨_, (nv_text2 hl).1, (nv_text2 hl).2, h⟩
  have hwp : ∀ what : String, (if srcPos < 0 then some (toString "source index " ++ toString srcPos ++ toString " out of bounds for " ++ toString (toString (Native.java_lang_System.arraycopy.kindName sType) ++ toString "[" ++ toString cs.slots.size ++ toString "]"))
    else if destPos < 0 then some (toString "destination index " ++ toString destPos ++ toString " out of bounds for " ++ toString (toString (Native.java_lang_System.arraycopy.kindName dType) ++ toString "[" ++ toString cd.slots.size ++ toString "]"))
    else if len < 0 then some (toString "length " ++ toString len ++ toString " is negative")
    else if srcPos.toInt + len.toInt > cs.slots.size then some (toString "last source index " ++ toString (srcPos.toInt + len.toInt) ++ toString " out of bounds for " ++ toString (toString (Native.java_lang_System.arraycopy.kindName sType) ++ toString "[" ++ toString cs.slots.size ++ toString "]"))
    else if destPos.toInt + len.toInt > cd.slots.size then some (toString "last destination index " ++ toString (destPos.toInt + len.toInt) ++ toString " out of bounds for " ++ toString (toString (Native.java_lang_System.arraycopy.kindName dType) ++ toString "[" ++ toString cd.slots.size ++ toString "]"))
    else none) = some what → ∀ S : State, S.heap = H → V.Alike S.vm → ∀ E : CtlPost, (∀ acts', E (.throwNew "java/lang/ArrayIndexOutOfBoundsException" (some ("arraycopy: " ++ what))) acts' S) → wp (Native.java_lang_System.arraycopy.sem #[.ref src, .int srcPos, .ref dst, .int destPos, .int len]) (fun _ _ _ _ => False) E e false [] S := by
    intro what hwhat S hS hV E hE
    obtain ⟨ks', hks', hes⟩ := hV.2.2 _ _ hks
    obtain ⟨kd', hkd', hed⟩ := hV.2.2 _ _ hkd
    have hsk' : ks'.kind = .array sComp sType := by rw [hes]; exact hsk
    have hdk' : kd'.kind = .array dComp dType := by rw [hed]; exact hdk
    rw [← hS] at hs hd
    rw [Native.java_lang_System.arraycopy.sem_refs]
    unfold Native.java_lang_System.arraycopy.behind
    simp only [wp_bind', W.classOf, W.theClass, hs, hd, hks', hkd', Option.some.injEq, exists_eq_left', hsk', hdk']
    refine ⟨hsobj, hdobj, ?_⟩
    unfold refKind at hty
    simp only [hty, Bool.false_eq_true, if_false]
    simp only [wp_bind', W.sizeOf, hs, hd, Option.some.injEq, exists_eq_left']
    rw [hwhat]
    simp only [wp_bind', W.mark, W.throwNew]
    exact hE _
  by_cases h1 : srcPos < 0
  · refine hgo _ ?_ (hwp _ (if_pos h1))
    simp only [toString] at *
    simp only [String.toList_append, List.length_append]
    omega
  · by_cases h2 : destPos < 0
    · refine hgo _ ?_ (hwp _ (by rw [if_neg h1, if_pos h2]))
      simp only [toString] at *
      simp only [String.toList_append, List.length_append]
      omega
    · by_cases h3 : len < 0
      · refine hgo _ ?_ (hwp _ (by rw [if_neg h1, if_neg h2, if_pos h3]))
        simp only [toString] at *
        simp only [String.toList_append, List.length_append]
        omega
      · have z1 := toNatClampNeg_of_not_neg32 srcPos h1
        have z2 := toNatClampNeg_of_not_neg32 destPos h2
        have z3 := toNatClampNeg_of_not_neg32 len h3
        have l1 := Int32.toInt_lt srcPos
        have l2 := Int32.toInt_lt destPos
        have l3 := Int32.toInt_lt len
        by_cases h4 : srcPos.toInt + len.toInt > cs.slots.size
        · have q1 := int_print (z := srcPos.toInt + len.toInt) (by omega) (by omega)
          refine hgo _ ?_ (hwp _ (by rw [if_neg h1, if_neg h2, if_neg h3, if_pos h4]))
          simp only [toString] at *
          simp only [String.toList_append, List.length_append]
          omega
        · by_cases h5 : destPos.toInt + len.toInt > cd.slots.size
          · have q1 := int_print (z := destPos.toInt + len.toInt) (by omega) (by omega)
            refine hgo _ ?_ (hwp _ (by rw [if_neg h1, if_neg h2, if_neg h3, if_neg h4, if_pos h5]))
            simp only [toString] at *
            simp only [String.toList_append, List.length_append]
            omega
          · exfalso
            rcases hout with h | h | h | h | h
            · exact h1 h
            · exact h2 h
            · exact h3 h
            · exact h4 h
            · exact h5 h
end CPW
