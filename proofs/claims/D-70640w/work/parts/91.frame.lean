/-! a contract's world within a greater one -/
section FR
variable {D : va_G} {A : Nat → Prop} {H0 H H1 : Heap} {locs : List Loc} {wa wb wf wa' : va_W}
theorem ap_l {k : Nat} {x : Nat × va_E} (h : wa[k]? = some x) : (wa ++ wb)[k]? = some x := by
  rw [List.getElem?_append_left (List.getElem?_eq_some_iff.mp h).1]; exact h
theorem ap_r {k : Nat} {x : Nat × va_E} (h : wb[k]? = some x) : (wa ++ wb)[wa.length + k]? = some x := by
  rw [List.getElem?_append_right (Nat.le_add_right _ _), Nat.add_sub_cancel_left]; exact h
theorem ap_c {k : Nat} {x : Nat × va_E} (h : (wa ++ wb)[k]? = some x) : wa[k]? = some x ∨ ∃ j, k = wa.length + j ∧ wb[j]? = some x := by
  by_cases hl : k < wa.length
  · rw [List.getElem?_append_left hl] at h; exact Or.inl h
  · rw [List.getElem?_append_right (Nat.le_of_not_lt hl)] at h; exact Or.inr ⟨k - wa.length, by omega, h⟩
theorem va_P_l (h : va_P D vwCl (wa ++ wb) H) : va_P D vwCl wa H := fun k x hk => h k x (ap_l hk)
theorem va_P_r (h : va_P D vwCl (wa ++ wb) H) : va_P D vwCl wb H := fun k x hk => h _ x (ap_r hk)
theorem va_D_l (h : va_D A (wa ++ wb)) : va_D A wa := ⟨fun i j x y hi hj hxy => h.1 i j x y (ap_l hi) (ap_l hj) hxy, fun k x hk => h.2 k x (ap_l hk)⟩
theorem va_D_r (h : va_D A (wa ++ wb)) : va_D A wb := ⟨fun i j x y hi hj hxy => by have := h.1 _ _ x y (ap_r hi) (ap_r hj) hxy; omega, fun k x hk => h.2 _ x (ap_r hk)⟩
theorem uW_l (h : uW D A H0 H locs (wa ++ wb)) : uW D A H0 H locs wa := ⟨va_P_l h.1, va_D_l h.2.1, h.2.2⟩
theorem va_D_sw (h : va_D A (wa ++ wb)) : va_D A (wb ++ wa) := by
  refine ⟨fun i j x y hi hj hxy => ?_, fun k x hk => ?_⟩
  · rcases ap_c hi with hi2 | ⟨i', rfl, hi2⟩ <;> rcases ap_c hj with hj2 | ⟨j', rfl, hj2⟩
    · have := h.1 _ _ x y (ap_r hi2) (ap_r hj2) hxy; omega
    · have := h.1 _ _ x y (ap_r hi2) (ap_l hj2) hxy
      have := (List.getElem?_eq_some_iff.mp hj2).1
      omega
    · have := h.1 _ _ x y (ap_l hi2) (ap_r hj2) hxy
      have := (List.getElem?_eq_some_iff.mp hi2).1
      omega
    · have := h.1 _ _ x y (ap_l hi2) (ap_l hj2) hxy; omega
  · rcases ap_c hk with hk2 | ⟨j', rfl, hk2⟩
    · exact h.2 _ x (ap_r hk2)
    · exact h.2 _ x (ap_l hk2)
theorem uW_sw (h : uW D A H0 H locs (wa ++ wb)) : uW D A H0 H locs (wb ++ wa) := ⟨(va_P_r h.1).app (va_P_l h.1), va_D_sw h.2.1, h.2.2⟩
theorem va_A_l {sz q : Nat} (h : va_A wa sz q) : va_A (wa ++ wb) sz q := by
  rcases h with ⟨k, y, hk⟩ | h
  · exact Or.inl ⟨k, y, ap_l hk⟩
  · exact Or.inr h
/-- behind a call on a part of the world -/
theorem fr_end (hP : va_P D vwCl (wa ++ wf) H) (hD : va_D A (wa ++ wf)) (hP1 : va_P D vwCl wa' H1) (hD1 : va_D (va_A wa H.size) wa') (hk : ∀ q : Nat, q < H.size → ¬ va_A wa H.size q → H1[q]? = H[q]?) : va_P D vwCl (wa' ++ wf) H1 ∧ va_D (va_A (wa ++ wf) H.size) (wa' ++ wf) := by
  have key : ∀ (k : Nat) (x : Nat × va_E), wf[k]? = some x → x.1 < H.size ∧ ¬ va_A wa H.size x.1 := by
    intro k x hx
    have hlt := (hP _ x (ap_r hx)).lt
    refine ⟨hlt, fun hA => ?_⟩
    rcases hA with ⟨k', y, hk'⟩ | hA
    · have := hD.1 k' (wa.length + k) (x.1, y) x (ap_l hk') (ap_r hx) rfl
      have := (List.getElem?_eq_some_iff.mp hk').1
      omega
    · omega
  refine ⟨hP1.app (fun k x hx => (hP _ x (ap_r hx)).kept (hk x.1 (key k x hx).1 (key k x hx).2)), fun i j x y hi hj hxy => ?_, fun k x hx => ?_⟩
  · rcases ap_c hi with hi2 | ⟨i', rfl, hi2⟩ <;> rcases ap_c hj with hj2 | ⟨j', rfl, hj2⟩
    · exact hD1.1 i j x y hi2 hj2 hxy
    · exact absurd (by rw [← hxy]; exact hD1.2 i x hi2) (key j' y hj2).2
    · exact absurd (by rw [hxy]; exact hD1.2 j y hj2) (key i' x hi2).2
    · have := hD.1 _ _ x y (ap_r hi2) (ap_r hj2) hxy; omega
  · rcases ap_c hx with hx2 | ⟨j', rfl, hx2⟩
    · exact va_A_l (hD1.2 k x hx2)
    · exact Or.inl ⟨wa.length + j', x.2, ap_r hx2⟩
end FR
/-- what a call on the first part of a world comes to -/
def frP (wf : va_W) (Post : Option Value → va_W → Prop) : Option Value → va_W → Prop := fun r w => ∃ wa, w = wa ++ wf ∧ Post r wa
theorem cU_fr {l : Launch} {K : State → Prop} {H00 : Heap} {D : va_G} {y : MethodName} {cc : ByteArray} {nL : Nat} {ret : Option FieldType} {rm : Room} {av : List Value} {ws : va_W} {Post : Option Value → va_W → Prop} (h : cU l K H00 D y cc nL ret rm av ws Post) (wf : va_W) : cU l K H00 D y cc nL ret rm av (ws ++ wf) (frP wf Post) := by
  intro sz p e ha hf1 hf2 s m args below hfr hap hpre hK
  obtain ⟨hav, hsz, hP, hD, hZ, hKs⟩ := hpre
  subst hsz
  obtain ⟨n, o, h1, h2, h3, ⟨⟨r, wa, ho, hp, hP1, hD1⟩, hF⟩, L, hFE, hL⟩ := h s.heap.size p e ha hf1 hf2 s m args below hfr hap ⟨hav, rfl, va_P_l hP, va_D_l hD, hZ, hKs⟩ hK
  obtain ⟨e1, e2⟩ := fr_end hP hD hP1 hD1 hF.2
  exact ⟨n, o, h1, h2, h3, ⟨⟨r, wa ++ wf, ho, ⟨wa, rfl, hp⟩, e1, e2⟩, hF.1, fun q hq hn => hF.2 q hq (fun z => hn (va_A_l z))⟩, L, hFE, fun q hq => va_A_l (hL q hq)⟩
theorem cX_fr {l : Launch} {K : State → Prop} {H00 : Heap} {D : va_G} {y : MethodName} {cc : ByteArray} {nL : Nat} {ret : Option FieldType} {tb : List (Nat × Nat × Nat × Nat)} {rm : Room} {av : List Value} {ws : va_W} {Post : Option Value → va_W → Prop} (h : cX l K H00 D y cc nL ret tb rm av ws Post (fun _ => False)) (wf : va_W) : cX l K H00 D y cc nL ret tb rm av (ws ++ wf) (frP wf Post) (fun _ => False) := by
  intro p e s m below meth c A hx had hb hml htb hown hts hr hlk hK hA hAN hZ hnS hu ls hl
  have hs : ∀ q, va_A ws s.heap.size q → A q := fun q hq => uSub hA hu q (va_A_l hq)
  have hW := h p e s m below meth c (va_A ws s.heap.size) hx had hb hml htb hown hts hr hlk hK (fun q hq => Or.inr hq) (fun q hq => hAN q (hs q hq)) hZ (fun q cell hq hc => hnS q cell (hs q hq) hc) ⟨va_P_l hu.1, (va_D_l hu.2.1).self, va_S.rf⟩ ls hl
  refine W.mono (fun t ht => ?_) hW
  obtain ⟨o, t1, t2, ⟨t3, hF⟩, L, t4, t5⟩ := ht
  refine ⟨o, t1, t2, ⟨?_, hF.1, fun q hq hn => hF.2 q hq (fun z => hn (hs q z))⟩, L, t4, fun q hq => hs _ (t5 q hq)⟩
  rcases t3 with ⟨r, wa, ho, hp, hP1, hD1⟩ | ⟨a, ex, k, ce, -, hex, -⟩
  · obtain ⟨e1, e2⟩ := fr_end hu.1 hu.2.1 hP1 hD1 hF.2
    exact Or.inl ⟨r, wa ++ wf, ho, ⟨wa, rfl, hp⟩, e1, e2.weaken (fun _ _ _ h9 => uSub hA hu _ h9)⟩
  · exact absurd hex id
