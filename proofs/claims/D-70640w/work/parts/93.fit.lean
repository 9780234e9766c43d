/-! every cell of a sheet fits its lane, behind every call -/
section FT
variable {σ : ASt}
theorem fit_us (h : aFit σ) (k : Nat) {x : Option (Nat × Nat × (Nat → Int32))} (hx : ∀ v, x = some v → ∀ i, i < v.2.1 → fits (lT v.1) (.int (v.2.2 i)) = true) : aFit (uS σ k x) := by
  intro j v hv
  have hv : (if j = k then x else aS σ j) = some v := hv
  split at hv
  · exact hx v hv
  · exact h j v hv
theorem fits_0 (la : Nat) : fits (lT la) (.int 0) = true := by
  unfold lT
  split <;> decide
theorem fits_b (v : Int8) : fits .byte (.int v.toInt32) = true := by
  have h1 := Int8.le_toInt v
  have h2 := Int8.toInt_lt v
  have e1 : (-128 : Int32) ≤ v.toInt32 := by rw [Int32.le_iff_toInt_le, Int8.toInt_toInt32]; exact h1
  have e2 : v.toInt32 ≤ (127 : Int32) := by
    rw [Int32.le_iff_toInt_le, Int8.toInt_toInt32]
    have : (127 : Int32).toInt = 127 := by decide
    omega
  simp only [fits, Bool.and_eq_true, decide_eq_true_eq]
  exact ⟨e1, e2⟩
theorem fits_s (v : Int16) : fits .short (.int v.toInt32) = true := by
  have h1 := Int16.le_toInt v
  have h2 := Int16.toInt_lt v
  have e1 : (-32768 : Int32) ≤ v.toInt32 := by rw [Int32.le_iff_toInt_le, Int16.toInt_toInt32]; exact h1
  have e2 : v.toInt32 ≤ (32767 : Int32) := by
    rw [Int32.le_iff_toInt_le, Int16.toInt_toInt32]
    have : (32767 : Int32).toInt = 32767 := by decide
    omega
  simp only [fits, Bool.and_eq_true, decide_eq_true_eq]
  exact ⟨e1, e2⟩
theorem fits_n (la : Nat) (v : Int32) : fits (lT la) (.int (nrw la v)) = true := by
  match la with
  | 0 => exact fits_b _
  | 1 => exact fits_s _
  | k + 2 =>
    unfold nrw
    rw [if_neg (by omega), if_neg (by omega)]
    rfl
theorem fit_duchy (h : aFit σ) (k la i n : Int32) : aFit (f_duchy σ k la i n).2 := by
  unfold f_duchy
  repeat' split
  all_goals exact h
theorem fit_pull (h : aFit σ) (x v : Int32) : aFit (f_pull σ x v).2 := by
  unfold f_pull
  repeat' split
  all_goals exact h
theorem fit_sour (h : aFit σ) (v : Int32) : aFit (f_sour σ v).2 := by
  unfold f_sour
  repeat' split
  all_goals exact h
theorem fit_crave (h : aFit σ) (x v : Int32) : aFit (f_crave σ x v).2 := by
  unfold f_crave
  repeat' split
  all_goals exact h
theorem fit_plan (h : aFit σ) (k la i n w : Int32) : aFit (f_plan σ k la i n w).2 := by
  unfold f_plan
  repeat' split
  all_goals exact h
theorem fit_reading (h : aFit σ) (x z y : Int32) (b : Bool) : aFit (f_reading σ x z y b).2 := by
  unfold f_reading
  repeat' split
  all_goals exact h
theorem fit_back (h : aFit σ) (k : Int32) : aFit (f_back σ k).2 := by
  unfold f_back
  repeat' split
  all_goals exact h
theorem fit_tell (h : aFit σ) (x : Int32) : aFit (f_tell σ x).2 := by
  unfold f_tell
  repeat' split
  all_goals exact h
theorem fit_sniff (h : aFit σ) (x : Int32) : aFit (f_sniff σ x).2 := by
  unfold f_sniff
  repeat' split
  all_goals exact h
theorem fit_as (h : aFit σ) (x k : Int32) : aFit (f_as σ x k).2 := by
  unfold f_as
  repeat' split
  all_goals exact h
theorem fit_cell (h : aFit σ) (k i la : Int32) : aFit (f_cell σ k i la).2 := by
  unfold f_cell
  repeat' split
  all_goals exact h
theorem fit_lose (h : aFit σ) (k : Int32) : aFit (f_lose σ k).2 := by
  unfold f_lose
  repeat' split
  · exact h
  all_goals exact fit_us h _ (fun v hv => by cases hv)
theorem fit_sheet (h : aFit σ) (k la n : Int32) : aFit (f_sheet σ k la n).2 := by
  unfold f_sheet
  repeat' split
  all_goals first
    | exact h
    | exact fit_us h _ (fun v hv i hi => by injection hv with hv; rw [← hv]; exact fits_0 _)
theorem fit_put (h : aFit σ) (k i v : Int32) : aFit (f_put σ k i v).2 := by
  unfold f_put
  split
  · exact h
  · split
    · exact h
    · rename_i c hc
      split
      · exact h
      · refine fit_us h _ (fun w hw t ht => ?_)
        injection hw with hw
        rw [← hw] at ht ⊢
        show fits (lT c.1) (.int (upd c.2.2 (ix i) (nrw c.1 v) t)) = true
        unfold upd
        split
        · exact fits_n _ _
        · exact h _ c hc t ht
theorem fit_copy (hok : aOk σ) (h : aFit σ) (k i o j n : Int32) : aFit (f_copy σ k i o j n).2 := by
  unfold f_copy
  split
  · exact h
  · split
    · exact h
    · split
      · exact h
      · rename_i za hza
        split
        · exact h
        · rename_i zb hzb
          split
          · exact h
          · rename_i hne
            split
            · exact h
            · rename_i hb1
              split
              · exact h
              · rename_i hb2
                have hab : za.1 = zb.1 := Decidable.byContradiction hne
                have h60 := (hok.2.2.2.2.2.2 _ za hza).2
                have h60' := (hok.2.2.2.2.2.2 _ zb hzb).2
                obtain ⟨a, b, ea1, eb1, hle⟩ := bey_ix h60 (Bool.eq_false_iff.mpr hb1)
                obtain ⟨a', b', ea2, eb2, hle'⟩ := bey_ix h60' (Bool.eq_false_iff.mpr hb2)
                refine fit_us h _ (fun w hw t ht => ?_)
                injection hw with hw
                rw [← hw] at ht ⊢
                have ht : t < zb.2.1 := ht
                show fits (lT zb.1) (.int (va_cpy za.2.2 zb.2.2 (ix i) (ix j) (ix n) t)) = true
                have q1 : ix i = a := by rw [ea1]; exact nI_clamp (by omega)
                have q2 : ix n = b := by rw [eb1]; exact nI_clamp (by omega)
                rw [q1, q2]
                unfold va_cpy
                split
                · rw [← hab]
                  exact h _ za hza _ (by omega)
                · exact h _ zb hzb t ht
theorem fit_0 : aFit s0 := fun k v hv => by cases hv
end FT
