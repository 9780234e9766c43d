/-! the law: its thirty cases -/
section LC
variable {p : Program} {l : Launch} {e : Env} {s : State} {m : MethodId} {below : List Frame} {meth : Method} {c : Code} {H : Heap} {locs : List Loc} {cells slots : Nat} {Q : State → Prop} {ls : Array Slot} {b L i : Nat} {xs : Nat → Int32} {D : va_G} {d : Nat → ClassId} {e0 : Nat} {B : Nat → Nat} {q : Nat} {Aq : Nat → Nat} {σ : ASt}
def bV (x : Int32) : Bool := !(decide (x = 0))
theorem bv {rest : List Value} {R : Room} {args : Array Value} {pc : Nat} {off o2 : Int} {tgt tg2 : Nat} {x : Int32} {z1 z0 : Int} (hx : p.tables.exec = Jvm.exec) (hb : c.code = cL_law) (hd0 : decode cL_law pc = .ok (.ifCond .eq off, 3)) (hd3 : decode cL_law (pc + 3) = .ok (.iconst z1, 1)) (hd4 : decode cL_law (pc + 3 + 1) = .ok (.goto o2, 3)) (hd7 : decode cL_law tgt = .ok (.iconst z0, 1)) (ht : (pc : Int) + off = (tgt : Int)) (ht2 : ((pc + 3 + 1 : Nat) : Int) + o2 = (tg2 : Int)) (hz1 : Int32.ofInt z1 = 1) (hz0 : Int32.ofInt z0 = 0 ∧ tgt + 1 = tg2)
    (kk : W p l e R s m args below meth c H locs cells slots Q (F0 m tg2 ls (.int (bI (bV x)) :: rest))) : W p l e R s m args below meth c H locs cells slots Q (F0 m pc ls (.int x :: rest)) := by
  refine lv_if_eq (tgt := tgt) hx hb hd0 ht (fun h => ?_) (fun h => ?_)
  · refine lv_iconst (v := 0) hx hb hd7 hz0.1 ?_
    rw [hz0.2]
    have e1 : bI (bV x) = 0 := by unfold bV; rw [h]; rfl
    rw [e1] at kk
    exact kk
  · refine lv_iconst (v := 1) hx hb hd3 hz1 ?_
    refine lv_goto (tgt := tg2) hx hb hd4 ht2 ?_
    have e1 : bI (bV x) = 1 := by unfold bV; rw [decide_eq_false h]; rfl
    rw [e1] at kk
    exact kk
set_option maxHeartbeats 4000000 in
set_option maxRecDepth 100000 in
theorem law_duchy (C : lwC p l s m meth c b L xs D d e0) (I : lwI D d e0 s B q Aq σ H locs) (hL : L ≤ 384) (hi : i + 6 ≤ L) (hl : lv_has ls 4 [(3, .int (nI i)), (2, .ref q), (1, .ref (B 0)), (0, .ref b)]) (hcl : cells + 9 ≤ 656673) (hsl : slots + 1061 ≤ 7101508) (kk : ∀ (σ' : ASt) (H1 : Heap) (locs1 : List Loc), lwI D d e0 s B q Aq σ' H1 locs1 → W p l e room_1 s m #[Value.ref b] below meth c H1 locs1 (cells + 9) (slots + 1061) Q (F0 m 1126 ls [])) : W p l e room_1 s m #[Value.ref b] below meth c H locs cells slots Q (F0 m 168 ls []) := by
  obtain ⟨hx, hb, hml, hown, hts, hX, hbl, hK, htr⟩ := C
  obtain ⟨τ, ea, hs, ρ, F, τm, hm, hM, hft, hu⟩ := I
  have hA : ∀ q : Nat, s.heap.size ≤ q → (fun q : Nat => s.heap.size ≤ q) q := fun _ h => h
  have hbA : ¬ (fun q : Nat => s.heap.size ≤ q) b := Nat.not_le.mpr hbl
  have hZ : s.heap.size ≤ s.heap.size ∧ ∀ q : Nat, q < s.heap.size → s.heap[q]? = s.heap[q]? := ⟨Nat.le_refl _, fun _ _ => rfl⟩
  have hok := hm.ok
  refine lv_aload_n hx hb dL_law_168 rfl (lv_at hl 2 rfl) ?_
  refine sc hx hb hX hbl hbA hu.2.2 hL 1 (by omega) (by decide) (lv_at hl 3 rfl) (lv_at hl 0 rfl) dL_law_169 dL_law_170 dL_law_171 dL_law_172 dL_law_173 ?_
  refine sc hx hb hX hbl hbA hu.2.2 hL 2 (by omega) (by decide) (lv_at hl 3 rfl) (lv_at hl 0 rfl) dL_law_174 dL_law_175 dL_law_176 dL_law_177 dL_law_178 ?_
  refine sc hx hb hX hbl hbA hu.2.2 hL 3 (by omega) (by decide) (lv_at hl 3 rfl) (lv_at hl 0 rfl) dL_law_179 dL_law_180 dL_law_181 dL_law_182 dL_law_183 ?_
  refine sc hx hb hX hbl hbA hu.2.2 hL 4 (by omega) (by decide) (lv_at hl 3 rfl) (lv_at hl 0 rfl) dL_law_184 dL_law_185 dL_law_186 dL_law_187 dL_law_188 ?_
  obtain ⟨mk, hc⟩ := xCode.ofW (hts _ q193)
  refine callX_V (own := RL) (C := RX0) (rest := []) hx hb hml hown hts KE_st hK hA hA hZ (cX_fr (cX_duchy l D d s.heap B τ ea hs ρ e0 F σ (xs (i + 1)) (xs (i + 2)) (xs (i + 3)) (xs (i + 4)) htr hm) (mw d q Aq τm)) hc q190 q191 q192 ⟨by decide, by decide, by decide, pdL_X_duchy⟩ (Nat.le_of_ble_eq_true rfl) (x_recv hK.1 (va_P_l hu.1)) hu hl.1 rfl (Nat.le_of_ble_eq_true rfl) dL_law_189 ⟨Nat.le_of_ble_eq_true rfl, Nat.le_of_ble_eq_true rfl, by show cells + 9 ≤ 656673; omega, by show slots + 1061 ≤ 7101508; omega⟩ (fun r ws H locs hpo hu => ?_) (fun cls he => absurd he id)
  obtain ⟨wa, rfl, rfl, τ, ea, hs, ρ, F, rfl, hm1⟩ := hpo
  refine lv_aload_n hx hb dL_law_192 rfl (lv_at hl 1 rfl) ?_
  refine sc hx hb hX hbl hbA hu.2.2 hL 1 (by omega) (by decide) (lv_at hl 3 rfl) (lv_at hl 0 rfl) dL_law_193 dL_law_194 dL_law_195 dL_law_196 dL_law_197 ?_
  refine sc hx hb hX hbl hbA hu.2.2 hL 2 (by omega) (by decide) (lv_at hl 3 rfl) (lv_at hl 0 rfl) dL_law_198 dL_law_199 dL_law_200 dL_law_201 dL_law_202 ?_
  refine sc hx hb hX hbl hbA hu.2.2 hL 3 (by omega) (by decide) (lv_at hl 3 rfl) (lv_at hl 0 rfl) dL_law_203 dL_law_204 dL_law_205 dL_law_206 dL_law_207 ?_
  refine sc hx hb hX hbl hbA hu.2.2 hL 4 (by omega) (by decide) (lv_at hl 3 rfl) (lv_at hl 0 rfl) dL_law_208 dL_law_209 dL_law_210 dL_law_211 dL_law_212 ?_
  have hu := uW_sw hu
  refine callU_V (rest := [.int (_)]) hx hb hml hown hts KM_st hK.1.1 hA hA hZ (cU_fr (cM_duchy l D d s.heap q Aq τm σ (xs (i + 1)) (xs (i + 2)) (xs (i + 3)) (xs (i + 4)) hM) (xw d B τ ea hs ρ)) (wL_M_duchy hts ⟨Nat.le_of_ble_eq_true rfl, Nat.le_of_ble_eq_true rfl⟩) (m_recv hK.1.1 (va_P_l hu.1)) hu rfl hl.1 rfl (Nat.le_of_ble_eq_true rfl) dL_law_213 ⟨by show cells + 9 + 0 ≤ 656673; omega, by show slots + 1061 + 0 ≤ 7101508; omega⟩ (fun r ws H locs hpo hu => ?_)
  obtain ⟨wa, rfl, rfl, τm1, rfl, hM1⟩ := hpo
  have hu := uW_sw hu
  refine lv_icmp_eq (tgt := 1126) hx hb dL_law_216 (by decide) (fun _ => ?_) (fun c0 => absurd rfl c0)
  exact W.widen (by show cells + 9 + 0 ≤ cells + 9; omega) (by show slots + 1061 + 0 ≤ slots + 1061; omega) (kk (f_duchy σ (xs (i + 1)) (xs (i + 2)) (xs (i + 3)) (xs (i + 4))).2 H locs ⟨_, _, _, _, F, _, hm1, hM1, fit_duchy hft (xs (i + 1)) (xs (i + 2)) (xs (i + 3)) (xs (i + 4)), hu⟩)
set_option maxHeartbeats 4000000 in
set_option maxRecDepth 100000 in
theorem law_ofEater (C : lwC p l s m meth c b L xs D d e0) (I : lwI D d e0 s B q Aq σ H locs) (hL : L ≤ 384) (hi : i + 6 ≤ L) (hl : lv_has ls 4 [(3, .int (nI i)), (2, .ref q), (1, .ref (B 0)), (0, .ref b)]) (hcl : cells + 9 ≤ 656673) (hsl : slots + 1061 ≤ 7101508) (kk : ∀ (σ' : ASt) (H1 : Heap) (locs1 : List Loc), lwI D d e0 s B q Aq σ' H1 locs1 → W p l e room_1 s m #[Value.ref b] below meth c H1 locs1 (cells + 9) (slots + 1061) Q (F0 m 1126 ls [])) : W p l e room_1 s m #[Value.ref b] below meth c H locs cells slots Q (F0 m 221 ls []) := by
  obtain ⟨hx, hb, hml, hown, hts, hX, hbl, hK, htr⟩ := C
  obtain ⟨τ, ea, hs, ρ, F, τm, hm, hM, hft, hu⟩ := I
  have hA : ∀ q : Nat, s.heap.size ≤ q → (fun q : Nat => s.heap.size ≤ q) q := fun _ h => h
  have hbA : ¬ (fun q : Nat => s.heap.size ≤ q) b := Nat.not_le.mpr hbl
  have hZ : s.heap.size ≤ s.heap.size ∧ ∀ q : Nat, q < s.heap.size → s.heap[q]? = s.heap[q]? := ⟨Nat.le_refl _, fun _ _ => rfl⟩
  have hok := hm.ok
  refine lv_aload_n hx hb dL_law_221 rfl (lv_at hl 2 rfl) ?_
  refine sc hx hb hX hbl hbA hu.2.2 hL 1 (by omega) (by decide) (lv_at hl 3 rfl) (lv_at hl 0 rfl) dL_law_222 dL_law_223 dL_law_224 dL_law_225 dL_law_226 ?_
  refine sc hx hb hX hbl hbA hu.2.2 hL 2 (by omega) (by decide) (lv_at hl 3 rfl) (lv_at hl 0 rfl) dL_law_227 dL_law_228 dL_law_229 dL_law_230 dL_law_231 ?_
  refine callR_V (rest := []) hx hb hml hown hts KX_st hK.1 (cX_ofEater l D d B τ ea hs ρ e0 F σ (xs (i + 1)) (xs (i + 2)) hm) (wL_X_ofEater (rm := rk 4) hts ⟨Nat.le_of_ble_eq_true rfl, Nat.le_of_ble_eq_true rfl⟩) (x_recv hK.1 (va_P_l hu.1)) (va_P_l hu.1) rfl hl.1 rfl (Nat.le_of_ble_eq_true rfl) dL_law_232 ⟨by show cells ≤ 656673; omega, by show slots ≤ 7101508; omega⟩ ?_
  refine lv_aload_n hx hb dL_law_235 rfl (lv_at hl 1 rfl) ?_
  refine sc hx hb hX hbl hbA hu.2.2 hL 1 (by omega) (by decide) (lv_at hl 3 rfl) (lv_at hl 0 rfl) dL_law_236 dL_law_237 dL_law_238 dL_law_239 dL_law_240 ?_
  refine sc hx hb hX hbl hbA hu.2.2 hL 2 (by omega) (by decide) (lv_at hl 3 rfl) (lv_at hl 0 rfl) dL_law_241 dL_law_242 dL_law_243 dL_law_244 dL_law_245 ?_
  refine callR_V (rest := [.int (_)]) hx hb hml hown hts KM_st hK.1.1 (cM_ofEater l D d q Aq τm σ (xs (i + 1)) (xs (i + 2)) hM) (wL_M_ofEater (rm := rk 2) hts ⟨Nat.le_of_ble_eq_true rfl, Nat.le_of_ble_eq_true rfl⟩) (m_recv hK.1.1 (va_P_r hu.1)) (va_P_r hu.1) rfl hl.1 rfl (Nat.le_of_ble_eq_true rfl) dL_law_246 ⟨by show cells ≤ 656673; omega, by show slots ≤ 7101508; omega⟩ ?_
  refine lv_icmp_eq (tgt := 1126) hx hb dL_law_249 (by decide) (fun _ => ?_) (fun c0 => absurd rfl c0)
  exact W.widen (by show cells ≤ cells + 9; omega) (by show slots ≤ slots + 1061; omega) (kk σ H locs ⟨_, _, _, _, F, _, hm, hM, hft, hu⟩)
set_option maxHeartbeats 4000000 in
set_option maxRecDepth 100000 in
theorem law_look (C : lwC p l s m meth c b L xs D d e0) (I : lwI D d e0 s B q Aq σ H locs) (hL : L ≤ 384) (hi : i + 6 ≤ L) (hl : lv_has ls 4 [(3, .int (nI i)), (2, .ref q), (1, .ref (B 0)), (0, .ref b)]) (hcl : cells + 9 ≤ 656673) (hsl : slots + 1061 ≤ 7101508) (kk : ∀ (σ' : ASt) (H1 : Heap) (locs1 : List Loc), lwI D d e0 s B q Aq σ' H1 locs1 → W p l e room_1 s m #[Value.ref b] below meth c H1 locs1 (cells + 9) (slots + 1061) Q (F0 m 1126 ls [])) : W p l e room_1 s m #[Value.ref b] below meth c H locs cells slots Q (F0 m 254 ls []) := by
  obtain ⟨hx, hb, hml, hown, hts, hX, hbl, hK, htr⟩ := C
  obtain ⟨τ, ea, hs, ρ, F, τm, hm, hM, hft, hu⟩ := I
  have hA : ∀ q : Nat, s.heap.size ≤ q → (fun q : Nat => s.heap.size ≤ q) q := fun _ h => h
  have hbA : ¬ (fun q : Nat => s.heap.size ≤ q) b := Nat.not_le.mpr hbl
  have hZ : s.heap.size ≤ s.heap.size ∧ ∀ q : Nat, q < s.heap.size → s.heap[q]? = s.heap[q]? := ⟨Nat.le_refl _, fun _ _ => rfl⟩
  have hok := hm.ok
  refine lv_aload_n hx hb dL_law_254 rfl (lv_at hl 2 rfl) ?_
  refine sc hx hb hX hbl hbA hu.2.2 hL 1 (by omega) (by decide) (lv_at hl 3 rfl) (lv_at hl 0 rfl) dL_law_255 dL_law_256 dL_law_257 dL_law_258 dL_law_259 ?_
  refine callR_V (rest := []) hx hb hml hown hts KX_st hK.1 (cX_look l D d B τ ea hs ρ e0 F σ (xs (i + 1)) hm) (wL_X_look (rm := rk 2) hts ⟨Nat.le_of_ble_eq_true rfl, Nat.le_of_ble_eq_true rfl⟩) (x_recv hK.1 (va_P_l hu.1)) (va_P_l hu.1) rfl hl.1 rfl (Nat.le_of_ble_eq_true rfl) dL_law_260 ⟨by show cells ≤ 656673; omega, by show slots ≤ 7101508; omega⟩ ?_
  refine lv_aload_n hx hb dL_law_263 rfl (lv_at hl 1 rfl) ?_
  refine sc hx hb hX hbl hbA hu.2.2 hL 1 (by omega) (by decide) (lv_at hl 3 rfl) (lv_at hl 0 rfl) dL_law_264 dL_law_265 dL_law_266 dL_law_267 dL_law_268 ?_
  refine callR_V (rest := [.int (_)]) hx hb hml hown hts KM_st hK.1.1 (cM_look l D d q Aq τm σ (xs (i + 1)) hM) (wL_M_look (rm := rk 2) hts ⟨Nat.le_of_ble_eq_true rfl, Nat.le_of_ble_eq_true rfl⟩) (m_recv hK.1.1 (va_P_r hu.1)) (va_P_r hu.1) rfl hl.1 rfl (Nat.le_of_ble_eq_true rfl) dL_law_269 ⟨by show cells ≤ 656673; omega, by show slots ≤ 7101508; omega⟩ ?_
  refine lv_icmp_eq (tgt := 1126) hx hb dL_law_272 (by decide) (fun _ => ?_) (fun c0 => absurd rfl c0)
  exact W.widen (by show cells ≤ cells + 9; omega) (by show slots ≤ slots + 1061; omega) (kk σ H locs ⟨_, _, _, _, F, _, hm, hM, hft, hu⟩)
set_option maxHeartbeats 4000000 in
set_option maxRecDepth 100000 in
theorem law_pull (C : lwC p l s m meth c b L xs D d e0) (I : lwI D d e0 s B q Aq σ H locs) (hL : L ≤ 384) (hi : i + 6 ≤ L) (hl : lv_has ls 4 [(3, .int (nI i)), (2, .ref q), (1, .ref (B 0)), (0, .ref b)]) (hcl : cells + 9 ≤ 656673) (hsl : slots + 1061 ≤ 7101508) (kk : ∀ (σ' : ASt) (H1 : Heap) (locs1 : List Loc), lwI D d e0 s B q Aq σ' H1 locs1 → W p l e room_1 s m #[Value.ref b] below meth c H1 locs1 (cells + 9) (slots + 1061) Q (F0 m 1126 ls [])) : W p l e room_1 s m #[Value.ref b] below meth c H locs cells slots Q (F0 m 277 ls []) := by
  obtain ⟨hx, hb, hml, hown, hts, hX, hbl, hK, htr⟩ := C
  obtain ⟨τ, ea, hs, ρ, F, τm, hm, hM, hft, hu⟩ := I
  have hA : ∀ q : Nat, s.heap.size ≤ q → (fun q : Nat => s.heap.size ≤ q) q := fun _ h => h
  have hbA : ¬ (fun q : Nat => s.heap.size ≤ q) b := Nat.not_le.mpr hbl
  have hZ : s.heap.size ≤ s.heap.size ∧ ∀ q : Nat, q < s.heap.size → s.heap[q]? = s.heap[q]? := ⟨Nat.le_refl _, fun _ _ => rfl⟩
  have hok := hm.ok
  refine lv_aload_n hx hb dL_law_277 rfl (lv_at hl 2 rfl) ?_
  refine sc hx hb hX hbl hbA hu.2.2 hL 1 (by omega) (by decide) (lv_at hl 3 rfl) (lv_at hl 0 rfl) dL_law_278 dL_law_279 dL_law_280 dL_law_281 dL_law_282 ?_
  refine sc hx hb hX hbl hbA hu.2.2 hL 2 (by omega) (by decide) (lv_at hl 3 rfl) (lv_at hl 0 rfl) dL_law_283 dL_law_284 dL_law_285 dL_law_286 dL_law_287 ?_
  refine callU_V (rest := []) hx hb hml hown hts KX_st hK.1 hA hA hZ (cU_fr (cX_pull l D d s.heap B τ ea hs ρ e0 F σ (xs (i + 1)) (xs (i + 2)) hm) (mw d q Aq τm)) (wL_X_pull hts ⟨Nat.le_of_ble_eq_true rfl, Nat.le_of_ble_eq_true rfl⟩) (x_recv hK.1 (va_P_l hu.1)) hu rfl hl.1 rfl (Nat.le_of_ble_eq_true rfl) dL_law_288 ⟨by show cells + 0 ≤ 656673; omega, by show slots + 0 ≤ 7101508; omega⟩ (fun r ws H locs hpo hu => ?_)
  obtain ⟨wa, rfl, rfl, τ, ea, hs, ρ, F, rfl, hm1⟩ := hpo
  refine lv_aload_n hx hb dL_law_291 rfl (lv_at hl 1 rfl) ?_
  refine sc hx hb hX hbl hbA hu.2.2 hL 1 (by omega) (by decide) (lv_at hl 3 rfl) (lv_at hl 0 rfl) dL_law_292 dL_law_293 dL_law_294 dL_law_295 dL_law_296 ?_
  refine sc hx hb hX hbl hbA hu.2.2 hL 2 (by omega) (by decide) (lv_at hl 3 rfl) (lv_at hl 0 rfl) dL_law_297 dL_law_298 dL_law_299 dL_law_300 dL_law_301 ?_
  have hu := uW_sw hu
  refine callU_V (rest := [.int (_)]) hx hb hml hown hts KM_st hK.1.1 hA hA hZ (cU_fr (cM_pull l D d s.heap q Aq τm σ (xs (i + 1)) (xs (i + 2)) hM) (xw d B τ ea hs ρ)) (wL_M_pull hts ⟨Nat.le_of_ble_eq_true rfl, Nat.le_of_ble_eq_true rfl⟩) (m_recv hK.1.1 (va_P_l hu.1)) hu rfl hl.1 rfl (Nat.le_of_ble_eq_true rfl) dL_law_302 ⟨by show cells + 0 + 0 ≤ 656673; omega, by show slots + 0 + 0 ≤ 7101508; omega⟩ (fun r ws H locs hpo hu => ?_)
  obtain ⟨wa, rfl, rfl, τm1, rfl, hM1⟩ := hpo
  have hu := uW_sw hu
  refine lv_icmp_eq (tgt := 1126) hx hb dL_law_305 (by decide) (fun _ => ?_) (fun c0 => absurd rfl c0)
  exact W.widen (by show cells + 0 + 0 ≤ cells + 9; omega) (by show slots + 0 + 0 ≤ slots + 1061; omega) (kk (f_pull σ (xs (i + 1)) (xs (i + 2))).2 H locs ⟨_, _, _, _, F, _, hm1, hM1, fit_pull hft (xs (i + 1)) (xs (i + 2)), hu⟩)
set_option maxHeartbeats 4000000 in
set_option maxRecDepth 100000 in
theorem law_sour (C : lwC p l s m meth c b L xs D d e0) (I : lwI D d e0 s B q Aq σ H locs) (hL : L ≤ 384) (hi : i + 6 ≤ L) (hl : lv_has ls 4 [(3, .int (nI i)), (2, .ref q), (1, .ref (B 0)), (0, .ref b)]) (hcl : cells + 9 ≤ 656673) (hsl : slots + 1061 ≤ 7101508) (kk : ∀ (σ' : ASt) (H1 : Heap) (locs1 : List Loc), lwI D d e0 s B q Aq σ' H1 locs1 → W p l e room_1 s m #[Value.ref b] below meth c H1 locs1 (cells + 9) (slots + 1061) Q (F0 m 1126 ls [])) : W p l e room_1 s m #[Value.ref b] below meth c H locs cells slots Q (F0 m 310 ls []) := by
  obtain ⟨hx, hb, hml, hown, hts, hX, hbl, hK, htr⟩ := C
  obtain ⟨τ, ea, hs, ρ, F, τm, hm, hM, hft, hu⟩ := I
  have hA : ∀ q : Nat, s.heap.size ≤ q → (fun q : Nat => s.heap.size ≤ q) q := fun _ h => h
  have hbA : ¬ (fun q : Nat => s.heap.size ≤ q) b := Nat.not_le.mpr hbl
  have hZ : s.heap.size ≤ s.heap.size ∧ ∀ q : Nat, q < s.heap.size → s.heap[q]? = s.heap[q]? := ⟨Nat.le_refl _, fun _ _ => rfl⟩
  have hok := hm.ok
  refine lv_aload_n hx hb dL_law_310 rfl (lv_at hl 2 rfl) ?_
  refine sc hx hb hX hbl hbA hu.2.2 hL 1 (by omega) (by decide) (lv_at hl 3 rfl) (lv_at hl 0 rfl) dL_law_311 dL_law_312 dL_law_313 dL_law_314 dL_law_315 ?_
  refine callU_V (rest := []) hx hb hml hown hts KX_st hK.1 hA hA hZ (cU_fr (cX_sour l D d s.heap B τ ea hs ρ e0 F σ (xs (i + 1)) hm) (mw d q Aq τm)) (wL_X_sour hts ⟨Nat.le_of_ble_eq_true rfl, Nat.le_of_ble_eq_true rfl⟩) (x_recv hK.1 (va_P_l hu.1)) hu rfl hl.1 rfl (Nat.le_of_ble_eq_true rfl) dL_law_316 ⟨by show cells + 0 ≤ 656673; omega, by show slots + 0 ≤ 7101508; omega⟩ (fun r ws H locs hpo hu => ?_)
  obtain ⟨wa, rfl, rfl, τ, ea, hs, ρ, F, rfl, hm1⟩ := hpo
  refine lv_aload_n hx hb dL_law_319 rfl (lv_at hl 1 rfl) ?_
  refine sc hx hb hX hbl hbA hu.2.2 hL 1 (by omega) (by decide) (lv_at hl 3 rfl) (lv_at hl 0 rfl) dL_law_320 dL_law_321 dL_law_322 dL_law_323 dL_law_324 ?_
  have hu := uW_sw hu
  refine callU_V (rest := [.int (_)]) hx hb hml hown hts KM_st hK.1.1 hA hA hZ (cU_fr (cM_sour l D d s.heap q Aq τm σ (xs (i + 1)) hM) (xw d B τ ea hs ρ)) (wL_M_sour hts ⟨Nat.le_of_ble_eq_true rfl, Nat.le_of_ble_eq_true rfl⟩) (m_recv hK.1.1 (va_P_l hu.1)) hu rfl hl.1 rfl (Nat.le_of_ble_eq_true rfl) dL_law_325 ⟨by show cells + 0 + 0 ≤ 656673; omega, by show slots + 0 + 0 ≤ 7101508; omega⟩ (fun r ws H locs hpo hu => ?_)
  obtain ⟨wa, rfl, rfl, τm1, rfl, hM1⟩ := hpo
  have hu := uW_sw hu
  refine lv_icmp_eq (tgt := 1126) hx hb dL_law_328 (by decide) (fun _ => ?_) (fun c0 => absurd rfl c0)
  exact W.widen (by show cells + 0 + 0 ≤ cells + 9; omega) (by show slots + 0 + 0 ≤ slots + 1061; omega) (kk (f_sour σ (xs (i + 1))).2 H locs ⟨_, _, _, _, F, _, hm1, hM1, fit_sour hft (xs (i + 1)), hu⟩)
set_option maxHeartbeats 4000000 in
set_option maxRecDepth 100000 in
theorem law_crave (C : lwC p l s m meth c b L xs D d e0) (I : lwI D d e0 s B q Aq σ H locs) (hL : L ≤ 384) (hi : i + 6 ≤ L) (hl : lv_has ls 4 [(3, .int (nI i)), (2, .ref q), (1, .ref (B 0)), (0, .ref b)]) (hcl : cells + 9 ≤ 656673) (hsl : slots + 1061 ≤ 7101508) (kk : ∀ (σ' : ASt) (H1 : Heap) (locs1 : List Loc), lwI D d e0 s B q Aq σ' H1 locs1 → W p l e room_1 s m #[Value.ref b] below meth c H1 locs1 (cells + 9) (slots + 1061) Q (F0 m 1126 ls [])) : W p l e room_1 s m #[Value.ref b] below meth c H locs cells slots Q (F0 m 333 ls []) := by
  obtain ⟨hx, hb, hml, hown, hts, hX, hbl, hK, htr⟩ := C
  obtain ⟨τ, ea, hs, ρ, F, τm, hm, hM, hft, hu⟩ := I
  have hA : ∀ q : Nat, s.heap.size ≤ q → (fun q : Nat => s.heap.size ≤ q) q := fun _ h => h
  have hbA : ¬ (fun q : Nat => s.heap.size ≤ q) b := Nat.not_le.mpr hbl
  have hZ : s.heap.size ≤ s.heap.size ∧ ∀ q : Nat, q < s.heap.size → s.heap[q]? = s.heap[q]? := ⟨Nat.le_refl _, fun _ _ => rfl⟩
  have hok := hm.ok
  refine lv_aload_n hx hb dL_law_333 rfl (lv_at hl 2 rfl) ?_
  refine sc hx hb hX hbl hbA hu.2.2 hL 1 (by omega) (by decide) (lv_at hl 3 rfl) (lv_at hl 0 rfl) dL_law_334 dL_law_335 dL_law_336 dL_law_337 dL_law_338 ?_
  refine sc hx hb hX hbl hbA hu.2.2 hL 2 (by omega) (by decide) (lv_at hl 3 rfl) (lv_at hl 0 rfl) dL_law_339 dL_law_340 dL_law_341 dL_law_342 dL_law_343 ?_
  refine callU_V (rest := []) hx hb hml hown hts KX_st hK.1 hA hA hZ (cU_fr (cX_crave l D d s.heap B τ ea hs ρ e0 F σ (xs (i + 1)) (xs (i + 2)) hm) (mw d q Aq τm)) (wL_X_crave hts ⟨Nat.le_of_ble_eq_true rfl, Nat.le_of_ble_eq_true rfl⟩) (x_recv hK.1 (va_P_l hu.1)) hu rfl hl.1 rfl (Nat.le_of_ble_eq_true rfl) dL_law_344 ⟨by show cells + 0 ≤ 656673; omega, by show slots + 0 ≤ 7101508; omega⟩ (fun r ws H locs hpo hu => ?_)
  obtain ⟨wa, rfl, rfl, τ, ea, hs, ρ, F, rfl, hm1⟩ := hpo
  refine lv_aload_n hx hb dL_law_347 rfl (lv_at hl 1 rfl) ?_
  refine sc hx hb hX hbl hbA hu.2.2 hL 1 (by omega) (by decide) (lv_at hl 3 rfl) (lv_at hl 0 rfl) dL_law_348 dL_law_349 dL_law_350 dL_law_351 dL_law_352 ?_
  refine sc hx hb hX hbl hbA hu.2.2 hL 2 (by omega) (by decide) (lv_at hl 3 rfl) (lv_at hl 0 rfl) dL_law_353 dL_law_354 dL_law_355 dL_law_356 dL_law_357 ?_
  have hu := uW_sw hu
  refine callU_V (rest := [.int (_)]) hx hb hml hown hts KM_st hK.1.1 hA hA hZ (cU_fr (cM_crave l D d s.heap q Aq τm σ (xs (i + 1)) (xs (i + 2)) hM) (xw d B τ ea hs ρ)) (wL_M_crave hts ⟨Nat.le_of_ble_eq_true rfl, Nat.le_of_ble_eq_true rfl⟩) (m_recv hK.1.1 (va_P_l hu.1)) hu rfl hl.1 rfl (Nat.le_of_ble_eq_true rfl) dL_law_358 ⟨by show cells + 0 + 0 ≤ 656673; omega, by show slots + 0 + 0 ≤ 7101508; omega⟩ (fun r ws H locs hpo hu => ?_)
  obtain ⟨wa, rfl, rfl, τm1, rfl, hM1⟩ := hpo
  have hu := uW_sw hu
  refine lv_icmp_eq (tgt := 1126) hx hb dL_law_361 (by decide) (fun _ => ?_) (fun c0 => absurd rfl c0)
  exact W.widen (by show cells + 0 + 0 ≤ cells + 9; omega) (by show slots + 0 + 0 ≤ slots + 1061; omega) (kk (f_crave σ (xs (i + 1)) (xs (i + 2))).2 H locs ⟨_, _, _, _, F, _, hm1, hM1, fit_crave hft (xs (i + 1)) (xs (i + 2)), hu⟩)
set_option maxHeartbeats 4000000 in
set_option maxRecDepth 100000 in
theorem law_fasts (C : lwC p l s m meth c b L xs D d e0) (I : lwI D d e0 s B q Aq σ H locs) (hL : L ≤ 384) (hi : i + 6 ≤ L) (hl : lv_has ls 4 [(3, .int (nI i)), (2, .ref q), (1, .ref (B 0)), (0, .ref b)]) (hcl : cells + 9 ≤ 656673) (hsl : slots + 1061 ≤ 7101508) (kk : ∀ (σ' : ASt) (H1 : Heap) (locs1 : List Loc), lwI D d e0 s B q Aq σ' H1 locs1 → W p l e room_1 s m #[Value.ref b] below meth c H1 locs1 (cells + 9) (slots + 1061) Q (F0 m 1126 ls [])) : W p l e room_1 s m #[Value.ref b] below meth c H locs cells slots Q (F0 m 366 ls []) := by
  obtain ⟨hx, hb, hml, hown, hts, hX, hbl, hK, htr⟩ := C
  obtain ⟨τ, ea, hs, ρ, F, τm, hm, hM, hft, hu⟩ := I
  have hA : ∀ q : Nat, s.heap.size ≤ q → (fun q : Nat => s.heap.size ≤ q) q := fun _ h => h
  have hbA : ¬ (fun q : Nat => s.heap.size ≤ q) b := Nat.not_le.mpr hbl
  have hZ : s.heap.size ≤ s.heap.size ∧ ∀ q : Nat, q < s.heap.size → s.heap[q]? = s.heap[q]? := ⟨Nat.le_refl _, fun _ _ => rfl⟩
  have hok := hm.ok
  refine lv_aload_n hx hb dL_law_366 rfl (lv_at hl 2 rfl) ?_
  refine callR_V (rest := []) hx hb hml hown hts KX_st hK.1 (cX_fasts l D d B τ ea hs ρ e0 F σ  hm) (wL_X_fasts (rm := rk 2) hts ⟨Nat.le_of_ble_eq_true rfl, Nat.le_of_ble_eq_true rfl⟩) (x_recv hK.1 (va_P_l hu.1)) (va_P_l hu.1) rfl hl.1 rfl (Nat.le_of_ble_eq_true rfl) dL_law_367 ⟨by show cells ≤ 656673; omega, by show slots ≤ 7101508; omega⟩ ?_
  refine lv_aload_n hx hb dL_law_370 rfl (lv_at hl 1 rfl) ?_
  refine callR_V (rest := [.int (_)]) hx hb hml hown hts KM_st hK.1.1 (cM_fasts l D d q Aq τm σ  hM) (wL_M_fasts (rm := rk 1) hts ⟨Nat.le_of_ble_eq_true rfl, Nat.le_of_ble_eq_true rfl⟩) (m_recv hK.1.1 (va_P_r hu.1)) (va_P_r hu.1) rfl hl.1 rfl (Nat.le_of_ble_eq_true rfl) dL_law_371 ⟨by show cells ≤ 656673; omega, by show slots ≤ 7101508; omega⟩ ?_
  refine lv_icmp_eq (tgt := 1126) hx hb dL_law_374 (by decide) (fun _ => ?_) (fun c0 => absurd rfl c0)
  exact W.widen (by show cells ≤ cells + 9; omega) (by show slots ≤ slots + 1061; omega) (kk σ H locs ⟨_, _, _, _, F, _, hm, hM, hft, hu⟩)
set_option maxHeartbeats 4000000 in
set_option maxRecDepth 100000 in
theorem law_yellow (C : lwC p l s m meth c b L xs D d e0) (I : lwI D d e0 s B q Aq σ H locs) (hL : L ≤ 384) (hi : i + 6 ≤ L) (hl : lv_has ls 4 [(3, .int (nI i)), (2, .ref q), (1, .ref (B 0)), (0, .ref b)]) (hcl : cells + 9 ≤ 656673) (hsl : slots + 1061 ≤ 7101508) (kk : ∀ (σ' : ASt) (H1 : Heap) (locs1 : List Loc), lwI D d e0 s B q Aq σ' H1 locs1 → W p l e room_1 s m #[Value.ref b] below meth c H1 locs1 (cells + 9) (slots + 1061) Q (F0 m 1126 ls [])) : W p l e room_1 s m #[Value.ref b] below meth c H locs cells slots Q (F0 m 379 ls []) := by
  obtain ⟨hx, hb, hml, hown, hts, hX, hbl, hK, htr⟩ := C
  obtain ⟨τ, ea, hs, ρ, F, τm, hm, hM, hft, hu⟩ := I
  have hA : ∀ q : Nat, s.heap.size ≤ q → (fun q : Nat => s.heap.size ≤ q) q := fun _ h => h
  have hbA : ¬ (fun q : Nat => s.heap.size ≤ q) b := Nat.not_le.mpr hbl
  have hZ : s.heap.size ≤ s.heap.size ∧ ∀ q : Nat, q < s.heap.size → s.heap[q]? = s.heap[q]? := ⟨Nat.le_refl _, fun _ _ => rfl⟩
  have hok := hm.ok
  refine lv_aload_n hx hb dL_law_379 rfl (lv_at hl 2 rfl) ?_
  refine sc hx hb hX hbl hbA hu.2.2 hL 1 (by omega) (by decide) (lv_at hl 3 rfl) (lv_at hl 0 rfl) dL_law_380 dL_law_381 dL_law_382 dL_law_383 dL_law_384 ?_
  refine sc hx hb hX hbl hbA hu.2.2 hL 2 (by omega) (by decide) (lv_at hl 3 rfl) (lv_at hl 0 rfl) dL_law_385 dL_law_386 dL_law_387 dL_law_388 dL_law_389 ?_
  refine callR_V (rest := []) hx hb hml hown hts KX_st hK.1 (cX_yellow l D d B τ ea hs ρ e0 F σ (xs (i + 1)) (xs (i + 2)) hm) (wL_X_yellow (rm := rk 6) hts ⟨Nat.le_of_ble_eq_true rfl, Nat.le_of_ble_eq_true rfl⟩) (x_recv hK.1 (va_P_l hu.1)) (va_P_l hu.1) rfl hl.1 rfl (Nat.le_of_ble_eq_true rfl) dL_law_390 ⟨by show cells ≤ 656673; omega, by show slots ≤ 7101508; omega⟩ ?_
  refine lv_aload_n hx hb dL_law_393 rfl (lv_at hl 1 rfl) ?_
  refine sc hx hb hX hbl hbA hu.2.2 hL 1 (by omega) (by decide) (lv_at hl 3 rfl) (lv_at hl 0 rfl) dL_law_394 dL_law_395 dL_law_396 dL_law_397 dL_law_398 ?_
  refine sc hx hb hX hbl hbA hu.2.2 hL 2 (by omega) (by decide) (lv_at hl 3 rfl) (lv_at hl 0 rfl) dL_law_399 dL_law_400 dL_law_401 dL_law_402 dL_law_403 ?_
  refine callR_V (rest := [.int (_)]) hx hb hml hown hts KM_st hK.1.1 (cM_yellow l D d q Aq τm σ (xs (i + 1)) (xs (i + 2)) hM) (wL_M_yellow (rm := rk 2) hts ⟨Nat.le_of_ble_eq_true rfl, Nat.le_of_ble_eq_true rfl⟩) (m_recv hK.1.1 (va_P_r hu.1)) (va_P_r hu.1) rfl hl.1 rfl (Nat.le_of_ble_eq_true rfl) dL_law_404 ⟨by show cells ≤ 656673; omega, by show slots ≤ 7101508; omega⟩ ?_
  refine lv_icmp_eq (tgt := 1126) hx hb dL_law_407 (by decide) (fun _ => ?_) (fun c0 => absurd rfl c0)
  exact W.widen (by show cells ≤ cells + 9; omega) (by show slots ≤ slots + 1061; omega) (kk σ H locs ⟨_, _, _, _, F, _, hm, hM, hft, hu⟩)
set_option maxHeartbeats 4000000 in
set_option maxRecDepth 100000 in
theorem law_found (C : lwC p l s m meth c b L xs D d e0) (I : lwI D d e0 s B q Aq σ H locs) (hL : L ≤ 384) (hi : i + 6 ≤ L) (hl : lv_has ls 4 [(3, .int (nI i)), (2, .ref q), (1, .ref (B 0)), (0, .ref b)]) (hcl : cells + 9 ≤ 656673) (hsl : slots + 1061 ≤ 7101508) (kk : ∀ (σ' : ASt) (H1 : Heap) (locs1 : List Loc), lwI D d e0 s B q Aq σ' H1 locs1 → W p l e room_1 s m #[Value.ref b] below meth c H1 locs1 (cells + 9) (slots + 1061) Q (F0 m 1126 ls [])) : W p l e room_1 s m #[Value.ref b] below meth c H locs cells slots Q (F0 m 412 ls []) := by
  obtain ⟨hx, hb, hml, hown, hts, hX, hbl, hK, htr⟩ := C
  obtain ⟨τ, ea, hs, ρ, F, τm, hm, hM, hft, hu⟩ := I
  have hA : ∀ q : Nat, s.heap.size ≤ q → (fun q : Nat => s.heap.size ≤ q) q := fun _ h => h
  have hbA : ¬ (fun q : Nat => s.heap.size ≤ q) b := Nat.not_le.mpr hbl
  have hZ : s.heap.size ≤ s.heap.size ∧ ∀ q : Nat, q < s.heap.size → s.heap[q]? = s.heap[q]? := ⟨Nat.le_refl _, fun _ _ => rfl⟩
  have hok := hm.ok
  refine lv_aload_n hx hb dL_law_412 rfl (lv_at hl 2 rfl) ?_
  refine sc hx hb hX hbl hbA hu.2.2 hL 1 (by omega) (by decide) (lv_at hl 3 rfl) (lv_at hl 0 rfl) dL_law_413 dL_law_414 dL_law_415 dL_law_416 dL_law_417 ?_
  refine sc hx hb hX hbl hbA hu.2.2 hL 2 (by omega) (by decide) (lv_at hl 3 rfl) (lv_at hl 0 rfl) dL_law_418 dL_law_419 dL_law_420 dL_law_421 dL_law_422 ?_
  refine sc hx hb hX hbl hbA hu.2.2 hL 3 (by omega) (by decide) (lv_at hl 3 rfl) (lv_at hl 0 rfl) dL_law_423 dL_law_424 dL_law_425 dL_law_426 dL_law_427 ?_
  refine callR_V (rest := []) hx hb hml hown hts KX_st hK.1 (cX_found l D d B τ ea hs ρ e0 F σ (xs (i + 1)) (xs (i + 2)) (xs (i + 3)) hm) (wL_X_found (rm := rk 8) hts ⟨Nat.le_of_ble_eq_true rfl, Nat.le_of_ble_eq_true rfl⟩) (x_recv hK.1 (va_P_l hu.1)) (va_P_l hu.1) rfl hl.1 rfl (Nat.le_of_ble_eq_true rfl) dL_law_428 ⟨by show cells ≤ 656673; omega, by show slots ≤ 7101508; omega⟩ ?_
  refine lv_aload_n hx hb dL_law_431 rfl (lv_at hl 1 rfl) ?_
  refine sc hx hb hX hbl hbA hu.2.2 hL 1 (by omega) (by decide) (lv_at hl 3 rfl) (lv_at hl 0 rfl) dL_law_432 dL_law_433 dL_law_434 dL_law_435 dL_law_436 ?_
  refine sc hx hb hX hbl hbA hu.2.2 hL 2 (by omega) (by decide) (lv_at hl 3 rfl) (lv_at hl 0 rfl) dL_law_437 dL_law_438 dL_law_439 dL_law_440 dL_law_441 ?_
  refine sc hx hb hX hbl hbA hu.2.2 hL 3 (by omega) (by decide) (lv_at hl 3 rfl) (lv_at hl 0 rfl) dL_law_442 dL_law_443 dL_law_444 dL_law_445 dL_law_446 ?_
  refine callR_V (rest := [.int (_)]) hx hb hml hown hts KM_st hK.1.1 (cM_found l D d q Aq τm σ (xs (i + 1)) (xs (i + 2)) (xs (i + 3)) hM) (wL_M_found (rm := rk 4) hts ⟨Nat.le_of_ble_eq_true rfl, Nat.le_of_ble_eq_true rfl⟩) (m_recv hK.1.1 (va_P_r hu.1)) (va_P_r hu.1) rfl hl.1 rfl (Nat.le_of_ble_eq_true rfl) dL_law_447 ⟨by show cells ≤ 656673; omega, by show slots ≤ 7101508; omega⟩ ?_
  refine lv_icmp_eq (tgt := 1126) hx hb dL_law_450 (by decide) (fun _ => ?_) (fun c0 => absurd rfl c0)
  exact W.widen (by show cells ≤ cells + 9; omega) (by show slots ≤ slots + 1061; omega) (kk σ H locs ⟨_, _, _, _, F, _, hm, hM, hft, hu⟩)
set_option maxHeartbeats 4000000 in
set_option maxRecDepth 100000 in
theorem law_plan (C : lwC p l s m meth c b L xs D d e0) (I : lwI D d e0 s B q Aq σ H locs) (hL : L ≤ 384) (hi : i + 6 ≤ L) (hl : lv_has ls 4 [(3, .int (nI i)), (2, .ref q), (1, .ref (B 0)), (0, .ref b)]) (hcl : cells + 9 ≤ 656673) (hsl : slots + 1061 ≤ 7101508) (kk : ∀ (σ' : ASt) (H1 : Heap) (locs1 : List Loc), lwI D d e0 s B q Aq σ' H1 locs1 → W p l e room_1 s m #[Value.ref b] below meth c H1 locs1 (cells + 9) (slots + 1061) Q (F0 m 1126 ls [])) : W p l e room_1 s m #[Value.ref b] below meth c H locs cells slots Q (F0 m 455 ls []) := by
  obtain ⟨hx, hb, hml, hown, hts, hX, hbl, hK, htr⟩ := C
  obtain ⟨τ, ea, hs, ρ, F, τm, hm, hM, hft, hu⟩ := I
  have hA : ∀ q : Nat, s.heap.size ≤ q → (fun q : Nat => s.heap.size ≤ q) q := fun _ h => h
  have hbA : ¬ (fun q : Nat => s.heap.size ≤ q) b := Nat.not_le.mpr hbl
  have hZ : s.heap.size ≤ s.heap.size ∧ ∀ q : Nat, q < s.heap.size → s.heap[q]? = s.heap[q]? := ⟨Nat.le_refl _, fun _ _ => rfl⟩
  have hok := hm.ok
  refine lv_aload_n hx hb dL_law_455 rfl (lv_at hl 2 rfl) ?_
  refine sc hx hb hX hbl hbA hu.2.2 hL 1 (by omega) (by decide) (lv_at hl 3 rfl) (lv_at hl 0 rfl) dL_law_456 dL_law_457 dL_law_458 dL_law_459 dL_law_460 ?_
  refine sc hx hb hX hbl hbA hu.2.2 hL 2 (by omega) (by decide) (lv_at hl 3 rfl) (lv_at hl 0 rfl) dL_law_461 dL_law_462 dL_law_463 dL_law_464 dL_law_465 ?_
  refine sc hx hb hX hbl hbA hu.2.2 hL 3 (by omega) (by decide) (lv_at hl 3 rfl) (lv_at hl 0 rfl) dL_law_466 dL_law_467 dL_law_468 dL_law_469 dL_law_470 ?_
  refine sc hx hb hX hbl hbA hu.2.2 hL 4 (by omega) (by decide) (lv_at hl 3 rfl) (lv_at hl 0 rfl) dL_law_471 dL_law_472 dL_law_473 dL_law_474 dL_law_475 ?_
  refine sc hx hb hX hbl hbA hu.2.2 hL 5 (by omega) (by decide) (lv_at hl 3 rfl) (lv_at hl 0 rfl) dL_law_476 dL_law_477 dL_law_478 dL_law_479 dL_law_480 ?_
  obtain ⟨mk, hc⟩ := xCode.ofW (hts _ q696)
  refine callX_V (own := RL) (C := RX0) (rest := []) hx hb hml hown hts KE_st hK hA hA hZ (cX_fr (cX_plan l D d s.heap B τ ea hs ρ e0 F σ (xs (i + 1)) (xs (i + 2)) (xs (i + 3)) (xs (i + 4)) (xs (i + 5)) htr hm) (mw d q Aq τm)) hc q693 q694 q695 ⟨by decide, by decide, by decide, pdL_X_plan⟩ (Nat.le_of_ble_eq_true rfl) (x_recv hK.1 (va_P_l hu.1)) hu hl.1 rfl (Nat.le_of_ble_eq_true rfl) dL_law_481 ⟨Nat.le_of_ble_eq_true rfl, Nat.le_of_ble_eq_true rfl, by show cells + 4 ≤ 656673; omega, by show slots + 1061 ≤ 7101508; omega⟩ (fun r ws H locs hpo hu => ?_) (fun cls he => absurd he id)
  obtain ⟨wa, rfl, rfl, τ, ea, hs, ρ, F, rfl, hm1⟩ := hpo
  refine lv_aload_n hx hb dL_law_484 rfl (lv_at hl 1 rfl) ?_
  refine sc hx hb hX hbl hbA hu.2.2 hL 1 (by omega) (by decide) (lv_at hl 3 rfl) (lv_at hl 0 rfl) dL_law_485 dL_law_486 dL_law_487 dL_law_488 dL_law_489 ?_
  refine sc hx hb hX hbl hbA hu.2.2 hL 2 (by omega) (by decide) (lv_at hl 3 rfl) (lv_at hl 0 rfl) dL_law_490 dL_law_491 dL_law_492 dL_law_493 dL_law_494 ?_
  refine sc hx hb hX hbl hbA hu.2.2 hL 3 (by omega) (by decide) (lv_at hl 3 rfl) (lv_at hl 0 rfl) dL_law_495 dL_law_496 dL_law_497 dL_law_498 dL_law_499 ?_
  refine sc hx hb hX hbl hbA hu.2.2 hL 4 (by omega) (by decide) (lv_at hl 3 rfl) (lv_at hl 0 rfl) dL_law_500 dL_law_501 dL_law_502 dL_law_503 dL_law_504 ?_
  refine sc hx hb hX hbl hbA hu.2.2 hL 5 (by omega) (by decide) (lv_at hl 3 rfl) (lv_at hl 0 rfl) dL_law_505 dL_law_506 dL_law_507 dL_law_508 dL_law_509 ?_
  have hu := uW_sw hu
  refine callU_V (rest := [.int (_)]) hx hb hml hown hts KM_st hK.1.1 hA hA hZ (cU_fr (cM_plan l D d s.heap q Aq τm σ (xs (i + 1)) (xs (i + 2)) (xs (i + 3)) (xs (i + 4)) (xs (i + 5)) hM) (xw d B τ ea hs ρ)) (wL_M_plan hts ⟨Nat.le_of_ble_eq_true rfl, Nat.le_of_ble_eq_true rfl⟩) (m_recv hK.1.1 (va_P_l hu.1)) hu rfl hl.1 rfl (Nat.le_of_ble_eq_true rfl) dL_law_510 ⟨by show cells + 4 + 0 ≤ 656673; omega, by show slots + 1061 + 0 ≤ 7101508; omega⟩ (fun r ws H locs hpo hu => ?_)
  obtain ⟨wa, rfl, rfl, τm1, rfl, hM1⟩ := hpo
  have hu := uW_sw hu
  refine lv_icmp_eq (tgt := 1126) hx hb dL_law_513 (by decide) (fun _ => ?_) (fun c0 => absurd rfl c0)
  exact W.widen (by show cells + 4 + 0 ≤ cells + 9; omega) (by show slots + 1061 + 0 ≤ slots + 1061; omega) (kk (f_plan σ (xs (i + 1)) (xs (i + 2)) (xs (i + 3)) (xs (i + 4)) (xs (i + 5))).2 H locs ⟨_, _, _, _, F, _, hm1, hM1, fit_plan hft (xs (i + 1)) (xs (i + 2)) (xs (i + 3)) (xs (i + 4)) (xs (i + 5)), hu⟩)
set_option maxHeartbeats 4000000 in
set_option maxRecDepth 100000 in
theorem law_best (C : lwC p l s m meth c b L xs D d e0) (I : lwI D d e0 s B q Aq σ H locs) (hL : L ≤ 384) (hi : i + 6 ≤ L) (hl : lv_has ls 4 [(3, .int (nI i)), (2, .ref q), (1, .ref (B 0)), (0, .ref b)]) (hcl : cells + 9 ≤ 656673) (hsl : slots + 1061 ≤ 7101508) (kk : ∀ (σ' : ASt) (H1 : Heap) (locs1 : List Loc), lwI D d e0 s B q Aq σ' H1 locs1 → W p l e room_1 s m #[Value.ref b] below meth c H1 locs1 (cells + 9) (slots + 1061) Q (F0 m 1126 ls [])) : W p l e room_1 s m #[Value.ref b] below meth c H locs cells slots Q (F0 m 518 ls []) := by
  obtain ⟨hx, hb, hml, hown, hts, hX, hbl, hK, htr⟩ := C
  obtain ⟨τ, ea, hs, ρ, F, τm, hm, hM, hft, hu⟩ := I
  have hA : ∀ q : Nat, s.heap.size ≤ q → (fun q : Nat => s.heap.size ≤ q) q := fun _ h => h
  have hbA : ¬ (fun q : Nat => s.heap.size ≤ q) b := Nat.not_le.mpr hbl
  have hZ : s.heap.size ≤ s.heap.size ∧ ∀ q : Nat, q < s.heap.size → s.heap[q]? = s.heap[q]? := ⟨Nat.le_refl _, fun _ _ => rfl⟩
  have hok := hm.ok
  refine lv_aload_n hx hb dL_law_518 rfl (lv_at hl 2 rfl) ?_
  refine sc hx hb hX hbl hbA hu.2.2 hL 1 (by omega) (by decide) (lv_at hl 3 rfl) (lv_at hl 0 rfl) dL_law_519 dL_law_520 dL_law_521 dL_law_522 dL_law_523 ?_
  refine sc hx hb hX hbl hbA hu.2.2 hL 2 (by omega) (by decide) (lv_at hl 3 rfl) (lv_at hl 0 rfl) dL_law_524 dL_law_525 dL_law_526 dL_law_527 dL_law_528 ?_
  refine callR_V (rest := []) hx hb hml hown hts KX_st hK.1 (cX_best l D d B τ ea hs ρ e0 F σ (xs (i + 1)) (xs (i + 2)) hm) (wL_X_best (rm := rk 9) hts ⟨Nat.le_of_ble_eq_true rfl, Nat.le_of_ble_eq_true rfl⟩) (x_recv hK.1 (va_P_l hu.1)) (va_P_l hu.1) rfl hl.1 rfl (Nat.le_of_ble_eq_true rfl) dL_law_529 ⟨by show cells ≤ 656673; omega, by show slots ≤ 7101508; omega⟩ ?_
  refine lv_aload_n hx hb dL_law_532 rfl (lv_at hl 1 rfl) ?_
  refine sc hx hb hX hbl hbA hu.2.2 hL 1 (by omega) (by decide) (lv_at hl 3 rfl) (lv_at hl 0 rfl) dL_law_533 dL_law_534 dL_law_535 dL_law_536 dL_law_537 ?_
  refine sc hx hb hX hbl hbA hu.2.2 hL 2 (by omega) (by decide) (lv_at hl 3 rfl) (lv_at hl 0 rfl) dL_law_538 dL_law_539 dL_law_540 dL_law_541 dL_law_542 ?_
  refine callR_V (rest := [.int (_)]) hx hb hml hown hts KM_st hK.1.1 (cM_best l D d q Aq τm σ (xs (i + 1)) (xs (i + 2)) hM) (wL_M_best (rm := rk 5) hts ⟨Nat.le_of_ble_eq_true rfl, Nat.le_of_ble_eq_true rfl⟩) (m_recv hK.1.1 (va_P_r hu.1)) (va_P_r hu.1) rfl hl.1 rfl (Nat.le_of_ble_eq_true rfl) dL_law_543 ⟨by show cells ≤ 656673; omega, by show slots ≤ 7101508; omega⟩ ?_
  refine lv_icmp_eq (tgt := 1126) hx hb dL_law_546 (by decide) (fun _ => ?_) (fun c0 => absurd rfl c0)
  exact W.widen (by show cells ≤ cells + 9; omega) (by show slots ≤ slots + 1061; omega) (kk σ H locs ⟨_, _, _, _, F, _, hm, hM, hft, hu⟩)
set_option maxHeartbeats 4000000 in
set_option maxRecDepth 100000 in
theorem law_village (C : lwC p l s m meth c b L xs D d e0) (I : lwI D d e0 s B q Aq σ H locs) (hL : L ≤ 384) (hi : i + 6 ≤ L) (hl : lv_has ls 4 [(3, .int (nI i)), (2, .ref q), (1, .ref (B 0)), (0, .ref b)]) (hcl : cells + 9 ≤ 656673) (hsl : slots + 1061 ≤ 7101508) (kk : ∀ (σ' : ASt) (H1 : Heap) (locs1 : List Loc), lwI D d e0 s B q Aq σ' H1 locs1 → W p l e room_1 s m #[Value.ref b] below meth c H1 locs1 (cells + 9) (slots + 1061) Q (F0 m 1126 ls [])) : W p l e room_1 s m #[Value.ref b] below meth c H locs cells slots Q (F0 m 551 ls []) := by
  obtain ⟨hx, hb, hml, hown, hts, hX, hbl, hK, htr⟩ := C
  obtain ⟨τ, ea, hs, ρ, F, τm, hm, hM, hft, hu⟩ := I
  have hA : ∀ q : Nat, s.heap.size ≤ q → (fun q : Nat => s.heap.size ≤ q) q := fun _ h => h
  have hbA : ¬ (fun q : Nat => s.heap.size ≤ q) b := Nat.not_le.mpr hbl
  have hZ : s.heap.size ≤ s.heap.size ∧ ∀ q : Nat, q < s.heap.size → s.heap[q]? = s.heap[q]? := ⟨Nat.le_refl _, fun _ _ => rfl⟩
  have hok := hm.ok
  refine lv_aload_n hx hb dL_law_551 rfl (lv_at hl 2 rfl) ?_
  refine callR_V (rest := []) hx hb hml hown hts KX_st hK.1 (cX_village l D d B τ ea hs ρ e0 F σ  hm) (wL_X_village (rm := rk 10) hts ⟨Nat.le_of_ble_eq_true rfl, Nat.le_of_ble_eq_true rfl⟩) (x_recv hK.1 (va_P_l hu.1)) (va_P_l hu.1) rfl hl.1 rfl (Nat.le_of_ble_eq_true rfl) dL_law_552 ⟨by show cells ≤ 656673; omega, by show slots ≤ 7101508; omega⟩ ?_
  refine lv_aload_n hx hb dL_law_555 rfl (lv_at hl 1 rfl) ?_
  refine callR_V (rest := [.int (_)]) hx hb hml hown hts KM_st hK.1.1 (cM_village l D d q Aq τm σ  hM) (wL_M_village (rm := rk 6) hts ⟨Nat.le_of_ble_eq_true rfl, Nat.le_of_ble_eq_true rfl⟩) (m_recv hK.1.1 (va_P_r hu.1)) (va_P_r hu.1) rfl hl.1 rfl (Nat.le_of_ble_eq_true rfl) dL_law_556 ⟨by show cells ≤ 656673; omega, by show slots ≤ 7101508; omega⟩ ?_
  refine lv_icmp_eq (tgt := 1126) hx hb dL_law_559 (by decide) (fun _ => ?_) (fun c0 => absurd rfl c0)
  exact W.widen (by show cells ≤ cells + 9; omega) (by show slots ≤ slots + 1061; omega) (kk σ H locs ⟨_, _, _, _, F, _, hm, hM, hft, hu⟩)
set_option maxHeartbeats 4000000 in
set_option maxRecDepth 100000 in
theorem law_smile (C : lwC p l s m meth c b L xs D d e0) (I : lwI D d e0 s B q Aq σ H locs) (hL : L ≤ 384) (hi : i + 6 ≤ L) (hl : lv_has ls 4 [(3, .int (nI i)), (2, .ref q), (1, .ref (B 0)), (0, .ref b)]) (hcl : cells + 9 ≤ 656673) (hsl : slots + 1061 ≤ 7101508) (kk : ∀ (σ' : ASt) (H1 : Heap) (locs1 : List Loc), lwI D d e0 s B q Aq σ' H1 locs1 → W p l e room_1 s m #[Value.ref b] below meth c H1 locs1 (cells + 9) (slots + 1061) Q (F0 m 1126 ls [])) : W p l e room_1 s m #[Value.ref b] below meth c H locs cells slots Q (F0 m 564 ls []) := by
  obtain ⟨hx, hb, hml, hown, hts, hX, hbl, hK, htr⟩ := C
  obtain ⟨τ, ea, hs, ρ, F, τm, hm, hM, hft, hu⟩ := I
  have hA : ∀ q : Nat, s.heap.size ≤ q → (fun q : Nat => s.heap.size ≤ q) q := fun _ h => h
  have hbA : ¬ (fun q : Nat => s.heap.size ≤ q) b := Nat.not_le.mpr hbl
  have hZ : s.heap.size ≤ s.heap.size ∧ ∀ q : Nat, q < s.heap.size → s.heap[q]? = s.heap[q]? := ⟨Nat.le_refl _, fun _ _ => rfl⟩
  have hok := hm.ok
  refine lv_aload_n hx hb dL_law_564 rfl (lv_at hl 2 rfl) ?_
  refine sc hx hb hX hbl hbA hu.2.2 hL 1 (by omega) (by decide) (lv_at hl 3 rfl) (lv_at hl 0 rfl) dL_law_565 dL_law_566 dL_law_567 dL_law_568 dL_law_569 ?_
  refine callR_V (rest := []) hx hb hml hown hts KX_st hK.1 (cX_smile l D d B τ ea hs ρ e0 F σ (xs (i + 1)) hm) (wL_X_smile (rm := rk 10) hts ⟨Nat.le_of_ble_eq_true rfl, Nat.le_of_ble_eq_true rfl⟩) (x_recv hK.1 (va_P_l hu.1)) (va_P_l hu.1) rfl hl.1 rfl (Nat.le_of_ble_eq_true rfl) dL_law_570 ⟨by show cells ≤ 656673; omega, by show slots ≤ 7101508; omega⟩ ?_
  refine lv_aload_n hx hb dL_law_573 rfl (lv_at hl 1 rfl) ?_
  refine sc hx hb hX hbl hbA hu.2.2 hL 1 (by omega) (by decide) (lv_at hl 3 rfl) (lv_at hl 0 rfl) dL_law_574 dL_law_575 dL_law_576 dL_law_577 dL_law_578 ?_
  have hu := uW_sw hu
  refine callU_V (rest := [.int (_)]) hx hb hml hown hts KM_st hK.1.1 hA hA hZ (cU_fr (cM_smile l D d s.heap q Aq τm σ (xs (i + 1)) hM) (xw d B τ ea hs ρ)) (wL_M_smile hts ⟨Nat.le_of_ble_eq_true rfl, Nat.le_of_ble_eq_true rfl⟩) (m_recv hK.1.1 (va_P_l hu.1)) hu rfl hl.1 rfl (Nat.le_of_ble_eq_true rfl) dL_law_579 ⟨by show cells + 0 ≤ 656673; omega, by show slots + 0 ≤ 7101508; omega⟩ (fun r ws H locs hpo hu => ?_)
  obtain ⟨wa, rfl, rfl, τm1, rfl, hM1⟩ := hpo
  have hu := uW_sw hu
  refine lv_icmp_eq (tgt := 1126) hx hb dL_law_582 (by decide) (fun _ => ?_) (fun c0 => absurd rfl c0)
  exact W.widen (by show cells + 0 ≤ cells + 9; omega) (by show slots + 0 ≤ slots + 1061; omega) (kk σ H locs ⟨_, _, _, _, F, _, hm, hM1, hft, hu⟩)
set_option maxHeartbeats 4000000 in
set_option maxRecDepth 100000 in
theorem law_reading (C : lwC p l s m meth c b L xs D d e0) (I : lwI D d e0 s B q Aq σ H locs) (hL : L ≤ 384) (hi : i + 6 ≤ L) (hl : lv_has ls 4 [(3, .int (nI i)), (2, .ref q), (1, .ref (B 0)), (0, .ref b)]) (hcl : cells + 9 ≤ 656673) (hsl : slots + 1061 ≤ 7101508) (kk : ∀ (σ' : ASt) (H1 : Heap) (locs1 : List Loc), lwI D d e0 s B q Aq σ' H1 locs1 → W p l e room_1 s m #[Value.ref b] below meth c H1 locs1 (cells + 9) (slots + 1061) Q (F0 m 1126 ls [])) : W p l e room_1 s m #[Value.ref b] below meth c H locs cells slots Q (F0 m 587 ls []) := by
  obtain ⟨hx, hb, hml, hown, hts, hX, hbl, hK, htr⟩ := C
  obtain ⟨τ, ea, hs, ρ, F, τm, hm, hM, hft, hu⟩ := I
  have hA : ∀ q : Nat, s.heap.size ≤ q → (fun q : Nat => s.heap.size ≤ q) q := fun _ h => h
  have hbA : ¬ (fun q : Nat => s.heap.size ≤ q) b := Nat.not_le.mpr hbl
  have hZ : s.heap.size ≤ s.heap.size ∧ ∀ q : Nat, q < s.heap.size → s.heap[q]? = s.heap[q]? := ⟨Nat.le_refl _, fun _ _ => rfl⟩
  have hok := hm.ok
  refine lv_aload_n hx hb dL_law_587 rfl (lv_at hl 2 rfl) ?_
  refine sc hx hb hX hbl hbA hu.2.2 hL 1 (by omega) (by decide) (lv_at hl 3 rfl) (lv_at hl 0 rfl) dL_law_588 dL_law_589 dL_law_590 dL_law_591 dL_law_592 ?_
  refine sc hx hb hX hbl hbA hu.2.2 hL 2 (by omega) (by decide) (lv_at hl 3 rfl) (lv_at hl 0 rfl) dL_law_593 dL_law_594 dL_law_595 dL_law_596 dL_law_597 ?_
  refine sc hx hb hX hbl hbA hu.2.2 hL 3 (by omega) (by decide) (lv_at hl 3 rfl) (lv_at hl 0 rfl) dL_law_598 dL_law_599 dL_law_600 dL_law_601 dL_law_602 ?_
  refine sc hx hb hX hbl hbA hu.2.2 hL 4 (by omega) (by decide) (lv_at hl 3 rfl) (lv_at hl 0 rfl) dL_law_603 dL_law_604 dL_law_605 dL_law_606 dL_law_607 ?_
  refine bv (tgt := 615) (tg2 := 616) hx hb dL_law_608 dL_law_611 dL_law_612 dL_law_615 (by decide) (by decide) (by decide) (by decide) ?_
  refine callU_V (rest := []) hx hb hml hown hts KX_st hK.1 hA hA hZ (cU_fr (cX_reading l D d s.heap B τ ea hs ρ e0 F σ (xs (i + 1)) (xs (i + 2)) (xs (i + 3)) (bV (xs (i + 4))) hm) (mw d q Aq τm)) (wL_X_reading hts ⟨Nat.le_of_ble_eq_true rfl, Nat.le_of_ble_eq_true rfl⟩) (x_recv hK.1 (va_P_l hu.1)) hu rfl hl.1 rfl (Nat.le_of_ble_eq_true rfl) dL_law_616 ⟨by show cells + 0 ≤ 656673; omega, by show slots + 0 ≤ 7101508; omega⟩ (fun r ws H locs hpo hu => ?_)
  obtain ⟨wa, rfl, rfl, τ, ea, hs, ρ, F, rfl, hm1⟩ := hpo
  refine lv_aload_n hx hb dL_law_619 rfl (lv_at hl 1 rfl) ?_
  refine sc hx hb hX hbl hbA hu.2.2 hL 1 (by omega) (by decide) (lv_at hl 3 rfl) (lv_at hl 0 rfl) dL_law_620 dL_law_621 dL_law_622 dL_law_623 dL_law_624 ?_
  refine sc hx hb hX hbl hbA hu.2.2 hL 2 (by omega) (by decide) (lv_at hl 3 rfl) (lv_at hl 0 rfl) dL_law_625 dL_law_626 dL_law_627 dL_law_628 dL_law_629 ?_
  refine sc hx hb hX hbl hbA hu.2.2 hL 3 (by omega) (by decide) (lv_at hl 3 rfl) (lv_at hl 0 rfl) dL_law_630 dL_law_631 dL_law_632 dL_law_633 dL_law_634 ?_
  refine sc hx hb hX hbl hbA hu.2.2 hL 4 (by omega) (by decide) (lv_at hl 3 rfl) (lv_at hl 0 rfl) dL_law_635 dL_law_636 dL_law_637 dL_law_638 dL_law_639 ?_
  refine bv (tgt := 647) (tg2 := 648) hx hb dL_law_640 dL_law_643 dL_law_644 dL_law_647 (by decide) (by decide) (by decide) (by decide) ?_
  have hu := uW_sw hu
  refine callU_V (rest := [.int (_)]) hx hb hml hown hts KM_st hK.1.1 hA hA hZ (cU_fr (cM_reading l D d s.heap q Aq τm σ (xs (i + 1)) (xs (i + 2)) (xs (i + 3)) (bV (xs (i + 4))) hM) (xw d B τ ea hs ρ)) (wL_M_reading hts ⟨Nat.le_of_ble_eq_true rfl, Nat.le_of_ble_eq_true rfl⟩) (m_recv hK.1.1 (va_P_l hu.1)) hu rfl hl.1 rfl (Nat.le_of_ble_eq_true rfl) dL_law_648 ⟨by show cells + 0 + 0 ≤ 656673; omega, by show slots + 0 + 0 ≤ 7101508; omega⟩ (fun r ws H locs hpo hu => ?_)
  obtain ⟨wa, rfl, rfl, τm1, rfl, hM1⟩ := hpo
  have hu := uW_sw hu
  refine lv_icmp_eq (tgt := 1126) hx hb dL_law_651 (by decide) (fun _ => ?_) (fun c0 => absurd rfl c0)
  exact W.widen (by show cells + 0 + 0 ≤ cells + 9; omega) (by show slots + 0 + 0 ≤ slots + 1061; omega) (kk (f_reading σ (xs (i + 1)) (xs (i + 2)) (xs (i + 3)) (bV (xs (i + 4)))).2 H locs ⟨_, _, _, _, F, _, hm1, hM1, fit_reading hft (xs (i + 1)) (xs (i + 2)) (xs (i + 3)) (bV (xs (i + 4))), hu⟩)
set_option maxHeartbeats 4000000 in
set_option maxRecDepth 100000 in
theorem law_back (C : lwC p l s m meth c b L xs D d e0) (I : lwI D d e0 s B q Aq σ H locs) (hL : L ≤ 384) (hi : i + 6 ≤ L) (hl : lv_has ls 4 [(3, .int (nI i)), (2, .ref q), (1, .ref (B 0)), (0, .ref b)]) (hcl : cells + 9 ≤ 656673) (hsl : slots + 1061 ≤ 7101508) (kk : ∀ (σ' : ASt) (H1 : Heap) (locs1 : List Loc), lwI D d e0 s B q Aq σ' H1 locs1 → W p l e room_1 s m #[Value.ref b] below meth c H1 locs1 (cells + 9) (slots + 1061) Q (F0 m 1126 ls [])) : W p l e room_1 s m #[Value.ref b] below meth c H locs cells slots Q (F0 m 656 ls []) := by
  obtain ⟨hx, hb, hml, hown, hts, hX, hbl, hK, htr⟩ := C
  obtain ⟨τ, ea, hs, ρ, F, τm, hm, hM, hft, hu⟩ := I
  have hA : ∀ q : Nat, s.heap.size ≤ q → (fun q : Nat => s.heap.size ≤ q) q := fun _ h => h
  have hbA : ¬ (fun q : Nat => s.heap.size ≤ q) b := Nat.not_le.mpr hbl
  have hZ : s.heap.size ≤ s.heap.size ∧ ∀ q : Nat, q < s.heap.size → s.heap[q]? = s.heap[q]? := ⟨Nat.le_refl _, fun _ _ => rfl⟩
  have hok := hm.ok
  refine lv_aload_n hx hb dL_law_656 rfl (lv_at hl 2 rfl) ?_
  refine sc hx hb hX hbl hbA hu.2.2 hL 1 (by omega) (by decide) (lv_at hl 3 rfl) (lv_at hl 0 rfl) dL_law_657 dL_law_658 dL_law_659 dL_law_660 dL_law_661 ?_
  refine callU_V (rest := []) hx hb hml hown hts KX_st hK.1 hA hA hZ (cU_fr (cX_back l D d s.heap B τ ea hs ρ e0 F σ (xs (i + 1)) hm) (mw d q Aq τm)) (wL_X_back hts ⟨Nat.le_of_ble_eq_true rfl, Nat.le_of_ble_eq_true rfl⟩) (x_recv hK.1 (va_P_l hu.1)) hu rfl hl.1 rfl (Nat.le_of_ble_eq_true rfl) dL_law_662 ⟨by show cells + 0 ≤ 656673; omega, by show slots + 0 ≤ 7101508; omega⟩ (fun r ws H locs hpo hu => ?_)
  obtain ⟨wa, rfl, rfl, τ, ea, hs, ρ, F, rfl, hm1⟩ := hpo
  refine lv_aload_n hx hb dL_law_665 rfl (lv_at hl 1 rfl) ?_
  refine sc hx hb hX hbl hbA hu.2.2 hL 1 (by omega) (by decide) (lv_at hl 3 rfl) (lv_at hl 0 rfl) dL_law_666 dL_law_667 dL_law_668 dL_law_669 dL_law_670 ?_
  have hu := uW_sw hu
  refine callU_V (rest := [.int (_)]) hx hb hml hown hts KM_st hK.1.1 hA hA hZ (cU_fr (cM_back l D d s.heap q Aq τm σ (xs (i + 1)) hM) (xw d B τ ea hs ρ)) (wL_M_back hts ⟨Nat.le_of_ble_eq_true rfl, Nat.le_of_ble_eq_true rfl⟩) (m_recv hK.1.1 (va_P_l hu.1)) hu rfl hl.1 rfl (Nat.le_of_ble_eq_true rfl) dL_law_671 ⟨by show cells + 0 + 0 ≤ 656673; omega, by show slots + 0 + 0 ≤ 7101508; omega⟩ (fun r ws H locs hpo hu => ?_)
  obtain ⟨wa, rfl, rfl, τm1, rfl, hM1⟩ := hpo
  have hu := uW_sw hu
  refine lv_icmp_eq (tgt := 1126) hx hb dL_law_674 (by decide) (fun _ => ?_) (fun c0 => absurd rfl c0)
  exact W.widen (by show cells + 0 + 0 ≤ cells + 9; omega) (by show slots + 0 + 0 ≤ slots + 1061; omega) (kk (f_back σ (xs (i + 1))).2 H locs ⟨_, _, _, _, F, _, hm1, hM1, fit_back hft (xs (i + 1)), hu⟩)
set_option maxHeartbeats 4000000 in
set_option maxRecDepth 100000 in
theorem law_stays (C : lwC p l s m meth c b L xs D d e0) (I : lwI D d e0 s B q Aq σ H locs) (hL : L ≤ 384) (hi : i + 6 ≤ L) (hl : lv_has ls 4 [(3, .int (nI i)), (2, .ref q), (1, .ref (B 0)), (0, .ref b)]) (hcl : cells + 9 ≤ 656673) (hsl : slots + 1061 ≤ 7101508) (kk : ∀ (σ' : ASt) (H1 : Heap) (locs1 : List Loc), lwI D d e0 s B q Aq σ' H1 locs1 → W p l e room_1 s m #[Value.ref b] below meth c H1 locs1 (cells + 9) (slots + 1061) Q (F0 m 1126 ls [])) : W p l e room_1 s m #[Value.ref b] below meth c H locs cells slots Q (F0 m 679 ls []) := by
  obtain ⟨hx, hb, hml, hown, hts, hX, hbl, hK, htr⟩ := C
  obtain ⟨τ, ea, hs, ρ, F, τm, hm, hM, hft, hu⟩ := I
  have hA : ∀ q : Nat, s.heap.size ≤ q → (fun q : Nat => s.heap.size ≤ q) q := fun _ h => h
  have hbA : ¬ (fun q : Nat => s.heap.size ≤ q) b := Nat.not_le.mpr hbl
  have hZ : s.heap.size ≤ s.heap.size ∧ ∀ q : Nat, q < s.heap.size → s.heap[q]? = s.heap[q]? := ⟨Nat.le_refl _, fun _ _ => rfl⟩
  have hok := hm.ok
  refine lv_aload_n hx hb dL_law_679 rfl (lv_at hl 2 rfl) ?_
  refine sc hx hb hX hbl hbA hu.2.2 hL 1 (by omega) (by decide) (lv_at hl 3 rfl) (lv_at hl 0 rfl) dL_law_680 dL_law_681 dL_law_682 dL_law_683 dL_law_684 ?_
  refine callU_V (rest := []) hx hb hml hown hts KX_st hK.1 hA hA hZ (cU_fr (cX_stays l D d s.heap B τ ea hs ρ e0 F σ (xs (i + 1)) hm) (mw d q Aq τm)) (wL_X_stays hts ⟨Nat.le_of_ble_eq_true rfl, Nat.le_of_ble_eq_true rfl⟩) (x_recv hK.1 (va_P_l hu.1)) hu rfl hl.1 rfl (Nat.le_of_ble_eq_true rfl) dL_law_685 ⟨by show cells + 0 ≤ 656673; omega, by show slots + 0 ≤ 7101508; omega⟩ (fun r ws H locs hpo hu => ?_)
  obtain ⟨wa, rfl, rfl, τ, ea, hs, ρ, F, rfl, hm1⟩ := hpo
  refine lv_aload_n hx hb dL_law_688 rfl (lv_at hl 1 rfl) ?_
  refine sc hx hb hX hbl hbA hu.2.2 hL 1 (by omega) (by decide) (lv_at hl 3 rfl) (lv_at hl 0 rfl) dL_law_689 dL_law_690 dL_law_691 dL_law_692 dL_law_693 ?_
  have hu := uW_sw hu
  refine callU_V (rest := [.int (_)]) hx hb hml hown hts KM_st hK.1.1 hA hA hZ (cU_fr (cM_stays l D d s.heap q Aq τm σ (xs (i + 1)) hM) (xw d B τ ea hs ρ)) (wL_M_stays hts ⟨Nat.le_of_ble_eq_true rfl, Nat.le_of_ble_eq_true rfl⟩) (m_recv hK.1.1 (va_P_l hu.1)) hu rfl hl.1 rfl (Nat.le_of_ble_eq_true rfl) dL_law_694 ⟨by show cells + 0 + 0 ≤ 656673; omega, by show slots + 0 + 0 ≤ 7101508; omega⟩ (fun r ws H locs hpo hu => ?_)
  obtain ⟨wa, rfl, rfl, τm1, rfl, hM1⟩ := hpo
  have hu := uW_sw hu
  refine lv_icmp_eq (tgt := 1126) hx hb dL_law_697 (by decide) (fun _ => ?_) (fun c0 => absurd rfl c0)
  exact W.widen (by show cells + 0 + 0 ≤ cells + 9; omega) (by show slots + 0 + 0 ≤ slots + 1061; omega) (kk σ H locs ⟨_, _, _, _, F, _, hm1, hM1, hft, hu⟩)
set_option maxHeartbeats 4000000 in
set_option maxRecDepth 100000 in
theorem law_kinds (C : lwC p l s m meth c b L xs D d e0) (I : lwI D d e0 s B q Aq σ H locs) (hL : L ≤ 384) (hi : i + 6 ≤ L) (hl : lv_has ls 4 [(3, .int (nI i)), (2, .ref q), (1, .ref (B 0)), (0, .ref b)]) (hcl : cells + 9 ≤ 656673) (hsl : slots + 1061 ≤ 7101508) (kk : ∀ (σ' : ASt) (H1 : Heap) (locs1 : List Loc), lwI D d e0 s B q Aq σ' H1 locs1 → W p l e room_1 s m #[Value.ref b] below meth c H1 locs1 (cells + 9) (slots + 1061) Q (F0 m 1126 ls [])) : W p l e room_1 s m #[Value.ref b] below meth c H locs cells slots Q (F0 m 702 ls []) := by
  obtain ⟨hx, hb, hml, hown, hts, hX, hbl, hK, htr⟩ := C
  obtain ⟨τ, ea, hs, ρ, F, τm, hm, hM, hft, hu⟩ := I
  have hA : ∀ q : Nat, s.heap.size ≤ q → (fun q : Nat => s.heap.size ≤ q) q := fun _ h => h
  have hbA : ¬ (fun q : Nat => s.heap.size ≤ q) b := Nat.not_le.mpr hbl
  have hZ : s.heap.size ≤ s.heap.size ∧ ∀ q : Nat, q < s.heap.size → s.heap[q]? = s.heap[q]? := ⟨Nat.le_refl _, fun _ _ => rfl⟩
  have hok := hm.ok
  refine lv_aload_n hx hb dL_law_702 rfl (lv_at hl 2 rfl) ?_
  refine sc hx hb hX hbl hbA hu.2.2 hL 1 (by omega) (by decide) (lv_at hl 3 rfl) (lv_at hl 0 rfl) dL_law_703 dL_law_704 dL_law_705 dL_law_706 dL_law_707 ?_
  refine callU_V (rest := []) hx hb hml hown hts KX_st hK.1 hA hA hZ (cU_fr (cX_kinds l D d s.heap B τ ea hs ρ e0 F σ (xs (i + 1)) hm) (mw d q Aq τm)) (wL_X_kinds hts ⟨Nat.le_of_ble_eq_true rfl, Nat.le_of_ble_eq_true rfl⟩) (x_recv hK.1 (va_P_l hu.1)) hu rfl hl.1 rfl (Nat.le_of_ble_eq_true rfl) dL_law_708 ⟨by show cells + 0 ≤ 656673; omega, by show slots + 0 ≤ 7101508; omega⟩ (fun r ws H locs hpo hu => ?_)
  obtain ⟨wa, rfl, rfl, τ, ea, hs, ρ, F, rfl, hm1⟩ := hpo
  refine lv_aload_n hx hb dL_law_711 rfl (lv_at hl 1 rfl) ?_
  refine sc hx hb hX hbl hbA hu.2.2 hL 1 (by omega) (by decide) (lv_at hl 3 rfl) (lv_at hl 0 rfl) dL_law_712 dL_law_713 dL_law_714 dL_law_715 dL_law_716 ?_
  have hu := uW_sw hu
  refine callU_V (rest := [.int (_)]) hx hb hml hown hts KM_st hK.1.1 hA hA hZ (cU_fr (cM_kinds l D d s.heap q Aq τm σ (xs (i + 1)) hM) (xw d B τ ea hs ρ)) (wL_M_kinds hts ⟨Nat.le_of_ble_eq_true rfl, Nat.le_of_ble_eq_true rfl⟩) (m_recv hK.1.1 (va_P_l hu.1)) hu rfl hl.1 rfl (Nat.le_of_ble_eq_true rfl) dL_law_717 ⟨by show cells + 0 + 0 ≤ 656673; omega, by show slots + 0 + 0 ≤ 7101508; omega⟩ (fun r ws H locs hpo hu => ?_)
  obtain ⟨wa, rfl, rfl, τm1, rfl, hM1⟩ := hpo
  have hu := uW_sw hu
  refine lv_icmp_eq (tgt := 1126) hx hb dL_law_720 (by decide) (fun _ => ?_) (fun c0 => absurd rfl c0)
  exact W.widen (by show cells + 0 + 0 ≤ cells + 9; omega) (by show slots + 0 + 0 ≤ slots + 1061; omega) (kk σ H locs ⟨_, _, _, _, F, _, hm1, hM1, hft, hu⟩)
set_option maxHeartbeats 4000000 in
set_option maxRecDepth 100000 in
theorem law_sours (C : lwC p l s m meth c b L xs D d e0) (I : lwI D d e0 s B q Aq σ H locs) (hL : L ≤ 384) (hi : i + 6 ≤ L) (hl : lv_has ls 4 [(3, .int (nI i)), (2, .ref q), (1, .ref (B 0)), (0, .ref b)]) (hcl : cells + 9 ≤ 656673) (hsl : slots + 1061 ≤ 7101508) (kk : ∀ (σ' : ASt) (H1 : Heap) (locs1 : List Loc), lwI D d e0 s B q Aq σ' H1 locs1 → W p l e room_1 s m #[Value.ref b] below meth c H1 locs1 (cells + 9) (slots + 1061) Q (F0 m 1126 ls [])) : W p l e room_1 s m #[Value.ref b] below meth c H locs cells slots Q (F0 m 725 ls []) := by
  obtain ⟨hx, hb, hml, hown, hts, hX, hbl, hK, htr⟩ := C
  obtain ⟨τ, ea, hs, ρ, F, τm, hm, hM, hft, hu⟩ := I
  have hA : ∀ q : Nat, s.heap.size ≤ q → (fun q : Nat => s.heap.size ≤ q) q := fun _ h => h
  have hbA : ¬ (fun q : Nat => s.heap.size ≤ q) b := Nat.not_le.mpr hbl
  have hZ : s.heap.size ≤ s.heap.size ∧ ∀ q : Nat, q < s.heap.size → s.heap[q]? = s.heap[q]? := ⟨Nat.le_refl _, fun _ _ => rfl⟩
  have hok := hm.ok
  refine lv_aload_n hx hb dL_law_725 rfl (lv_at hl 2 rfl) ?_
  refine callR_V (rest := []) hx hb hml hown hts KX_st hK.1 (cX_sours l D d B τ ea hs ρ e0 F σ  hm) (wL_X_sours (rm := rk 8) hts ⟨Nat.le_of_ble_eq_true rfl, Nat.le_of_ble_eq_true rfl⟩) (x_recv hK.1 (va_P_l hu.1)) (va_P_l hu.1) rfl hl.1 rfl (Nat.le_of_ble_eq_true rfl) dL_law_726 ⟨by show cells ≤ 656673; omega, by show slots ≤ 7101508; omega⟩ ?_
  refine lv_aload_n hx hb dL_law_729 rfl (lv_at hl 1 rfl) ?_
  have hu := uW_sw hu
  refine callU_V (rest := [.int (_)]) hx hb hml hown hts KM_st hK.1.1 hA hA hZ (cU_fr (cM_sours l D d s.heap q Aq τm σ  hM) (xw d B τ ea hs ρ)) (wL_M_sours hts ⟨Nat.le_of_ble_eq_true rfl, Nat.le_of_ble_eq_true rfl⟩) (m_recv hK.1.1 (va_P_l hu.1)) hu rfl hl.1 rfl (Nat.le_of_ble_eq_true rfl) dL_law_730 ⟨by show cells + 0 ≤ 656673; omega, by show slots + 0 ≤ 7101508; omega⟩ (fun r ws H locs hpo hu => ?_)
  obtain ⟨wa, rfl, rfl, τm1, rfl, hM1⟩ := hpo
  have hu := uW_sw hu
  refine lv_icmp_eq (tgt := 1126) hx hb dL_law_733 (by decide) (fun _ => ?_) (fun c0 => absurd rfl c0)
  exact W.widen (by show cells + 0 ≤ cells + 9; omega) (by show slots + 0 ≤ slots + 1061; omega) (kk σ H locs ⟨_, _, _, _, F, _, hm, hM1, hft, hu⟩)
set_option maxHeartbeats 4000000 in
set_option maxRecDepth 100000 in
theorem law_odds (C : lwC p l s m meth c b L xs D d e0) (I : lwI D d e0 s B q Aq σ H locs) (hL : L ≤ 384) (hi : i + 6 ≤ L) (hl : lv_has ls 4 [(3, .int (nI i)), (2, .ref q), (1, .ref (B 0)), (0, .ref b)]) (hcl : cells + 9 ≤ 656673) (hsl : slots + 1061 ≤ 7101508) (kk : ∀ (σ' : ASt) (H1 : Heap) (locs1 : List Loc), lwI D d e0 s B q Aq σ' H1 locs1 → W p l e room_1 s m #[Value.ref b] below meth c H1 locs1 (cells + 9) (slots + 1061) Q (F0 m 1126 ls [])) : W p l e room_1 s m #[Value.ref b] below meth c H locs cells slots Q (F0 m 738 ls []) := by
  obtain ⟨hx, hb, hml, hown, hts, hX, hbl, hK, htr⟩ := C
  obtain ⟨τ, ea, hs, ρ, F, τm, hm, hM, hft, hu⟩ := I
  have hA : ∀ q : Nat, s.heap.size ≤ q → (fun q : Nat => s.heap.size ≤ q) q := fun _ h => h
  have hbA : ¬ (fun q : Nat => s.heap.size ≤ q) b := Nat.not_le.mpr hbl
  have hZ : s.heap.size ≤ s.heap.size ∧ ∀ q : Nat, q < s.heap.size → s.heap[q]? = s.heap[q]? := ⟨Nat.le_refl _, fun _ _ => rfl⟩
  have hok := hm.ok
  refine lv_aload_n hx hb dL_law_738 rfl (lv_at hl 2 rfl) ?_
  refine sc hx hb hX hbl hbA hu.2.2 hL 1 (by omega) (by decide) (lv_at hl 3 rfl) (lv_at hl 0 rfl) dL_law_739 dL_law_740 dL_law_741 dL_law_742 dL_law_743 ?_
  refine sc hx hb hX hbl hbA hu.2.2 hL 2 (by omega) (by decide) (lv_at hl 3 rfl) (lv_at hl 0 rfl) dL_law_744 dL_law_745 dL_law_746 dL_law_747 dL_law_748 ?_
  refine sc hx hb hX hbl hbA hu.2.2 hL 3 (by omega) (by decide) (lv_at hl 3 rfl) (lv_at hl 0 rfl) dL_law_749 dL_law_750 dL_law_751 dL_law_752 dL_law_753 ?_
  refine callR_V (rest := []) hx hb hml hown hts KX_st hK.1 (cX_odds l D d B τ ea hs ρ e0 F σ (xs (i + 1)) (xs (i + 2)) (xs (i + 3)) hm) (wL_X_odds (rm := rk 7) hts ⟨Nat.le_of_ble_eq_true rfl, Nat.le_of_ble_eq_true rfl⟩) (x_recv hK.1 (va_P_l hu.1)) (va_P_l hu.1) rfl hl.1 rfl (Nat.le_of_ble_eq_true rfl) dL_law_754 ⟨by show cells ≤ 656673; omega, by show slots ≤ 7101508; omega⟩ ?_
  refine lv_aload_n hx hb dL_law_757 rfl (lv_at hl 1 rfl) ?_
  refine sc hx hb hX hbl hbA hu.2.2 hL 1 (by omega) (by decide) (lv_at hl 3 rfl) (lv_at hl 0 rfl) dL_law_758 dL_law_759 dL_law_760 dL_law_761 dL_law_762 ?_
  refine sc hx hb hX hbl hbA hu.2.2 hL 2 (by omega) (by decide) (lv_at hl 3 rfl) (lv_at hl 0 rfl) dL_law_763 dL_law_764 dL_law_765 dL_law_766 dL_law_767 ?_
  refine sc hx hb hX hbl hbA hu.2.2 hL 3 (by omega) (by decide) (lv_at hl 3 rfl) (lv_at hl 0 rfl) dL_law_768 dL_law_769 dL_law_770 dL_law_771 dL_law_772 ?_
  refine callR_V (rest := [.long (_)]) hx hb hml hown hts KM_st hK.1.1 (cM_odds l D d q Aq τm σ (xs (i + 1)) (xs (i + 2)) (xs (i + 3)) hM) (wL_M_odds (rm := rk 2) hts ⟨Nat.le_of_ble_eq_true rfl, Nat.le_of_ble_eq_true rfl⟩) (m_recv hK.1.1 (va_P_r hu.1)) (va_P_r hu.1) rfl hl.1 rfl (Nat.le_of_ble_eq_true rfl) dL_law_773 ⟨by show cells ≤ 656673; omega, by show slots ≤ 7101508; omega⟩ ?_
  refine lc_eq (tgt := 1126) hx hb dL_law_776 dL_law_777 (by decide) (fun _ => ?_) (fun c0 => absurd rfl c0)
  exact W.widen (by show cells ≤ cells + 9; omega) (by show slots ≤ slots + 1061; omega) (kk σ H locs ⟨_, _, _, _, F, _, hm, hM, hft, hu⟩)
set_option maxHeartbeats 4000000 in
set_option maxRecDepth 100000 in
theorem law_sheet (C : lwC p l s m meth c b L xs D d e0) (I : lwI D d e0 s B q Aq σ H locs) (hL : L ≤ 384) (hi : i + 6 ≤ L) (hl : lv_has ls 4 [(3, .int (nI i)), (2, .ref q), (1, .ref (B 0)), (0, .ref b)]) (hcl : cells + 9 ≤ 656673) (hsl : slots + 1061 ≤ 7101508) (kk : ∀ (σ' : ASt) (H1 : Heap) (locs1 : List Loc), lwI D d e0 s B q Aq σ' H1 locs1 → W p l e room_1 s m #[Value.ref b] below meth c H1 locs1 (cells + 9) (slots + 1061) Q (F0 m 1126 ls [])) : W p l e room_1 s m #[Value.ref b] below meth c H locs cells slots Q (F0 m 782 ls []) := by
  obtain ⟨hx, hb, hml, hown, hts, hX, hbl, hK, htr⟩ := C
  obtain ⟨τ, ea, hs, ρ, F, τm, hm, hM, hft, hu⟩ := I
  have hA : ∀ q : Nat, s.heap.size ≤ q → (fun q : Nat => s.heap.size ≤ q) q := fun _ h => h
  have hbA : ¬ (fun q : Nat => s.heap.size ≤ q) b := Nat.not_le.mpr hbl
  have hZ : s.heap.size ≤ s.heap.size ∧ ∀ q : Nat, q < s.heap.size → s.heap[q]? = s.heap[q]? := ⟨Nat.le_refl _, fun _ _ => rfl⟩
  have hok := hm.ok
  refine lv_aload_n hx hb dL_law_782 rfl (lv_at hl 2 rfl) ?_
  refine sc hx hb hX hbl hbA hu.2.2 hL 1 (by omega) (by decide) (lv_at hl 3 rfl) (lv_at hl 0 rfl) dL_law_783 dL_law_784 dL_law_785 dL_law_786 dL_law_787 ?_
  refine sc hx hb hX hbl hbA hu.2.2 hL 2 (by omega) (by decide) (lv_at hl 3 rfl) (lv_at hl 0 rfl) dL_law_788 dL_law_789 dL_law_790 dL_law_791 dL_law_792 ?_
  refine sc hx hb hX hbl hbA hu.2.2 hL 3 (by omega) (by decide) (lv_at hl 3 rfl) (lv_at hl 0 rfl) dL_law_793 dL_law_794 dL_law_795 dL_law_796 dL_law_797 ?_
  obtain ⟨mk, hc⟩ := xCode.ofW (hts _ q774)
  refine callX_V (own := RL) (C := RX0) (rest := []) hx hb hml hown hts KE_st hK hA hA hZ (cX_fr (cX_sheet l D d s.heap B τ ea hs ρ e0 F σ (xs (i + 1)) (xs (i + 2)) (xs (i + 3)) htr hm) (mw d q Aq τm)) hc q771 q772 q773 ⟨by decide, by decide, by decide, pdL_X_sheet⟩ (Nat.le_of_ble_eq_true rfl) (x_recv hK.1 (va_P_l hu.1)) hu hl.1 rfl (Nat.le_of_ble_eq_true rfl) dL_law_798 ⟨Nat.le_of_ble_eq_true rfl, Nat.le_of_ble_eq_true rfl, by show cells + 4 ≤ 656673; omega, by show slots + 1060 ≤ 7101508; omega⟩ (fun r ws H locs hpo hu => ?_) (fun cls he => absurd he id)
  obtain ⟨wa, rfl, rfl, τ, ea, hs, ρ, F, rfl, hm1⟩ := hpo
  refine lv_aload_n hx hb dL_law_801 rfl (lv_at hl 1 rfl) ?_
  refine sc hx hb hX hbl hbA hu.2.2 hL 1 (by omega) (by decide) (lv_at hl 3 rfl) (lv_at hl 0 rfl) dL_law_802 dL_law_803 dL_law_804 dL_law_805 dL_law_806 ?_
  refine sc hx hb hX hbl hbA hu.2.2 hL 2 (by omega) (by decide) (lv_at hl 3 rfl) (lv_at hl 0 rfl) dL_law_807 dL_law_808 dL_law_809 dL_law_810 dL_law_811 ?_
  refine sc hx hb hX hbl hbA hu.2.2 hL 3 (by omega) (by decide) (lv_at hl 3 rfl) (lv_at hl 0 rfl) dL_law_812 dL_law_813 dL_law_814 dL_law_815 dL_law_816 ?_
  have hu := uW_sw hu
  refine callU_V (rest := [.int (_)]) hx hb hml hown hts KM_st hK.1.1 hA hA hZ (cU_fr (cM_sheet l D d s.heap q Aq τm σ (xs (i + 1)) (xs (i + 2)) (xs (i + 3)) hM) (xw d B τ ea hs ρ)) (wL_M_sheet hts ⟨Nat.le_of_ble_eq_true rfl, Nat.le_of_ble_eq_true rfl⟩) (m_recv hK.1.1 (va_P_l hu.1)) hu rfl hl.1 rfl (Nat.le_of_ble_eq_true rfl) dL_law_817 ⟨by show cells + 4 + 0 ≤ 656673; omega, by show slots + 1060 + 0 ≤ 7101508; omega⟩ (fun r ws H locs hpo hu => ?_)
  obtain ⟨wa, rfl, rfl, τm1, rfl, hM1⟩ := hpo
  have hu := uW_sw hu
  refine lv_icmp_eq (tgt := 1126) hx hb dL_law_820 (by decide) (fun _ => ?_) (fun c0 => absurd rfl c0)
  exact W.widen (by show cells + 4 + 0 ≤ cells + 9; omega) (by show slots + 1060 + 0 ≤ slots + 1061; omega) (kk (f_sheet σ (xs (i + 1)) (xs (i + 2)) (xs (i + 3))).2 H locs ⟨_, _, _, _, F, _, hm1, hM1, fit_sheet hft (xs (i + 1)) (xs (i + 2)) (xs (i + 3)), hu⟩)
set_option maxHeartbeats 4000000 in
set_option maxRecDepth 100000 in
theorem law_lose (C : lwC p l s m meth c b L xs D d e0) (I : lwI D d e0 s B q Aq σ H locs) (hL : L ≤ 384) (hi : i + 6 ≤ L) (hl : lv_has ls 4 [(3, .int (nI i)), (2, .ref q), (1, .ref (B 0)), (0, .ref b)]) (hcl : cells + 9 ≤ 656673) (hsl : slots + 1061 ≤ 7101508) (kk : ∀ (σ' : ASt) (H1 : Heap) (locs1 : List Loc), lwI D d e0 s B q Aq σ' H1 locs1 → W p l e room_1 s m #[Value.ref b] below meth c H1 locs1 (cells + 9) (slots + 1061) Q (F0 m 1126 ls [])) : W p l e room_1 s m #[Value.ref b] below meth c H locs cells slots Q (F0 m 825 ls []) := by
  obtain ⟨hx, hb, hml, hown, hts, hX, hbl, hK, htr⟩ := C
  obtain ⟨τ, ea, hs, ρ, F, τm, hm, hM, hft, hu⟩ := I
  have hA : ∀ q : Nat, s.heap.size ≤ q → (fun q : Nat => s.heap.size ≤ q) q := fun _ h => h
  have hbA : ¬ (fun q : Nat => s.heap.size ≤ q) b := Nat.not_le.mpr hbl
  have hZ : s.heap.size ≤ s.heap.size ∧ ∀ q : Nat, q < s.heap.size → s.heap[q]? = s.heap[q]? := ⟨Nat.le_refl _, fun _ _ => rfl⟩
  have hok := hm.ok
  refine lv_aload_n hx hb dL_law_825 rfl (lv_at hl 2 rfl) ?_
  refine sc hx hb hX hbl hbA hu.2.2 hL 1 (by omega) (by decide) (lv_at hl 3 rfl) (lv_at hl 0 rfl) dL_law_826 dL_law_827 dL_law_828 dL_law_829 dL_law_830 ?_
  refine callU_V (rest := []) hx hb hml hown hts KX_st hK.1 hA hA hZ (cU_fr (cX_lose l D d s.heap B τ ea hs ρ e0 F σ (xs (i + 1)) hm) (mw d q Aq τm)) (wL_X_lose hts ⟨Nat.le_of_ble_eq_true rfl, Nat.le_of_ble_eq_true rfl⟩) (x_recv hK.1 (va_P_l hu.1)) hu rfl hl.1 rfl (Nat.le_of_ble_eq_true rfl) dL_law_831 ⟨by show cells + 0 ≤ 656673; omega, by show slots + 0 ≤ 7101508; omega⟩ (fun r ws H locs hpo hu => ?_)
  obtain ⟨wa, rfl, rfl, τ, ea, hs, ρ, F, rfl, hm1⟩ := hpo
  refine lv_aload_n hx hb dL_law_834 rfl (lv_at hl 1 rfl) ?_
  refine sc hx hb hX hbl hbA hu.2.2 hL 1 (by omega) (by decide) (lv_at hl 3 rfl) (lv_at hl 0 rfl) dL_law_835 dL_law_836 dL_law_837 dL_law_838 dL_law_839 ?_
  have hu := uW_sw hu
  refine callU_V (rest := [.int (_)]) hx hb hml hown hts KM_st hK.1.1 hA hA hZ (cU_fr (cM_lose l D d s.heap q Aq τm σ (xs (i + 1)) hM) (xw d B τ ea hs ρ)) (wL_M_lose hts ⟨Nat.le_of_ble_eq_true rfl, Nat.le_of_ble_eq_true rfl⟩) (m_recv hK.1.1 (va_P_l hu.1)) hu rfl hl.1 rfl (Nat.le_of_ble_eq_true rfl) dL_law_840 ⟨by show cells + 0 + 0 ≤ 656673; omega, by show slots + 0 + 0 ≤ 7101508; omega⟩ (fun r ws H locs hpo hu => ?_)
  obtain ⟨wa, rfl, rfl, τm1, rfl, hM1⟩ := hpo
  have hu := uW_sw hu
  refine lv_icmp_eq (tgt := 1126) hx hb dL_law_843 (by decide) (fun _ => ?_) (fun c0 => absurd rfl c0)
  exact W.widen (by show cells + 0 + 0 ≤ cells + 9; omega) (by show slots + 0 + 0 ≤ slots + 1061; omega) (kk (f_lose σ (xs (i + 1))).2 H locs ⟨_, _, _, _, F, _, hm1, hM1, fit_lose hft (xs (i + 1)), hu⟩)
set_option maxHeartbeats 4000000 in
set_option maxRecDepth 100000 in
theorem law_put (C : lwC p l s m meth c b L xs D d e0) (I : lwI D d e0 s B q Aq σ H locs) (hL : L ≤ 384) (hi : i + 6 ≤ L) (hl : lv_has ls 4 [(3, .int (nI i)), (2, .ref q), (1, .ref (B 0)), (0, .ref b)]) (hcl : cells + 9 ≤ 656673) (hsl : slots + 1061 ≤ 7101508) (kk : ∀ (σ' : ASt) (H1 : Heap) (locs1 : List Loc), lwI D d e0 s B q Aq σ' H1 locs1 → W p l e room_1 s m #[Value.ref b] below meth c H1 locs1 (cells + 9) (slots + 1061) Q (F0 m 1126 ls [])) : W p l e room_1 s m #[Value.ref b] below meth c H locs cells slots Q (F0 m 848 ls []) := by
  obtain ⟨hx, hb, hml, hown, hts, hX, hbl, hK, htr⟩ := C
  obtain ⟨τ, ea, hs, ρ, F, τm, hm, hM, hft, hu⟩ := I
  have hA : ∀ q : Nat, s.heap.size ≤ q → (fun q : Nat => s.heap.size ≤ q) q := fun _ h => h
  have hbA : ¬ (fun q : Nat => s.heap.size ≤ q) b := Nat.not_le.mpr hbl
  have hZ : s.heap.size ≤ s.heap.size ∧ ∀ q : Nat, q < s.heap.size → s.heap[q]? = s.heap[q]? := ⟨Nat.le_refl _, fun _ _ => rfl⟩
  have hok := hm.ok
  refine lv_aload_n hx hb dL_law_848 rfl (lv_at hl 2 rfl) ?_
  refine sc hx hb hX hbl hbA hu.2.2 hL 1 (by omega) (by decide) (lv_at hl 3 rfl) (lv_at hl 0 rfl) dL_law_849 dL_law_850 dL_law_851 dL_law_852 dL_law_853 ?_
  refine sc hx hb hX hbl hbA hu.2.2 hL 2 (by omega) (by decide) (lv_at hl 3 rfl) (lv_at hl 0 rfl) dL_law_854 dL_law_855 dL_law_856 dL_law_857 dL_law_858 ?_
  refine sc hx hb hX hbl hbA hu.2.2 hL 3 (by omega) (by decide) (lv_at hl 3 rfl) (lv_at hl 0 rfl) dL_law_859 dL_law_860 dL_law_861 dL_law_862 dL_law_863 ?_
  obtain ⟨mk, hc⟩ := xCode.ofW (hts _ q783)
  refine callX_V (own := RL) (C := RX0) (rest := []) hx hb hml hown hts KE_st hK hA hA hZ (cX_fr (cX_put l D d s.heap B τ ea hs ρ e0 F σ (xs (i + 1)) (xs (i + 2)) (xs (i + 3)) htr hm) (mw d q Aq τm)) hc q780 q781 q782 ⟨by decide, by decide, by decide, pdL_X_put⟩ (Nat.le_of_ble_eq_true rfl) (x_recv hK.1 (va_P_l hu.1)) hu hl.1 rfl (Nat.le_of_ble_eq_true rfl) dL_law_864 ⟨Nat.le_of_ble_eq_true rfl, Nat.le_of_ble_eq_true rfl, by show cells + 3 ≤ 656673; omega, by show slots + 1000 ≤ 7101508; omega⟩ (fun r ws H locs hpo hu => ?_) (fun cls he => absurd he id)
  obtain ⟨wa, rfl, rfl, τ, ea, hs, ρ, F, rfl, hm1⟩ := hpo
  refine lv_aload_n hx hb dL_law_867 rfl (lv_at hl 1 rfl) ?_
  refine sc hx hb hX hbl hbA hu.2.2 hL 1 (by omega) (by decide) (lv_at hl 3 rfl) (lv_at hl 0 rfl) dL_law_868 dL_law_869 dL_law_870 dL_law_871 dL_law_872 ?_
  refine sc hx hb hX hbl hbA hu.2.2 hL 2 (by omega) (by decide) (lv_at hl 3 rfl) (lv_at hl 0 rfl) dL_law_873 dL_law_874 dL_law_875 dL_law_876 dL_law_877 ?_
  refine sc hx hb hX hbl hbA hu.2.2 hL 3 (by omega) (by decide) (lv_at hl 3 rfl) (lv_at hl 0 rfl) dL_law_878 dL_law_879 dL_law_880 dL_law_881 dL_law_882 ?_
  have hu := uW_sw hu
  refine callU_V (rest := [.int (_)]) hx hb hml hown hts KM_st hK.1.1 hA hA hZ (cU_fr (cM_put l D d s.heap q Aq τm σ (xs (i + 1)) (xs (i + 2)) (xs (i + 3)) hM) (xw d B τ ea hs ρ)) (wL_M_put hts ⟨Nat.le_of_ble_eq_true rfl, Nat.le_of_ble_eq_true rfl⟩) (m_recv hK.1.1 (va_P_l hu.1)) hu rfl hl.1 rfl (Nat.le_of_ble_eq_true rfl) dL_law_883 ⟨by show cells + 3 + 0 ≤ 656673; omega, by show slots + 1000 + 0 ≤ 7101508; omega⟩ (fun r ws H locs hpo hu => ?_)
  obtain ⟨wa, rfl, rfl, τm1, rfl, hM1⟩ := hpo
  have hu := uW_sw hu
  refine lv_icmp_eq (tgt := 1126) hx hb dL_law_886 (by decide) (fun _ => ?_) (fun c0 => absurd rfl c0)
  exact W.widen (by show cells + 3 + 0 ≤ cells + 9; omega) (by show slots + 1000 + 0 ≤ slots + 1061; omega) (kk (f_put σ (xs (i + 1)) (xs (i + 2)) (xs (i + 3))).2 H locs ⟨_, _, _, _, F, _, hm1, hM1, fit_put hft (xs (i + 1)) (xs (i + 2)) (xs (i + 3)), hu⟩)
set_option maxHeartbeats 4000000 in
set_option maxRecDepth 100000 in
theorem law_cell (C : lwC p l s m meth c b L xs D d e0) (I : lwI D d e0 s B q Aq σ H locs) (hL : L ≤ 384) (hi : i + 6 ≤ L) (hl : lv_has ls 4 [(3, .int (nI i)), (2, .ref q), (1, .ref (B 0)), (0, .ref b)]) (hcl : cells + 9 ≤ 656673) (hsl : slots + 1061 ≤ 7101508) (kk : ∀ (σ' : ASt) (H1 : Heap) (locs1 : List Loc), lwI D d e0 s B q Aq σ' H1 locs1 → W p l e room_1 s m #[Value.ref b] below meth c H1 locs1 (cells + 9) (slots + 1061) Q (F0 m 1126 ls [])) : W p l e room_1 s m #[Value.ref b] below meth c H locs cells slots Q (F0 m 891 ls []) := by
  obtain ⟨hx, hb, hml, hown, hts, hX, hbl, hK, htr⟩ := C
  obtain ⟨τ, ea, hs, ρ, F, τm, hm, hM, hft, hu⟩ := I
  have hA : ∀ q : Nat, s.heap.size ≤ q → (fun q : Nat => s.heap.size ≤ q) q := fun _ h => h
  have hbA : ¬ (fun q : Nat => s.heap.size ≤ q) b := Nat.not_le.mpr hbl
  have hZ : s.heap.size ≤ s.heap.size ∧ ∀ q : Nat, q < s.heap.size → s.heap[q]? = s.heap[q]? := ⟨Nat.le_refl _, fun _ _ => rfl⟩
  have hok := hm.ok
  refine lv_aload_n hx hb dL_law_891 rfl (lv_at hl 2 rfl) ?_
  refine sc hx hb hX hbl hbA hu.2.2 hL 1 (by omega) (by decide) (lv_at hl 3 rfl) (lv_at hl 0 rfl) dL_law_892 dL_law_893 dL_law_894 dL_law_895 dL_law_896 ?_
  refine sc hx hb hX hbl hbA hu.2.2 hL 2 (by omega) (by decide) (lv_at hl 3 rfl) (lv_at hl 0 rfl) dL_law_897 dL_law_898 dL_law_899 dL_law_900 dL_law_901 ?_
  refine sc hx hb hX hbl hbA hu.2.2 hL 3 (by omega) (by decide) (lv_at hl 3 rfl) (lv_at hl 0 rfl) dL_law_902 dL_law_903 dL_law_904 dL_law_905 dL_law_906 ?_
  obtain ⟨mk, hc⟩ := xCode.ofW (hts _ q787)
  refine callX_V (own := RL) (C := RX0) (rest := []) hx hb hml hown hts KE_st hK hA hA hZ (cX_fr (cX_cell l D d s.heap B τ ea hs ρ e0 F σ (xs (i + 1)) (xs (i + 2)) (xs (i + 3)) htr hm) (mw d q Aq τm)) hc q784 q785 q786 ⟨by decide, by decide, by decide, pdL_X_cell⟩ (Nat.le_of_ble_eq_true rfl) (x_recv hK.1 (va_P_l hu.1)) hu hl.1 rfl (Nat.le_of_ble_eq_true rfl) dL_law_907 ⟨Nat.le_of_ble_eq_true rfl, Nat.le_of_ble_eq_true rfl, by show cells + 3 ≤ 656673; omega, by show slots + 1000 ≤ 7101508; omega⟩ (fun r ws H locs hpo hu => ?_) (fun cls he => absurd he id)
  obtain ⟨wa, rfl, rfl, τ, ea, hs, ρ, F, rfl, hm1⟩ := hpo
  refine lv_aload_n hx hb dL_law_910 rfl (lv_at hl 1 rfl) ?_
  refine sc hx hb hX hbl hbA hu.2.2 hL 1 (by omega) (by decide) (lv_at hl 3 rfl) (lv_at hl 0 rfl) dL_law_911 dL_law_912 dL_law_913 dL_law_914 dL_law_915 ?_
  refine sc hx hb hX hbl hbA hu.2.2 hL 2 (by omega) (by decide) (lv_at hl 3 rfl) (lv_at hl 0 rfl) dL_law_916 dL_law_917 dL_law_918 dL_law_919 dL_law_920 ?_
  refine sc hx hb hX hbl hbA hu.2.2 hL 3 (by omega) (by decide) (lv_at hl 3 rfl) (lv_at hl 0 rfl) dL_law_921 dL_law_922 dL_law_923 dL_law_924 dL_law_925 ?_
  have hu := uW_sw hu
  refine callU_V (rest := [.long (_)]) hx hb hml hown hts KM_st hK.1.1 hA hA hZ (cU_fr (cM_cell l D d s.heap q Aq τm σ (xs (i + 1)) (xs (i + 2)) (xs (i + 3)) hM) (xw d B τ ea hs ρ)) (wL_M_cell hts ⟨Nat.le_of_ble_eq_true rfl, Nat.le_of_ble_eq_true rfl⟩) (m_recv hK.1.1 (va_P_l hu.1)) hu rfl hl.1 rfl (Nat.le_of_ble_eq_true rfl) dL_law_926 ⟨by show cells + 3 + 0 ≤ 656673; omega, by show slots + 1000 + 0 ≤ 7101508; omega⟩ (fun r ws H locs hpo hu => ?_)
  obtain ⟨wa, rfl, rfl, τm1, rfl, hM1⟩ := hpo
  have hu := uW_sw hu
  refine lc_eq (tgt := 1126) hx hb dL_law_929 dL_law_930 (by decide) (fun _ => ?_) (fun c0 => absurd rfl c0)
  exact W.widen (by show cells + 3 + 0 ≤ cells + 9; omega) (by show slots + 1000 + 0 ≤ slots + 1061; omega) (kk (f_cell σ (xs (i + 1)) (xs (i + 2)) (xs (i + 3))).2 H locs ⟨_, _, _, _, F, _, hm1, hM1, fit_cell hft (xs (i + 1)) (xs (i + 2)) (xs (i + 3)), hu⟩)
set_option maxHeartbeats 4000000 in
set_option maxRecDepth 100000 in
theorem law_copy (C : lwC p l s m meth c b L xs D d e0) (I : lwI D d e0 s B q Aq σ H locs) (hL : L ≤ 384) (hi : i + 6 ≤ L) (hl : lv_has ls 4 [(3, .int (nI i)), (2, .ref q), (1, .ref (B 0)), (0, .ref b)]) (hcl : cells + 9 ≤ 656673) (hsl : slots + 1061 ≤ 7101508) (kk : ∀ (σ' : ASt) (H1 : Heap) (locs1 : List Loc), lwI D d e0 s B q Aq σ' H1 locs1 → W p l e room_1 s m #[Value.ref b] below meth c H1 locs1 (cells + 9) (slots + 1061) Q (F0 m 1126 ls [])) : W p l e room_1 s m #[Value.ref b] below meth c H locs cells slots Q (F0 m 935 ls []) := by
  obtain ⟨hx, hb, hml, hown, hts, hX, hbl, hK, htr⟩ := C
  obtain ⟨τ, ea, hs, ρ, F, τm, hm, hM, hft, hu⟩ := I
  have hA : ∀ q : Nat, s.heap.size ≤ q → (fun q : Nat => s.heap.size ≤ q) q := fun _ h => h
  have hbA : ¬ (fun q : Nat => s.heap.size ≤ q) b := Nat.not_le.mpr hbl
  have hZ : s.heap.size ≤ s.heap.size ∧ ∀ q : Nat, q < s.heap.size → s.heap[q]? = s.heap[q]? := ⟨Nat.le_refl _, fun _ _ => rfl⟩
  have hok := hm.ok
  refine lv_aload_n hx hb dL_law_935 rfl (lv_at hl 2 rfl) ?_
  refine sc hx hb hX hbl hbA hu.2.2 hL 1 (by omega) (by decide) (lv_at hl 3 rfl) (lv_at hl 0 rfl) dL_law_936 dL_law_937 dL_law_938 dL_law_939 dL_law_940 ?_
  refine sc hx hb hX hbl hbA hu.2.2 hL 2 (by omega) (by decide) (lv_at hl 3 rfl) (lv_at hl 0 rfl) dL_law_941 dL_law_942 dL_law_943 dL_law_944 dL_law_945 ?_
  refine sc hx hb hX hbl hbA hu.2.2 hL 3 (by omega) (by decide) (lv_at hl 3 rfl) (lv_at hl 0 rfl) dL_law_946 dL_law_947 dL_law_948 dL_law_949 dL_law_950 ?_
  refine sc hx hb hX hbl hbA hu.2.2 hL 4 (by omega) (by decide) (lv_at hl 3 rfl) (lv_at hl 0 rfl) dL_law_951 dL_law_952 dL_law_953 dL_law_954 dL_law_955 ?_
  refine sc hx hb hX hbl hbA hu.2.2 hL 5 (by omega) (by decide) (lv_at hl 3 rfl) (lv_at hl 0 rfl) dL_law_956 dL_law_957 dL_law_958 dL_law_959 dL_law_960 ?_
  obtain ⟨mk, hc⟩ := xCode.ofW (hts _ q795)
  refine callX_V (own := RL) (C := RX0) (rest := []) hx hb hml hown hts KE_st hK hA hA hZ (cX_fr (cX_copy l D d s.heap B τ ea hs ρ e0 F σ (xs (i + 1)) (xs (i + 2)) (xs (i + 3)) (xs (i + 4)) (xs (i + 5)) htr hm hft) (mw d q Aq τm)) hc q792 q793 q794 ⟨by decide, by decide, by decide, pdL_X_copy⟩ (Nat.le_of_ble_eq_true rfl) (x_recv hK.1 (va_P_l hu.1)) hu hl.1 rfl (Nat.le_of_ble_eq_true rfl) dL_law_961 ⟨Nat.le_of_ble_eq_true rfl, Nat.le_of_ble_eq_true rfl, by show cells + 3 ≤ 656673; omega, by show slots + 1000 ≤ 7101508; omega⟩ (fun r ws H locs hpo hu => ?_) (fun cls he => absurd he id)
  obtain ⟨wa, rfl, rfl, τ, ea, hs, ρ, F, rfl, hm1⟩ := hpo
  refine lv_aload_n hx hb dL_law_964 rfl (lv_at hl 1 rfl) ?_
  refine sc hx hb hX hbl hbA hu.2.2 hL 1 (by omega) (by decide) (lv_at hl 3 rfl) (lv_at hl 0 rfl) dL_law_965 dL_law_966 dL_law_967 dL_law_968 dL_law_969 ?_
  refine sc hx hb hX hbl hbA hu.2.2 hL 2 (by omega) (by decide) (lv_at hl 3 rfl) (lv_at hl 0 rfl) dL_law_970 dL_law_971 dL_law_972 dL_law_973 dL_law_974 ?_
  refine sc hx hb hX hbl hbA hu.2.2 hL 3 (by omega) (by decide) (lv_at hl 3 rfl) (lv_at hl 0 rfl) dL_law_975 dL_law_976 dL_law_977 dL_law_978 dL_law_979 ?_
  refine sc hx hb hX hbl hbA hu.2.2 hL 4 (by omega) (by decide) (lv_at hl 3 rfl) (lv_at hl 0 rfl) dL_law_980 dL_law_981 dL_law_982 dL_law_983 dL_law_984 ?_
  refine sc hx hb hX hbl hbA hu.2.2 hL 5 (by omega) (by decide) (lv_at hl 3 rfl) (lv_at hl 0 rfl) dL_law_985 dL_law_986 dL_law_987 dL_law_988 dL_law_989 ?_
  have hu := uW_sw hu
  refine callU_V (rest := [.int (_)]) hx hb hml hown hts KM_st hK.1.1 hA hA hZ (cU_fr (cM_copy l D d s.heap q Aq τm σ (xs (i + 1)) (xs (i + 2)) (xs (i + 3)) (xs (i + 4)) (xs (i + 5)) hM) (xw d B τ ea hs ρ)) (wL_M_copy hts ⟨Nat.le_of_ble_eq_true rfl, Nat.le_of_ble_eq_true rfl⟩) (m_recv hK.1.1 (va_P_l hu.1)) hu rfl hl.1 rfl (Nat.le_of_ble_eq_true rfl) dL_law_990 ⟨by show cells + 3 + 0 ≤ 656673; omega, by show slots + 1000 + 0 ≤ 7101508; omega⟩ (fun r ws H locs hpo hu => ?_)
  obtain ⟨wa, rfl, rfl, τm1, rfl, hM1⟩ := hpo
  have hu := uW_sw hu
  refine lv_icmp_eq (tgt := 1126) hx hb dL_law_993 (by decide) (fun _ => ?_) (fun c0 => absurd rfl c0)
  exact W.widen (by show cells + 3 + 0 ≤ cells + 9; omega) (by show slots + 1000 + 0 ≤ slots + 1061; omega) (kk (f_copy σ (xs (i + 1)) (xs (i + 2)) (xs (i + 3)) (xs (i + 4)) (xs (i + 5))).2 H locs ⟨_, _, _, _, F, _, hm1, hM1, fit_copy hok hft (xs (i + 1)) (xs (i + 2)) (xs (i + 3)) (xs (i + 4)) (xs (i + 5)), hu⟩)
set_option maxHeartbeats 4000000 in
set_option maxRecDepth 100000 in
theorem law_tell (C : lwC p l s m meth c b L xs D d e0) (I : lwI D d e0 s B q Aq σ H locs) (hL : L ≤ 384) (hi : i + 6 ≤ L) (hl : lv_has ls 4 [(3, .int (nI i)), (2, .ref q), (1, .ref (B 0)), (0, .ref b)]) (hcl : cells + 9 ≤ 656673) (hsl : slots + 1061 ≤ 7101508) (kk : ∀ (σ' : ASt) (H1 : Heap) (locs1 : List Loc), lwI D d e0 s B q Aq σ' H1 locs1 → W p l e room_1 s m #[Value.ref b] below meth c H1 locs1 (cells + 9) (slots + 1061) Q (F0 m 1126 ls [])) : W p l e room_1 s m #[Value.ref b] below meth c H locs cells slots Q (F0 m 998 ls []) := by
  obtain ⟨hx, hb, hml, hown, hts, hX, hbl, hK, htr⟩ := C
  obtain ⟨τ, ea, hs, ρ, F, τm, hm, hM, hft, hu⟩ := I
  have hA : ∀ q : Nat, s.heap.size ≤ q → (fun q : Nat => s.heap.size ≤ q) q := fun _ h => h
  have hbA : ¬ (fun q : Nat => s.heap.size ≤ q) b := Nat.not_le.mpr hbl
  have hZ : s.heap.size ≤ s.heap.size ∧ ∀ q : Nat, q < s.heap.size → s.heap[q]? = s.heap[q]? := ⟨Nat.le_refl _, fun _ _ => rfl⟩
  have hok := hm.ok
  refine lv_aload_n hx hb dL_law_998 rfl (lv_at hl 2 rfl) ?_
  refine sc hx hb hX hbl hbA hu.2.2 hL 1 (by omega) (by decide) (lv_at hl 3 rfl) (lv_at hl 0 rfl) dL_law_999 dL_law_1000 dL_law_1001 dL_law_1002 dL_law_1003 ?_
  refine callU_V (rest := []) hx hb hml hown hts KX_st hK.1 hA hA hZ (cU_fr (cX_tell l D d s.heap B τ ea hs ρ e0 F σ (xs (i + 1)) hm) (mw d q Aq τm)) (wL_X_tell hts ⟨Nat.le_of_ble_eq_true rfl, Nat.le_of_ble_eq_true rfl⟩) (x_recv hK.1 (va_P_l hu.1)) hu rfl hl.1 rfl (Nat.le_of_ble_eq_true rfl) dL_law_1004 ⟨by show cells + 0 ≤ 656673; omega, by show slots + 0 ≤ 7101508; omega⟩ (fun r ws H locs hpo hu => ?_)
  obtain ⟨wa, rfl, rfl, τ, ea, hs, ρ, F, rfl, hm1⟩ := hpo
  refine lv_aload_n hx hb dL_law_1007 rfl (lv_at hl 1 rfl) ?_
  refine sc hx hb hX hbl hbA hu.2.2 hL 1 (by omega) (by decide) (lv_at hl 3 rfl) (lv_at hl 0 rfl) dL_law_1008 dL_law_1009 dL_law_1010 dL_law_1011 dL_law_1012 ?_
  have hu := uW_sw hu
  refine callU_V (rest := [.int (_)]) hx hb hml hown hts KM_st hK.1.1 hA hA hZ (cU_fr (cM_tell l D d s.heap q Aq τm σ (xs (i + 1)) hM) (xw d B τ ea hs ρ)) (wL_M_tell hts ⟨Nat.le_of_ble_eq_true rfl, Nat.le_of_ble_eq_true rfl⟩) (m_recv hK.1.1 (va_P_l hu.1)) hu rfl hl.1 rfl (Nat.le_of_ble_eq_true rfl) dL_law_1013 ⟨by show cells + 0 + 0 ≤ 656673; omega, by show slots + 0 + 0 ≤ 7101508; omega⟩ (fun r ws H locs hpo hu => ?_)
  obtain ⟨wa, rfl, rfl, τm1, rfl, hM1⟩ := hpo
  have hu := uW_sw hu
  refine lv_icmp_eq (tgt := 1126) hx hb dL_law_1016 (by decide) (fun _ => ?_) (fun c0 => absurd rfl c0)
  exact W.widen (by show cells + 0 + 0 ≤ cells + 9; omega) (by show slots + 0 + 0 ≤ slots + 1061; omega) (kk (f_tell σ (xs (i + 1))).2 H locs ⟨_, _, _, _, F, _, hm1, hM1, fit_tell hft (xs (i + 1)), hu⟩)
set_option maxHeartbeats 4000000 in
set_option maxRecDepth 100000 in
theorem law_sniff (C : lwC p l s m meth c b L xs D d e0) (I : lwI D d e0 s B q Aq σ H locs) (hL : L ≤ 384) (hi : i + 6 ≤ L) (hl : lv_has ls 4 [(3, .int (nI i)), (2, .ref q), (1, .ref (B 0)), (0, .ref b)]) (hcl : cells + 9 ≤ 656673) (hsl : slots + 1061 ≤ 7101508) (kk : ∀ (σ' : ASt) (H1 : Heap) (locs1 : List Loc), lwI D d e0 s B q Aq σ' H1 locs1 → W p l e room_1 s m #[Value.ref b] below meth c H1 locs1 (cells + 9) (slots + 1061) Q (F0 m 1126 ls [])) : W p l e room_1 s m #[Value.ref b] below meth c H locs cells slots Q (F0 m 1021 ls []) := by
  obtain ⟨hx, hb, hml, hown, hts, hX, hbl, hK, htr⟩ := C
  obtain ⟨τ, ea, hs, ρ, F, τm, hm, hM, hft, hu⟩ := I
  have hA : ∀ q : Nat, s.heap.size ≤ q → (fun q : Nat => s.heap.size ≤ q) q := fun _ h => h
  have hbA : ¬ (fun q : Nat => s.heap.size ≤ q) b := Nat.not_le.mpr hbl
  have hZ : s.heap.size ≤ s.heap.size ∧ ∀ q : Nat, q < s.heap.size → s.heap[q]? = s.heap[q]? := ⟨Nat.le_refl _, fun _ _ => rfl⟩
  have hok := hm.ok
  refine lv_aload_n hx hb dL_law_1021 rfl (lv_at hl 2 rfl) ?_
  refine sc hx hb hX hbl hbA hu.2.2 hL 1 (by omega) (by decide) (lv_at hl 3 rfl) (lv_at hl 0 rfl) dL_law_1022 dL_law_1023 dL_law_1024 dL_law_1025 dL_law_1026 ?_
  obtain ⟨mk, hc⟩ := xCode.of (hts _ q844)
  refine callX_V (own := RL) (C := RX0) (rest := []) hx hb hml hown hts KX_st hK.1 hA hA hZ (cX_fr (cX_sniff l D d s.heap B τ ea hs ρ e0 F σ (xs (i + 1)) hm) (mw d q Aq τm)) hc q841 q842 q843 ⟨by decide, by decide, by decide, pdL_X_sniff⟩ (Nat.le_of_ble_eq_true rfl) (x_recv hK.1 (va_P_l hu.1)) hu hl.1 rfl (Nat.le_of_ble_eq_true rfl) dL_law_1027 ⟨Nat.le_of_ble_eq_true rfl, Nat.le_of_ble_eq_true rfl, by show cells + 0 ≤ 656673; omega, by show slots + 0 ≤ 7101508; omega⟩ (fun r ws H locs hpo hu => ?_) (fun cls he => absurd he id)
  obtain ⟨wa, rfl, rfl, τ, ea, hs, ρ, F, rfl, hm1⟩ := hpo
  refine lv_aload_n hx hb dL_law_1030 rfl (lv_at hl 1 rfl) ?_
  refine sc hx hb hX hbl hbA hu.2.2 hL 1 (by omega) (by decide) (lv_at hl 3 rfl) (lv_at hl 0 rfl) dL_law_1031 dL_law_1032 dL_law_1033 dL_law_1034 dL_law_1035 ?_
  have hu := uW_sw hu
  refine callU_V (rest := [.int (_)]) hx hb hml hown hts KM_st hK.1.1 hA hA hZ (cU_fr (cM_sniff l D d s.heap q Aq τm σ (xs (i + 1)) hM) (xw d B τ ea hs ρ)) (wL_M_sniff hts ⟨Nat.le_of_ble_eq_true rfl, Nat.le_of_ble_eq_true rfl⟩) (m_recv hK.1.1 (va_P_l hu.1)) hu rfl hl.1 rfl (Nat.le_of_ble_eq_true rfl) dL_law_1036 ⟨by show cells + 0 + 0 ≤ 656673; omega, by show slots + 0 + 0 ≤ 7101508; omega⟩ (fun r ws H locs hpo hu => ?_)
  obtain ⟨wa, rfl, rfl, τm1, rfl, hM1⟩ := hpo
  have hu := uW_sw hu
  refine lv_icmp_eq (tgt := 1126) hx hb dL_law_1039 (by decide) (fun _ => ?_) (fun c0 => absurd rfl c0)
  exact W.widen (by show cells + 0 + 0 ≤ cells + 9; omega) (by show slots + 0 + 0 ≤ slots + 1061; omega) (kk (f_sniff σ (xs (i + 1))).2 H locs ⟨_, _, _, _, F, _, hm1, hM1, fit_sniff hft (xs (i + 1)), hu⟩)
set_option maxHeartbeats 4000000 in
set_option maxRecDepth 100000 in
theorem law_as (C : lwC p l s m meth c b L xs D d e0) (I : lwI D d e0 s B q Aq σ H locs) (hL : L ≤ 384) (hi : i + 6 ≤ L) (hl : lv_has ls 4 [(3, .int (nI i)), (2, .ref q), (1, .ref (B 0)), (0, .ref b)]) (hcl : cells + 9 ≤ 656673) (hsl : slots + 1061 ≤ 7101508) (kk : ∀ (σ' : ASt) (H1 : Heap) (locs1 : List Loc), lwI D d e0 s B q Aq σ' H1 locs1 → W p l e room_1 s m #[Value.ref b] below meth c H1 locs1 (cells + 9) (slots + 1061) Q (F0 m 1126 ls [])) : W p l e room_1 s m #[Value.ref b] below meth c H locs cells slots Q (F0 m 1044 ls []) := by
  obtain ⟨hx, hb, hml, hown, hts, hX, hbl, hK, htr⟩ := C
  obtain ⟨τ, ea, hs, ρ, F, τm, hm, hM, hft, hu⟩ := I
  have hA : ∀ q : Nat, s.heap.size ≤ q → (fun q : Nat => s.heap.size ≤ q) q := fun _ h => h
  have hbA : ¬ (fun q : Nat => s.heap.size ≤ q) b := Nat.not_le.mpr hbl
  have hZ : s.heap.size ≤ s.heap.size ∧ ∀ q : Nat, q < s.heap.size → s.heap[q]? = s.heap[q]? := ⟨Nat.le_refl _, fun _ _ => rfl⟩
  have hok := hm.ok
  refine lv_aload_n hx hb dL_law_1044 rfl (lv_at hl 2 rfl) ?_
  refine sc hx hb hX hbl hbA hu.2.2 hL 1 (by omega) (by decide) (lv_at hl 3 rfl) (lv_at hl 0 rfl) dL_law_1045 dL_law_1046 dL_law_1047 dL_law_1048 dL_law_1049 ?_
  refine sc hx hb hX hbl hbA hu.2.2 hL 2 (by omega) (by decide) (lv_at hl 3 rfl) (lv_at hl 0 rfl) dL_law_1050 dL_law_1051 dL_law_1052 dL_law_1053 dL_law_1054 ?_
  obtain ⟨mk, hc⟩ := xCode.ofW (hts _ q882)
  refine callX_V (own := RL) (C := RX0) (rest := []) hx hb hml hown hts KE_st hK hA hA hZ (cX_fr (cX_as l D d s.heap B τ ea hs ρ e0 F σ (xs (i + 1)) (xs (i + 2)) htr hm) (mw d q Aq τm)) hc q879 q880 q881 ⟨by decide, by decide, by decide, pdL_X_as⟩ (Nat.le_of_ble_eq_true rfl) (x_recv hK.1 (va_P_l hu.1)) hu hl.1 rfl (Nat.le_of_ble_eq_true rfl) dL_law_1055 ⟨Nat.le_of_ble_eq_true rfl, Nat.le_of_ble_eq_true rfl, by show cells + 3 ≤ 656673; omega, by show slots + 1000 ≤ 7101508; omega⟩ (fun r ws H locs hpo hu => ?_) (fun cls he => absurd he id)
  obtain ⟨wa, rfl, rfl, τ, ea, hs, ρ, F, rfl, hm1⟩ := hpo
  refine lv_aload_n hx hb dL_law_1058 rfl (lv_at hl 1 rfl) ?_
  refine sc hx hb hX hbl hbA hu.2.2 hL 1 (by omega) (by decide) (lv_at hl 3 rfl) (lv_at hl 0 rfl) dL_law_1059 dL_law_1060 dL_law_1061 dL_law_1062 dL_law_1063 ?_
  refine sc hx hb hX hbl hbA hu.2.2 hL 2 (by omega) (by decide) (lv_at hl 3 rfl) (lv_at hl 0 rfl) dL_law_1064 dL_law_1065 dL_law_1066 dL_law_1067 dL_law_1068 ?_
  have hu := uW_sw hu
  refine callU_V (rest := [.int (_)]) hx hb hml hown hts KM_st hK.1.1 hA hA hZ (cU_fr (cM_as l D d s.heap q Aq τm σ (xs (i + 1)) (xs (i + 2)) hM) (xw d B τ ea hs ρ)) (wL_M_as hts ⟨Nat.le_of_ble_eq_true rfl, Nat.le_of_ble_eq_true rfl⟩) (m_recv hK.1.1 (va_P_l hu.1)) hu rfl hl.1 rfl (Nat.le_of_ble_eq_true rfl) dL_law_1069 ⟨by show cells + 3 + 0 ≤ 656673; omega, by show slots + 1000 + 0 ≤ 7101508; omega⟩ (fun r ws H locs hpo hu => ?_)
  obtain ⟨wa, rfl, rfl, τm1, rfl, hM1⟩ := hpo
  have hu := uW_sw hu
  refine lv_icmp_eq (tgt := 1126) hx hb dL_law_1072 (by decide) (fun _ => ?_) (fun c0 => absurd rfl c0)
  exact W.widen (by show cells + 3 + 0 ≤ cells + 9; omega) (by show slots + 1000 + 0 ≤ slots + 1061; omega) (kk (f_as σ (xs (i + 1)) (xs (i + 2))).2 H locs ⟨_, _, _, _, F, _, hm1, hM1, fit_as hft (xs (i + 1)) (xs (i + 2)), hu⟩)
set_option maxHeartbeats 4000000 in
set_option maxRecDepth 100000 in
theorem law_trace (C : lwC p l s m meth c b L xs D d e0) (I : lwI D d e0 s B q Aq σ H locs) (hL : L ≤ 384) (hi : i + 6 ≤ L) (hl : lv_has ls 4 [(3, .int (nI i)), (2, .ref q), (1, .ref (B 0)), (0, .ref b)]) (hcl : cells + 9 ≤ 656673) (hsl : slots + 1061 ≤ 7101508) (kk : ∀ (σ' : ASt) (H1 : Heap) (locs1 : List Loc), lwI D d e0 s B q Aq σ' H1 locs1 → W p l e room_1 s m #[Value.ref b] below meth c H1 locs1 (cells + 9) (slots + 1061) Q (F0 m 1126 ls [])) : W p l e room_1 s m #[Value.ref b] below meth c H locs cells slots Q (F0 m 1077 ls []) := by
  obtain ⟨hx, hb, hml, hown, hts, hX, hbl, hK, htr⟩ := C
  obtain ⟨τ, ea, hs, ρ, F, τm, hm, hM, hft, hu⟩ := I
  have hA : ∀ q : Nat, s.heap.size ≤ q → (fun q : Nat => s.heap.size ≤ q) q := fun _ h => h
  have hbA : ¬ (fun q : Nat => s.heap.size ≤ q) b := Nat.not_le.mpr hbl
  have hZ : s.heap.size ≤ s.heap.size ∧ ∀ q : Nat, q < s.heap.size → s.heap[q]? = s.heap[q]? := ⟨Nat.le_refl _, fun _ _ => rfl⟩
  have hok := hm.ok
  refine lv_aload_n hx hb dL_law_1077 rfl (lv_at hl 2 rfl) ?_
  refine callR_V (rest := []) hx hb hml hown hts KX_st hK.1 (cX_trace l D d B τ ea hs ρ) (wL_X_trace (rm := rk 0) hts ⟨Nat.le_of_ble_eq_true rfl, Nat.le_of_ble_eq_true rfl⟩) (x_recv hK.1 (va_P_l hu.1)) (va_P_l hu.1) rfl hl.1 rfl (Nat.le_of_ble_eq_true rfl) dL_law_1078 ⟨by show cells ≤ 656673; omega, by show slots ≤ 7101508; omega⟩ ?_
  refine top_i (y := aI σ 1) hm.trace ?_
  refine lv_aload_n hx hb dL_law_1081 rfl (lv_at hl 1 rfl) ?_
  refine callR_V (rest := [.int (_)]) hx hb hml hown hts KM_st hK.1.1 (cM_trace l D d q Aq τm σ  hM) (wL_M_trace (rm := rk 0) hts ⟨Nat.le_of_ble_eq_true rfl, Nat.le_of_ble_eq_true rfl⟩) (m_recv hK.1.1 (va_P_r hu.1)) (va_P_r hu.1) rfl hl.1 rfl (Nat.le_of_ble_eq_true rfl) dL_law_1082 ⟨by show cells ≤ 656673; omega, by show slots ≤ 7101508; omega⟩ ?_
  refine lv_icmp_eq (tgt := 1126) hx hb dL_law_1085 (by decide) (fun _ => ?_) (fun c0 => absurd rfl c0)
  exact W.widen (by show cells ≤ cells + 9; omega) (by show slots ≤ slots + 1061; omega) (kk σ H locs ⟨_, _, _, _, F, _, hm, hM, hft, hu⟩)
set_option maxHeartbeats 4000000 in
set_option maxRecDepth 100000 in
theorem law_fault (C : lwC p l s m meth c b L xs D d e0) (I : lwI D d e0 s B q Aq σ H locs) (hL : L ≤ 384) (hi : i + 6 ≤ L) (hl : lv_has ls 4 [(3, .int (nI i)), (2, .ref q), (1, .ref (B 0)), (0, .ref b)]) (hcl : cells + 9 ≤ 656673) (hsl : slots + 1061 ≤ 7101508) (kk : ∀ (σ' : ASt) (H1 : Heap) (locs1 : List Loc), lwI D d e0 s B q Aq σ' H1 locs1 → W p l e room_1 s m #[Value.ref b] below meth c H1 locs1 (cells + 9) (slots + 1061) Q (F0 m 1126 ls [])) : W p l e room_1 s m #[Value.ref b] below meth c H locs cells slots Q (F0 m 1090 ls []) := by
  obtain ⟨hx, hb, hml, hown, hts, hX, hbl, hK, htr⟩ := C
  obtain ⟨τ, ea, hs, ρ, F, τm, hm, hM, hft, hu⟩ := I
  have hA : ∀ q : Nat, s.heap.size ≤ q → (fun q : Nat => s.heap.size ≤ q) q := fun _ h => h
  have hbA : ¬ (fun q : Nat => s.heap.size ≤ q) b := Nat.not_le.mpr hbl
  have hZ : s.heap.size ≤ s.heap.size ∧ ∀ q : Nat, q < s.heap.size → s.heap[q]? = s.heap[q]? := ⟨Nat.le_refl _, fun _ _ => rfl⟩
  have hok := hm.ok
  refine lv_aload_n hx hb dL_law_1090 rfl (lv_at hl 2 rfl) ?_
  refine callR_V (rest := []) hx hb hml hown hts KX_st hK.1 (cX_fault l D d B τ ea hs ρ) (wL_X_fault (rm := rk 0) hts ⟨Nat.le_of_ble_eq_true rfl, Nat.le_of_ble_eq_true rfl⟩) (x_recv hK.1 (va_P_l hu.1)) (va_P_l hu.1) rfl hl.1 rfl (Nat.le_of_ble_eq_true rfl) dL_law_1091 ⟨by show cells ≤ 656673; omega, by show slots ≤ 7101508; omega⟩ ?_
  refine top_i (y := aI σ 0) hm.fault ?_
  refine lv_aload_n hx hb dL_law_1094 rfl (lv_at hl 1 rfl) ?_
  refine callR_V (rest := [.int (_)]) hx hb hml hown hts KM_st hK.1.1 (cM_fault l D d q Aq τm σ  hM) (wL_M_fault (rm := rk 0) hts ⟨Nat.le_of_ble_eq_true rfl, Nat.le_of_ble_eq_true rfl⟩) (m_recv hK.1.1 (va_P_r hu.1)) (va_P_r hu.1) rfl hl.1 rfl (Nat.le_of_ble_eq_true rfl) dL_law_1095 ⟨by show cells ≤ 656673; omega, by show slots ≤ 7101508; omega⟩ ?_
  refine lv_icmp_eq (tgt := 1126) hx hb dL_law_1098 (by decide) (fun _ => ?_) (fun c0 => absurd rfl c0)
  exact W.widen (by show cells ≤ cells + 9; omega) (by show slots ≤ slots + 1061; omega) (kk σ H locs ⟨_, _, _, _, F, _, hm, hM, hft, hu⟩)
set_option maxHeartbeats 4000000 in
set_option maxRecDepth 100000 in
theorem law_many (C : lwC p l s m meth c b L xs D d e0) (I : lwI D d e0 s B q Aq σ H locs) (hL : L ≤ 384) (hi : i + 6 ≤ L) (hl : lv_has ls 4 [(3, .int (nI i)), (2, .ref q), (1, .ref (B 0)), (0, .ref b)]) (hcl : cells + 9 ≤ 656673) (hsl : slots + 1061 ≤ 7101508) (kk : ∀ (σ' : ASt) (H1 : Heap) (locs1 : List Loc), lwI D d e0 s B q Aq σ' H1 locs1 → W p l e room_1 s m #[Value.ref b] below meth c H1 locs1 (cells + 9) (slots + 1061) Q (F0 m 1126 ls [])) : W p l e room_1 s m #[Value.ref b] below meth c H locs cells slots Q (F0 m 1103 ls []) := by
  obtain ⟨hx, hb, hml, hown, hts, hX, hbl, hK, htr⟩ := C
  obtain ⟨τ, ea, hs, ρ, F, τm, hm, hM, hft, hu⟩ := I
  have hA : ∀ q : Nat, s.heap.size ≤ q → (fun q : Nat => s.heap.size ≤ q) q := fun _ h => h
  have hbA : ¬ (fun q : Nat => s.heap.size ≤ q) b := Nat.not_le.mpr hbl
  have hZ : s.heap.size ≤ s.heap.size ∧ ∀ q : Nat, q < s.heap.size → s.heap[q]? = s.heap[q]? := ⟨Nat.le_refl _, fun _ _ => rfl⟩
  have hok := hm.ok
  refine lv_aload_n hx hb dL_law_1103 rfl (lv_at hl 2 rfl) ?_
  refine sc hx hb hX hbl hbA hu.2.2 hL 1 (by omega) (by decide) (lv_at hl 3 rfl) (lv_at hl 0 rfl) dL_law_1104 dL_law_1105 dL_law_1106 dL_law_1107 dL_law_1108 ?_
  refine callR_V (rest := []) hx hb hml hown hts KX_st hK.1 (cX_many l D d B τ ea hs ρ e0 F σ (xs (i + 1)) hm) (wL_X_many (rm := rk 1) hts ⟨Nat.le_of_ble_eq_true rfl, Nat.le_of_ble_eq_true rfl⟩) (x_recv hK.1 (va_P_l hu.1)) (va_P_l hu.1) rfl hl.1 rfl (Nat.le_of_ble_eq_true rfl) dL_law_1109 ⟨by show cells ≤ 656673; omega, by show slots ≤ 7101508; omega⟩ ?_
  refine lv_aload_n hx hb dL_law_1112 rfl (lv_at hl 1 rfl) ?_
  refine sc hx hb hX hbl hbA hu.2.2 hL 1 (by omega) (by decide) (lv_at hl 3 rfl) (lv_at hl 0 rfl) dL_law_1113 dL_law_1114 dL_law_1115 dL_law_1116 dL_law_1117 ?_
  refine callR_V (rest := [.int (_)]) hx hb hml hown hts KM_st hK.1.1 (cM_many l D d q Aq τm σ (xs (i + 1)) hM) (wL_M_many (rm := rk 0) hts ⟨Nat.le_of_ble_eq_true rfl, Nat.le_of_ble_eq_true rfl⟩) (m_recv hK.1.1 (va_P_r hu.1)) (va_P_r hu.1) rfl hl.1 rfl (Nat.le_of_ble_eq_true rfl) dL_law_1118 ⟨by show cells ≤ 656673; omega, by show slots ≤ 7101508; omega⟩ ?_
  refine lv_icmp_eq (tgt := 1126) hx hb dL_law_1121 (by decide) (fun _ => ?_) (fun c0 => absurd rfl c0)
  exact W.widen (by show cells ≤ cells + 9; omega) (by show slots ≤ slots + 1061; omega) (kk σ H locs ⟨_, _, _, _, F, _, hm, hM, hft, hu⟩)
end LC
