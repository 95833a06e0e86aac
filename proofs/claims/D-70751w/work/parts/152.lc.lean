/-! ===== the law: its cases ===== -/
set_option maxRecDepth 100000
section LC
variable {G : gl_T} {k : KX} {hh mc ms : Nat} {post : Outcome → wd_T → Prop} {w : wd_T} {x o i ce sl : Nat} {S : ms_T} {V : fv_T} {Z : fz_T}
set_option maxHeartbeats 1000000 in
theorem lc_row (C : Cx G k cL_law "MoodFareLaw" "law" 4 (some .boolean) hh mc ms post) (hG : GH G) (hE : GE G) (hM : GM G) (hD : GD G) (hS : GS G) {L : Nat} {xs : Nat → Int32} (hB : GB G L xs) (hL5 : L ≤ 512) (hhe : hh = 1390) (hL : LI G w x o S V Z) (hi : i + 8 ≤ L) (b1 : ce + 10752 ≤ mc) (b2 : sl + 77056 ≤ ms) (ih : ∀ w2 S2 V2 Z2 ce2 sl2, LI G w2 x o S2 V2 Z2 → ce2 ≤ ce + 10752 → sl2 ≤ sl + 77056 → J G k w2 [(0, .ref (gl_z G 3)), (1, .ref x), (2, .ref o), (3, .int (nI i))] 1265 [] ce2 sl2) : J G k w [(0, .ref (gl_z G 3)), (1, .ref x), (2, .ref o), (3, .int (nI i))] 180 [] ce sl := by
  have hw := hL.1.2
  have hT := hL.1.1
  have hkV : okT V.2.1 := hw.2.1.2
  have hkS : okT (S.2.2.2 6) := by rw [← hT]; exact hkV
  have h120 : V.1 0 ≤ 120 := by rw [hw.1.1]; exact hw.2.2.2.2.2.2.2.1.1
  obtain ⟨W, hA, hv⟩ := id hL.2.1
  refine j_aload_n C dL_law_180 rfl 1 rfl ?_
  refine j_aload_n C dL_law_181 rfl 0 rfl ?_
  refine j_iload_n C dL_law_182 rfl 3 rfl ?_
  refine j_iconst (v := nI 1) C dL_law_183 rfl ?_
  refine j_iaddN C dL_law_184 ?_
  refine j_sld C hB hL5 (i + 1) rfl (by omega) dL_law_185 ?_
  refine j_aload_n C dL_law_186 rfl 0 rfl ?_
  refine j_iload_n C dL_law_187 rfl 3 rfl ?_
  refine j_iconst (v := nI 2) C dL_law_188 rfl ?_
  refine j_iaddN C dL_law_189 ?_
  refine j_sld C hB hL5 (i + 2) rfl (by omega) dL_law_190 ?_
  refine j_aload_n C dL_law_191 rfl 0 rfl ?_
  refine j_iload_n C dL_law_192 rfl 3 rfl ?_
  refine j_iconst (v := nI 3) C dL_law_193 rfl ?_
  refine j_iaddN C dL_law_194 ?_
  refine j_sld C hB hL5 (i + 3) rfl (by omega) dL_law_195 ?_
  have q := lw_row hL.1 (xs (i + 1)) (xs (i + 2)) (xs (i + 3))
  refine j_in (w := w) C (iv_V C (ci := 0) (Tt := TX0) hA.c0 rfl (Or.inl q296) 3 q293 q294 q295 (by decide +kernel) rfl rfl dL_law_196) (kX0_row G hG w w x (fun σ => σ = o) V Z hL.2.1 hE (xs (i + 1)) (xs (i + 2)) (xs (i + 3)) (fun r V1 => hm_row S (xs (i + 1)) (xs (i + 2)) (xs (i + 3)) (fun r2 S2 => r2 = r ∧ RLw S2 V1)) q.1 q.2.1 q.2.2) (Or.inl q296) (by decide +kernel) (by rw [hhe]; omega) (by rw [hhe]; omega) (Nat.le_of_ble_eq_true rfl) (by omega) (by omega) (fun v w1 h5 => ?_) (fun a w1 h5 => ?_)
  rotate_left
  · obtain ⟨r5, hr5, _⟩ := h5
    cases hr5
  obtain ⟨r, hr5, V1, Z1, hf1, hP⟩ := h5
  cases hr5
  refine j_aload_n C dL_law_199 rfl 2 rfl ?_
  refine j_aload_n C dL_law_200 rfl 0 rfl ?_
  refine j_iload_n C dL_law_201 rfl 3 rfl ?_
  refine j_iconst (v := nI 1) C dL_law_202 rfl ?_
  refine j_iaddN C dL_law_203 ?_
  refine j_sld C hB hL5 (i + 1) rfl (by omega) dL_law_204 ?_
  refine j_aload_n C dL_law_205 rfl 0 rfl ?_
  refine j_iload_n C dL_law_206 rfl 3 rfl ?_
  refine j_iconst (v := nI 2) C dL_law_207 rfl ?_
  refine j_iaddN C dL_law_208 ?_
  refine j_sld C hB hL5 (i + 2) rfl (by omega) dL_law_209 ?_
  refine j_aload_n C dL_law_210 rfl 0 rfl ?_
  refine j_iload_n C dL_law_211 rfl 3 rfl ?_
  refine j_iconst (v := nI 3) C dL_law_212 rfl ?_
  refine j_iaddN C dL_law_213 ?_
  refine j_sld C hB hL5 (i + 3) rfl (by omega) dL_law_214 ?_
  have e1 := (hL.2.2.kept hf1).eq
  rw [e1]
  refine j_callV (w := (mset G w1.1 o S, w1.2)) C (mX4_row G w1.1 w1.2 o S (xs (i + 1)) (xs (i + 2)) (xs (i + 3)) (fun r2 S2 => r2 = r ∧ RLw S2 V1) hP.1 hP.2.1 hP.2.2) pI.ret (ci := 4) (T := TX4) mset_o rfl 3 q1572 q1573 q1574 q73 q1575 (by decide +kernel) rfl (by rw [hhe]; omega) (by rw [hhe]; omega) (Nat.le_of_ble_eq_true rfl) rfl dL_law_215 (by omega) (by omega) (pM.k (fun r2 S2 hP2 => ?_))
  obtain ⟨hr2, hrl⟩ := hP2
  subst hr2
  refine j_icmp_eq C 1265 dL_law_218 (by decide) (fun c218 => ?_) (fun c218 => ?_)
  · exact ih _ _ _ _ _ _ (hL.next hf1 hrl) (by omega) (by omega)
  · exact absurd rfl c218
set_option maxHeartbeats 1000000 in
theorem lc_set (C : Cx G k cL_law "MoodFareLaw" "law" 4 (some .boolean) hh mc ms post) (hG : GH G) (hE : GE G) (hM : GM G) (hD : GD G) (hS : GS G) {L : Nat} {xs : Nat → Int32} (hB : GB G L xs) (hL5 : L ≤ 512) (hhe : hh = 1390) (hL : LI G w x o S V Z) (hi : i + 8 ≤ L) (b1 : ce + 10752 ≤ mc) (b2 : sl + 77056 ≤ ms) (ih : ∀ w2 S2 V2 Z2 ce2 sl2, LI G w2 x o S2 V2 Z2 → ce2 ≤ ce + 10752 → sl2 ≤ sl + 77056 → J G k w2 [(0, .ref (gl_z G 3)), (1, .ref x), (2, .ref o), (3, .int (nI i))] 1265 [] ce2 sl2) : J G k w [(0, .ref (gl_z G 3)), (1, .ref x), (2, .ref o), (3, .int (nI i))] 223 [] ce sl := by
  have hw := hL.1.2
  have hT := hL.1.1
  have hkV : okT V.2.1 := hw.2.1.2
  have hkS : okT (S.2.2.2 6) := by rw [← hT]; exact hkV
  have h120 : V.1 0 ≤ 120 := by rw [hw.1.1]; exact hw.2.2.2.2.2.2.2.1.1
  obtain ⟨W, hA, hv⟩ := id hL.2.1
  refine j_aload_n C dL_law_223 rfl 1 rfl ?_
  refine j_aload_n C dL_law_224 rfl 0 rfl ?_
  refine j_iload_n C dL_law_225 rfl 3 rfl ?_
  refine j_iconst (v := nI 1) C dL_law_226 rfl ?_
  refine j_iaddN C dL_law_227 ?_
  refine j_sld C hB hL5 (i + 1) rfl (by omega) dL_law_228 ?_
  refine j_aload_n C dL_law_229 rfl 0 rfl ?_
  refine j_iload_n C dL_law_230 rfl 3 rfl ?_
  refine j_iconst (v := nI 2) C dL_law_231 rfl ?_
  refine j_iaddN C dL_law_232 ?_
  refine j_sld C hB hL5 (i + 2) rfl (by omega) dL_law_233 ?_
  refine j_aload_n C dL_law_234 rfl 0 rfl ?_
  refine j_iload_n C dL_law_235 rfl 3 rfl ?_
  refine j_iconst (v := nI 3) C dL_law_236 rfl ?_
  refine j_iaddN C dL_law_237 ?_
  refine j_sld C hB hL5 (i + 3) rfl (by omega) dL_law_238 ?_
  have q := lw_set hL.1 (xs (i + 1)) (xs (i + 2)) (xs (i + 3))
  refine j_in (w := w) C (iv_V C (ci := 0) (Tt := TX0) hA.c0 rfl (Or.inl q408) 3 q405 q406 q407 (by decide +kernel) rfl rfl dL_law_239) (kX0_set G hG w w x (fun σ => σ = o) V Z hL.2.1 hE (xs (i + 1)) (xs (i + 2)) (xs (i + 3)) (fun r V1 => hm_set S (xs (i + 1)) (xs (i + 2)) (xs (i + 3)) (fun r2 S2 => r2 = r ∧ RLw S2 V1)) q.1 q.2.1 q.2.2.1 q.2.2.2) (Or.inl q408) (by decide +kernel) (by rw [hhe]; omega) (by rw [hhe]; omega) (Nat.le_of_ble_eq_true rfl) (by omega) (by omega) (fun v w1 h5 => ?_) (fun a w1 h5 => ?_)
  rotate_left
  · obtain ⟨r5, hr5, _⟩ := h5
    cases hr5
  obtain ⟨r, hr5, V1, Z1, hf1, hP⟩ := h5
  cases hr5
  refine j_aload_n C dL_law_242 rfl 2 rfl ?_
  refine j_aload_n C dL_law_243 rfl 0 rfl ?_
  refine j_iload_n C dL_law_244 rfl 3 rfl ?_
  refine j_iconst (v := nI 1) C dL_law_245 rfl ?_
  refine j_iaddN C dL_law_246 ?_
  refine j_sld C hB hL5 (i + 1) rfl (by omega) dL_law_247 ?_
  refine j_aload_n C dL_law_248 rfl 0 rfl ?_
  refine j_iload_n C dL_law_249 rfl 3 rfl ?_
  refine j_iconst (v := nI 2) C dL_law_250 rfl ?_
  refine j_iaddN C dL_law_251 ?_
  refine j_sld C hB hL5 (i + 2) rfl (by omega) dL_law_252 ?_
  refine j_aload_n C dL_law_253 rfl 0 rfl ?_
  refine j_iload_n C dL_law_254 rfl 3 rfl ?_
  refine j_iconst (v := nI 3) C dL_law_255 rfl ?_
  refine j_iaddN C dL_law_256 ?_
  refine j_sld C hB hL5 (i + 3) rfl (by omega) dL_law_257 ?_
  have e1 := (hL.2.2.kept hf1).eq
  rw [e1]
  refine j_callV (w := (mset G w1.1 o S, w1.2)) C (mX4_set G w1.1 w1.2 o S (xs (i + 1)) (xs (i + 2)) (xs (i + 3)) hw.2.2.2.2.2.2.2.2.2.2.2.1 (fun r2 S2 => r2 = r ∧ RLw S2 V1) hP.1 hP.2.1 hP.2.2.1 hP.2.2.2) pI.ret (ci := 4) (T := TX4) mset_o rfl 3 q1592 q1593 q1594 q73 q1595 (by decide +kernel) rfl (by rw [hhe]; omega) (by rw [hhe]; omega) (Nat.le_of_ble_eq_true rfl) rfl dL_law_258 (by omega) (by omega) (pM.k (fun r2 S2 hP2 => ?_))
  obtain ⟨hr2, hrl⟩ := hP2
  subst hr2
  refine j_icmp_eq C 1265 dL_law_261 (by decide) (fun c261 => ?_) (fun c261 => ?_)
  · exact ih _ _ _ _ _ _ (hL.next hf1 hrl) (by omega) (by omega)
  · exact absurd rfl c261
set_option maxHeartbeats 1000000 in
theorem lc_copy (C : Cx G k cL_law "MoodFareLaw" "law" 4 (some .boolean) hh mc ms post) (hG : GH G) (hE : GE G) (hM : GM G) (hD : GD G) (hS : GS G) {L : Nat} {xs : Nat → Int32} (hB : GB G L xs) (hL5 : L ≤ 512) (hhe : hh = 1390) (hL : LI G w x o S V Z) (hi : i + 8 ≤ L) (b1 : ce + 10752 ≤ mc) (b2 : sl + 77056 ≤ ms) (ih : ∀ w2 S2 V2 Z2 ce2 sl2, LI G w2 x o S2 V2 Z2 → ce2 ≤ ce + 10752 → sl2 ≤ sl + 77056 → J G k w2 [(0, .ref (gl_z G 3)), (1, .ref x), (2, .ref o), (3, .int (nI i))] 1265 [] ce2 sl2) : J G k w [(0, .ref (gl_z G 3)), (1, .ref x), (2, .ref o), (3, .int (nI i))] 266 [] ce sl := by
  have hw := hL.1.2
  have hT := hL.1.1
  have hkV : okT V.2.1 := hw.2.1.2
  have hkS : okT (S.2.2.2 6) := by rw [← hT]; exact hkV
  have h120 : V.1 0 ≤ 120 := by rw [hw.1.1]; exact hw.2.2.2.2.2.2.2.1.1
  obtain ⟨W, hA, hv⟩ := id hL.2.1
  refine j_aload_n C dL_law_266 rfl 1 rfl ?_
  refine j_aload_n C dL_law_267 rfl 0 rfl ?_
  refine j_iload_n C dL_law_268 rfl 3 rfl ?_
  refine j_iconst (v := nI 1) C dL_law_269 rfl ?_
  refine j_iaddN C dL_law_270 ?_
  refine j_sld C hB hL5 (i + 1) rfl (by omega) dL_law_271 ?_
  refine j_aload_n C dL_law_272 rfl 0 rfl ?_
  refine j_iload_n C dL_law_273 rfl 3 rfl ?_
  refine j_iconst (v := nI 2) C dL_law_274 rfl ?_
  refine j_iaddN C dL_law_275 ?_
  refine j_sld C hB hL5 (i + 2) rfl (by omega) dL_law_276 ?_
  refine j_aload_n C dL_law_277 rfl 0 rfl ?_
  refine j_iload_n C dL_law_278 rfl 3 rfl ?_
  refine j_iconst (v := nI 3) C dL_law_279 rfl ?_
  refine j_iaddN C dL_law_280 ?_
  refine j_sld C hB hL5 (i + 3) rfl (by omega) dL_law_281 ?_
  refine j_aload_n C dL_law_282 rfl 0 rfl ?_
  refine j_iload_n C dL_law_283 rfl 3 rfl ?_
  refine j_iconst (v := nI 4) C dL_law_284 rfl ?_
  refine j_iaddN C dL_law_285 ?_
  refine j_sld C hB hL5 (i + 4) rfl (by omega) dL_law_286 ?_
  refine j_aload_n C dL_law_287 rfl 0 rfl ?_
  refine j_iload_n C dL_law_288 rfl 3 rfl ?_
  refine j_iconst (v := nI 5) C dL_law_289 rfl ?_
  refine j_iaddN C dL_law_290 ?_
  refine j_sld C hB hL5 (i + 5) rfl (by omega) dL_law_291 ?_
  have q := lw_copy hL.1 (xs (i + 1)) (xs (i + 2)) (xs (i + 3)) (xs (i + 4)) (xs (i + 5))
  refine j_in (w := w) C (iv_V C (ci := 0) (Tt := TX0) hA.c0 rfl (Or.inl q467) 5 q464 q465 q466 (by decide +kernel) rfl rfl dL_law_292) (kX0_copy G hG w w x (fun σ => σ = o) V Z hL.2.1 hE (xs (i + 1)) (xs (i + 2)) (xs (i + 3)) (xs (i + 4)) (xs (i + 5)) (fun j l n f hj e => (hw.r_s hj e).2.2.2.2.2.2) (fun r V1 => hm_copy S (xs (i + 1)) (xs (i + 2)) (xs (i + 3)) (xs (i + 4)) (xs (i + 5)) (fun r2 S2 => r2 = r ∧ RLw S2 V1)) q.1 q.2.1 q.2.2.1 q.2.2.2.1 q.2.2.2.2) (Or.inl q467) (by decide +kernel) (by rw [hhe]; omega) (by rw [hhe]; omega) (Nat.le_of_ble_eq_true rfl) (by omega) (by omega) (fun v w1 h5 => ?_) (fun a w1 h5 => ?_)
  rotate_left
  · obtain ⟨r5, hr5, _⟩ := h5
    cases hr5
  obtain ⟨r, hr5, V1, Z1, hf1, hP⟩ := h5
  cases hr5
  refine j_aload_n C dL_law_295 rfl 2 rfl ?_
  refine j_aload_n C dL_law_296 rfl 0 rfl ?_
  refine j_iload_n C dL_law_297 rfl 3 rfl ?_
  refine j_iconst (v := nI 1) C dL_law_298 rfl ?_
  refine j_iaddN C dL_law_299 ?_
  refine j_sld C hB hL5 (i + 1) rfl (by omega) dL_law_300 ?_
  refine j_aload_n C dL_law_301 rfl 0 rfl ?_
  refine j_iload_n C dL_law_302 rfl 3 rfl ?_
  refine j_iconst (v := nI 2) C dL_law_303 rfl ?_
  refine j_iaddN C dL_law_304 ?_
  refine j_sld C hB hL5 (i + 2) rfl (by omega) dL_law_305 ?_
  refine j_aload_n C dL_law_306 rfl 0 rfl ?_
  refine j_iload_n C dL_law_307 rfl 3 rfl ?_
  refine j_iconst (v := nI 3) C dL_law_308 rfl ?_
  refine j_iaddN C dL_law_309 ?_
  refine j_sld C hB hL5 (i + 3) rfl (by omega) dL_law_310 ?_
  refine j_aload_n C dL_law_311 rfl 0 rfl ?_
  refine j_iload_n C dL_law_312 rfl 3 rfl ?_
  refine j_iconst (v := nI 4) C dL_law_313 rfl ?_
  refine j_iaddN C dL_law_314 ?_
  refine j_sld C hB hL5 (i + 4) rfl (by omega) dL_law_315 ?_
  refine j_aload_n C dL_law_316 rfl 0 rfl ?_
  refine j_iload_n C dL_law_317 rfl 3 rfl ?_
  refine j_iconst (v := nI 5) C dL_law_318 rfl ?_
  refine j_iaddN C dL_law_319 ?_
  refine j_sld C hB hL5 (i + 5) rfl (by omega) dL_law_320 ?_
  have e1 := (hL.2.2.kept hf1).eq
  rw [e1]
  refine j_callV (w := (mset G w1.1 o S, w1.2)) C (mX4_copy G w1.1 w1.2 o S (xs (i + 1)) (xs (i + 2)) (xs (i + 3)) (xs (i + 4)) (xs (i + 5)) hw.2.2.2.2.2.2.2.2.2.2.2.1 (fun r2 S2 => r2 = r ∧ RLw S2 V1) hP.1 hP.2.1 hP.2.2.1 hP.2.2.2.1 hP.2.2.2.2) pI.ret (ci := 4) (T := TX4) mset_o rfl 5 q1603 q1604 q1605 q73 q1606 (by decide +kernel) rfl (by rw [hhe]; omega) (by rw [hhe]; omega) (Nat.le_of_ble_eq_true rfl) rfl dL_law_321 (by omega) (by omega) (pM.k (fun r2 S2 hP2 => ?_))
  obtain ⟨hr2, hrl⟩ := hP2
  subst hr2
  refine j_icmp_eq C 1265 dL_law_324 (by decide) (fun c324 => ?_) (fun c324 => ?_)
  · exact ih _ _ _ _ _ _ (hL.next hf1 hrl) (by omega) (by omega)
  · exact absurd rfl c324
set_option maxHeartbeats 1000000 in
theorem lc_drop (C : Cx G k cL_law "MoodFareLaw" "law" 4 (some .boolean) hh mc ms post) (hG : GH G) (hE : GE G) (hM : GM G) (hD : GD G) (hS : GS G) {L : Nat} {xs : Nat → Int32} (hB : GB G L xs) (hL5 : L ≤ 512) (hhe : hh = 1390) (hL : LI G w x o S V Z) (hi : i + 8 ≤ L) (b1 : ce + 10752 ≤ mc) (b2 : sl + 77056 ≤ ms) (ih : ∀ w2 S2 V2 Z2 ce2 sl2, LI G w2 x o S2 V2 Z2 → ce2 ≤ ce + 10752 → sl2 ≤ sl + 77056 → J G k w2 [(0, .ref (gl_z G 3)), (1, .ref x), (2, .ref o), (3, .int (nI i))] 1265 [] ce2 sl2) : J G k w [(0, .ref (gl_z G 3)), (1, .ref x), (2, .ref o), (3, .int (nI i))] 329 [] ce sl := by
  have hw := hL.1.2
  have hT := hL.1.1
  have hkV : okT V.2.1 := hw.2.1.2
  have hkS : okT (S.2.2.2 6) := by rw [← hT]; exact hkV
  have h120 : V.1 0 ≤ 120 := by rw [hw.1.1]; exact hw.2.2.2.2.2.2.2.1.1
  obtain ⟨W, hA, hv⟩ := id hL.2.1
  refine j_aload_n C dL_law_329 rfl 1 rfl ?_
  refine j_aload_n C dL_law_330 rfl 0 rfl ?_
  refine j_iload_n C dL_law_331 rfl 3 rfl ?_
  refine j_iconst (v := nI 1) C dL_law_332 rfl ?_
  refine j_iaddN C dL_law_333 ?_
  refine j_sld C hB hL5 (i + 1) rfl (by omega) dL_law_334 ?_
  have q := lw_drop hL.1 (xs (i + 1))
  refine j_in (w := w) C (iv_V C (ci := 0) (Tt := TX0) hA.c0 rfl (Or.inl q489) 1 q486 q487 q488 (by decide +kernel) rfl rfl dL_law_335) (kX0_drop G hG w w x (fun σ => σ = o) V Z hL.2.1 hE (xs (i + 1)) (fun r V1 => hm_drop S (xs (i + 1)) (fun r2 S2 => r2 = r ∧ RLw S2 V1)) q.1 q.2.1 q.2.2) (Or.inl q489) (by decide +kernel) (by rw [hhe]; omega) (by rw [hhe]; omega) (Nat.le_of_ble_eq_true rfl) (by omega) (by omega) (fun v w1 h5 => ?_) (fun a w1 h5 => ?_)
  rotate_left
  · obtain ⟨r5, hr5, _⟩ := h5
    cases hr5
  obtain ⟨r, hr5, V1, Z1, hf1, hP⟩ := h5
  cases hr5
  refine j_aload_n C dL_law_338 rfl 2 rfl ?_
  refine j_aload_n C dL_law_339 rfl 0 rfl ?_
  refine j_iload_n C dL_law_340 rfl 3 rfl ?_
  refine j_iconst (v := nI 1) C dL_law_341 rfl ?_
  refine j_iaddN C dL_law_342 ?_
  refine j_sld C hB hL5 (i + 1) rfl (by omega) dL_law_343 ?_
  have e1 := (hL.2.2.kept hf1).eq
  rw [e1]
  refine j_callV (w := (mset G w1.1 o S, w1.2)) C (mX4_drop G w1.1 w1.2 o S (xs (i + 1)) (fun r2 S2 => r2 = r ∧ RLw S2 V1) hP.1 hP.2.1 hP.2.2) pI.ret (ci := 4) (T := TX4) mset_o rfl 1 q1611 q1612 q1613 q73 q1614 (by decide +kernel) rfl (by rw [hhe]; omega) (by rw [hhe]; omega) (Nat.le_of_ble_eq_true rfl) rfl dL_law_344 (by omega) (by omega) (pM.k (fun r2 S2 hP2 => ?_))
  obtain ⟨hr2, hrl⟩ := hP2
  subst hr2
  refine j_icmp_eq C 1265 dL_law_347 (by decide) (fun c347 => ?_) (fun c347 => ?_)
  · exact ih _ _ _ _ _ _ (hL.next hf1 hrl) (by omega) (by omega)
  · exact absurd rfl c347
set_option maxHeartbeats 1000000 in
theorem lc_feed (C : Cx G k cL_law "MoodFareLaw" "law" 4 (some .boolean) hh mc ms post) (hG : GH G) (hE : GE G) (hM : GM G) (hD : GD G) (hS : GS G) {L : Nat} {xs : Nat → Int32} (hB : GB G L xs) (hL5 : L ≤ 512) (hhe : hh = 1390) (hL : LI G w x o S V Z) (hi : i + 8 ≤ L) (b1 : ce + 10752 ≤ mc) (b2 : sl + 77056 ≤ ms) (ih : ∀ w2 S2 V2 Z2 ce2 sl2, LI G w2 x o S2 V2 Z2 → ce2 ≤ ce + 10752 → sl2 ≤ sl + 77056 → J G k w2 [(0, .ref (gl_z G 3)), (1, .ref x), (2, .ref o), (3, .int (nI i))] 1265 [] ce2 sl2) : J G k w [(0, .ref (gl_z G 3)), (1, .ref x), (2, .ref o), (3, .int (nI i))] 352 [] ce sl := by
  have hw := hL.1.2
  have hT := hL.1.1
  have hkV : okT V.2.1 := hw.2.1.2
  have hkS : okT (S.2.2.2 6) := by rw [← hT]; exact hkV
  have h120 : V.1 0 ≤ 120 := by rw [hw.1.1]; exact hw.2.2.2.2.2.2.2.1.1
  obtain ⟨W, hA, hv⟩ := id hL.2.1
  refine j_aload_n C dL_law_352 rfl 1 rfl ?_
  refine j_aload_n C dL_law_353 rfl 0 rfl ?_
  refine j_iload_n C dL_law_354 rfl 3 rfl ?_
  refine j_iconst (v := nI 1) C dL_law_355 rfl ?_
  refine j_iaddN C dL_law_356 ?_
  refine j_sld C hB hL5 (i + 1) rfl (by omega) dL_law_357 ?_
  have q := lw_feed hL.1 (xs (i + 1))
  refine j_callV (w := w) C (kX0_feed G hG w w x (fun σ => σ = o) V Z hL.2.1 (xs (i + 1)) h120 (fun r V1 => hm_feed S (xs (i + 1)) (fun r2 S2 => r2 = r ∧ RLw S2 V1)) q.1 q.2.1 q.2.2) pI.ret (ci := 0) (T := TX0) hA.c0 rfl 1 q494 q495 q496 q66 q497 (by decide +kernel) rfl (by rw [hhe]; omega) (by rw [hhe]; omega) (Nat.le_of_ble_eq_true rfl) rfl dL_law_358 (by omega) (by omega) (pI.k (fun r w1 h5 => ?_))
  obtain ⟨V1, Z1, hf1, hP⟩ := h5
  refine j_aload_n C dL_law_361 rfl 2 rfl ?_
  refine j_aload_n C dL_law_362 rfl 0 rfl ?_
  refine j_iload_n C dL_law_363 rfl 3 rfl ?_
  refine j_iconst (v := nI 1) C dL_law_364 rfl ?_
  refine j_iaddN C dL_law_365 ?_
  refine j_sld C hB hL5 (i + 1) rfl (by omega) dL_law_366 ?_
  have e1 := (hL.2.2.kept hf1).eq
  rw [e1]
  refine j_callV (w := (mset G w1.1 o S, w1.2)) C (mX4_feed G w1.1 w1.2 o S (xs (i + 1)) hw.2.2.2.2.2.2.2.1.1 (fun r2 S2 => r2 = r ∧ RLw S2 V1) hP.1 hP.2.1 hP.2.2) pI.ret (ci := 4) (T := TX4) mset_o rfl 1 q1615 q1616 q1617 q73 q1618 (by decide +kernel) rfl (by rw [hhe]; omega) (by rw [hhe]; omega) (Nat.le_of_ble_eq_true rfl) rfl dL_law_367 (by omega) (by omega) (pM.k (fun r2 S2 hP2 => ?_))
  obtain ⟨hr2, hrl⟩ := hP2
  subst hr2
  refine j_icmp_eq C 1265 dL_law_370 (by decide) (fun c370 => ?_) (fun c370 => ?_)
  · exact ih _ _ _ _ _ _ (hL.next hf1 hrl) (by omega) (by omega)
  · exact absurd rfl c370
set_option maxHeartbeats 1000000 in
theorem lc_town (C : Cx G k cL_law "MoodFareLaw" "law" 4 (some .boolean) hh mc ms post) (hG : GH G) (hE : GE G) (hM : GM G) (hD : GD G) (hS : GS G) {L : Nat} {xs : Nat → Int32} (hB : GB G L xs) (hL5 : L ≤ 512) (hhe : hh = 1390) (hL : LI G w x o S V Z) (hi : i + 8 ≤ L) (b1 : ce + 10752 ≤ mc) (b2 : sl + 77056 ≤ ms) (ih : ∀ w2 S2 V2 Z2 ce2 sl2, LI G w2 x o S2 V2 Z2 → ce2 ≤ ce + 10752 → sl2 ≤ sl + 77056 → J G k w2 [(0, .ref (gl_z G 3)), (1, .ref x), (2, .ref o), (3, .int (nI i))] 1265 [] ce2 sl2) : J G k w [(0, .ref (gl_z G 3)), (1, .ref x), (2, .ref o), (3, .int (nI i))] 375 [] ce sl := by
  have hw := hL.1.2
  have hT := hL.1.1
  have hkV : okT V.2.1 := hw.2.1.2
  have hkS : okT (S.2.2.2 6) := by rw [← hT]; exact hkV
  have h120 : V.1 0 ≤ 120 := by rw [hw.1.1]; exact hw.2.2.2.2.2.2.2.1.1
  obtain ⟨W, hA, hv⟩ := id hL.2.1
  obtain ⟨nc, nx, R1, R2, hC, hX, t1, t2⟩ := lw_town hL.1
  refine j_aload_n C dL_law_375 rfl 1 rfl ?_
  refine j_in (w := w) C (iv_V C (ci := 0) (Tt := TX0) hA.c0 rfl (Or.inl q503) 0 q500 q501 q502 (by decide +kernel) rfl rfl dL_law_376) (kX0_town G hG w w x (fun σ => σ = o) V Z hL.2.1 hE hS S R1 R2 nc nx hC hX hw.2.2.2.2.2.2.2.1 hw.1.1.symm h120 hw.2.2.2.2.2.1 (fun r V1 => (¬ (twH R2).1 8 < 0 → (-1000100) - (twH R2).1 8 = r ∧ RLw (sN (twH R2) 6 0) V1) ∧ ((twH R2).1 8 < 0 → nI ((twH R2).2.2.2 7 25) = r ∧ RLw (sN (sB (sN (twH R2) 6 0) 6 ((twH R2).2.2.2 7)) 17 0) V1)) t1 t2) (Or.inl q503) (by decide +kernel) (by rw [hhe]; omega) (by rw [hhe]; omega) (Nat.le_of_ble_eq_true rfl) (by omega) (by omega) (fun v w1 h5 => ?_) (fun a w1 h5 => ?_)
  rotate_left
  · obtain ⟨r5, hr5, _⟩ := h5
    cases hr5
  obtain ⟨r, hr5, V1, Z1, hf1, hP⟩ := h5
  cases hr5
  refine j_aload_n C dL_law_379 rfl 2 rfl ?_
  have e1 := (hL.2.2.kept hf1).eq
  rw [e1]
  refine j_callV (w := (mset G w1.1 o S, w1.2)) C (mX4_town G w1.1 w1.2 o S (fun r2 S2 => r2 = r ∧ RLw S2 V1) hw.2.2.2.2.2.2.2.1 nc nx R1 R2 hC hX hP.1 hP.2) pI.ret (ci := 4) (T := TX4) mset_o rfl 0 q1620 q1621 q1622 q73 q1623 (by decide +kernel) rfl (by rw [hhe]; omega) (by rw [hhe]; omega) (Nat.le_of_ble_eq_true rfl) rfl dL_law_380 (by omega) (by omega) (pM.k (fun r2 S2 hP2 => ?_))
  obtain ⟨hr2, hrl⟩ := hP2
  subst hr2
  refine j_icmp_eq C 1265 dL_law_383 (by decide) (fun c383 => ?_) (fun c383 => ?_)
  · exact ih _ _ _ _ _ _ (hL.next hf1 hrl) (by omega) (by omega)
  · exact absurd rfl c383
set_option maxHeartbeats 1000000 in
theorem lc_fault (C : Cx G k cL_law "MoodFareLaw" "law" 4 (some .boolean) hh mc ms post) (hG : GH G) (hE : GE G) (hM : GM G) (hD : GD G) (hS : GS G) {L : Nat} {xs : Nat → Int32} (hB : GB G L xs) (hL5 : L ≤ 512) (hhe : hh = 1390) (hL : LI G w x o S V Z) (hi : i + 8 ≤ L) (b1 : ce + 10752 ≤ mc) (b2 : sl + 77056 ≤ ms) (ih : ∀ w2 S2 V2 Z2 ce2 sl2, LI G w2 x o S2 V2 Z2 → ce2 ≤ ce + 10752 → sl2 ≤ sl + 77056 → J G k w2 [(0, .ref (gl_z G 3)), (1, .ref x), (2, .ref o), (3, .int (nI i))] 1265 [] ce2 sl2) : J G k w [(0, .ref (gl_z G 3)), (1, .ref x), (2, .ref o), (3, .int (nI i))] 388 [] ce sl := by
  have hw := hL.1.2
  have hT := hL.1.1
  have hkV : okT V.2.1 := hw.2.1.2
  have hkS : okT (S.2.2.2 6) := by rw [← hT]; exact hkV
  have h120 : V.1 0 ≤ 120 := by rw [hw.1.1]; exact hw.2.2.2.2.2.2.2.1.1
  obtain ⟨W, hA, hv⟩ := id hL.2.1
  refine j_aload_n C dL_law_388 rfl 1 rfl ?_
  have q := lw_fault hL.1
  refine j_callV (w := w) C (kX0_fault G hG w w x (fun σ => σ = o) V Z hL.2.1 (fun r V1 => hm_fault S (fun r2 S2 => r2 = r ∧ RLw S2 V1)) q) pI.ret (ci := 0) (T := TX0) hA.c0 rfl 0 q879 q880 q881 q66 q882 (by decide +kernel) rfl (by rw [hhe]; omega) (by rw [hhe]; omega) (Nat.le_of_ble_eq_true rfl) rfl dL_law_389 (by omega) (by omega) (pI.k (fun r w1 h5 => ?_))
  obtain ⟨V1, Z1, hf1, hP⟩ := h5
  refine j_aload_n C dL_law_392 rfl 2 rfl ?_
  have e1 := (hL.2.2.kept hf1).eq
  rw [e1]
  refine j_callV (w := (mset G w1.1 o S, w1.2)) C (mX4_fault G w1.1 w1.2 o S) pI.ret (ci := 4) (T := TX4) mset_o rfl 0 q1671 q1672 q1673 q73 q1674 (by decide +kernel) rfl (by rw [hhe]; omega) (by rw [hhe]; omega) (Nat.le_of_ble_eq_true rfl) rfl dL_law_393 (by omega) (by omega) (qI.k ?_)
  obtain ⟨hr2, hrl⟩ := hP
  refine j_as hr2 ?_
  generalize hS2 : S = S2 at hrl
  refine j_icmp_eq C 1265 dL_law_396 (by decide) (fun c396 => ?_) (fun c396 => ?_)
  · exact ih _ _ _ _ _ _ (hL.next hf1 hrl) (by omega) (by omega)
  · exact absurd rfl c396
set_option maxHeartbeats 1000000 in
theorem lc_ride (C : Cx G k cL_law "MoodFareLaw" "law" 4 (some .boolean) hh mc ms post) (hG : GH G) (hE : GE G) (hM : GM G) (hD : GD G) (hS : GS G) {L : Nat} {xs : Nat → Int32} (hB : GB G L xs) (hL5 : L ≤ 512) (hhe : hh = 1390) (hL : LI G w x o S V Z) (hi : i + 8 ≤ L) (b1 : ce + 10752 ≤ mc) (b2 : sl + 77056 ≤ ms) (ih : ∀ w2 S2 V2 Z2 ce2 sl2, LI G w2 x o S2 V2 Z2 → ce2 ≤ ce + 10752 → sl2 ≤ sl + 77056 → J G k w2 [(0, .ref (gl_z G 3)), (1, .ref x), (2, .ref o), (3, .int (nI i))] 1265 [] ce2 sl2) : J G k w [(0, .ref (gl_z G 3)), (1, .ref x), (2, .ref o), (3, .int (nI i))] 401 [] ce sl := by
  have hw := hL.1.2
  have hT := hL.1.1
  have hkV : okT V.2.1 := hw.2.1.2
  have hkS : okT (S.2.2.2 6) := by rw [← hT]; exact hkV
  have h120 : V.1 0 ≤ 120 := by rw [hw.1.1]; exact hw.2.2.2.2.2.2.2.1.1
  obtain ⟨W, hA, hv⟩ := id hL.2.1
  refine j_aload_n C dL_law_401 rfl 1 rfl ?_
  refine j_aload_n C dL_law_402 rfl 0 rfl ?_
  refine j_iload_n C dL_law_403 rfl 3 rfl ?_
  refine j_iconst (v := nI 1) C dL_law_404 rfl ?_
  refine j_iaddN C dL_law_405 ?_
  refine j_sld C hB hL5 (i + 1) rfl (by omega) dL_law_406 ?_
  have q := lw_ride hL.1 (xs (i + 1))
  refine j_callV (w := w) C (kX0_ride G hG w w x (fun σ => σ = o) V Z hL.2.1 (xs (i + 1)) hkV.1 (fun y hy => (hkV.2.1 y hy).2) (fun r V1 => hm_ride S (xs (i + 1)) (fun r2 S2 => r2 = r ∧ RLw S2 V1)) q.1 q.2.1 q.2.2.1 q.2.2.2) pI.ret (ci := 0) (T := TX0) hA.c0 rfl 1 q883 q884 q885 q66 q886 (by decide +kernel) rfl (by rw [hhe]; omega) (by rw [hhe]; omega) (Nat.le_of_ble_eq_true rfl) rfl dL_law_407 (by omega) (by omega) (pI.k (fun r w1 h5 => ?_))
  obtain ⟨V1, Z1, hf1, hP⟩ := h5
  refine j_aload_n C dL_law_410 rfl 2 rfl ?_
  refine j_aload_n C dL_law_411 rfl 0 rfl ?_
  refine j_iload_n C dL_law_412 rfl 3 rfl ?_
  refine j_iconst (v := nI 1) C dL_law_413 rfl ?_
  refine j_iaddN C dL_law_414 ?_
  refine j_sld C hB hL5 (i + 1) rfl (by omega) dL_law_415 ?_
  have e1 := (hL.2.2.kept hf1).eq
  rw [e1]
  refine j_callV (w := (mset G w1.1 o S, w1.2)) C (mX4_ride G w1.1 w1.2 o S (xs (i + 1)) hkS.1 hw.2.2.2.2.2.2.2.2.1 (fun r2 S2 => r2 = r ∧ RLw S2 V1) hP.1 hP.2.1 hP.2.2.1 hP.2.2.2) pI.ret (ci := 4) (T := TX4) mset_o rfl 1 q1675 q1676 q1677 q73 q1678 (by decide +kernel) rfl (by rw [hhe]; omega) (by rw [hhe]; omega) (Nat.le_of_ble_eq_true rfl) rfl dL_law_416 (by omega) (by omega) (pM.k (fun r2 S2 hP2 => ?_))
  obtain ⟨hr2, hrl⟩ := hP2
  subst hr2
  refine j_icmp_eq C 1265 dL_law_419 (by decide) (fun c419 => ?_) (fun c419 => ?_)
  · exact ih _ _ _ _ _ _ (hL.next hf1 hrl) (by omega) (by omega)
  · exact absurd rfl c419
set_option maxHeartbeats 1000000 in
theorem lc_lesson (C : Cx G k cL_law "MoodFareLaw" "law" 4 (some .boolean) hh mc ms post) (hG : GH G) (hE : GE G) (hM : GM G) (hD : GD G) (hS : GS G) {L : Nat} {xs : Nat → Int32} (hB : GB G L xs) (hL5 : L ≤ 512) (hhe : hh = 1390) (hL : LI G w x o S V Z) (hi : i + 8 ≤ L) (b1 : ce + 10752 ≤ mc) (b2 : sl + 77056 ≤ ms) (ih : ∀ w2 S2 V2 Z2 ce2 sl2, LI G w2 x o S2 V2 Z2 → ce2 ≤ ce + 10752 → sl2 ≤ sl + 77056 → J G k w2 [(0, .ref (gl_z G 3)), (1, .ref x), (2, .ref o), (3, .int (nI i))] 1265 [] ce2 sl2) : J G k w [(0, .ref (gl_z G 3)), (1, .ref x), (2, .ref o), (3, .int (nI i))] 424 [] ce sl := by
  have hw := hL.1.2
  have hT := hL.1.1
  have hkV : okT V.2.1 := hw.2.1.2
  have hkS : okT (S.2.2.2 6) := by rw [← hT]; exact hkV
  have h120 : V.1 0 ≤ 120 := by rw [hw.1.1]; exact hw.2.2.2.2.2.2.2.1.1
  obtain ⟨W, hA, hv⟩ := id hL.2.1
  refine j_aload_n C dL_law_424 rfl 1 rfl ?_
  refine j_aload_n C dL_law_425 rfl 0 rfl ?_
  refine j_iload_n C dL_law_426 rfl 3 rfl ?_
  refine j_iconst (v := nI 1) C dL_law_427 rfl ?_
  refine j_iaddN C dL_law_428 ?_
  refine j_sld C hB hL5 (i + 1) rfl (by omega) dL_law_429 ?_
  refine j_aload_n C dL_law_430 rfl 0 rfl ?_
  refine j_iload_n C dL_law_431 rfl 3 rfl ?_
  refine j_iconst (v := nI 2) C dL_law_432 rfl ?_
  refine j_iaddN C dL_law_433 ?_
  refine j_sld C hB hL5 (i + 2) rfl (by omega) dL_law_434 ?_
  have q := lw_lesson hL.1 (xs (i + 1)) (xs (i + 2))
  refine j_callV (w := w) C (kX0_lesson G hG w w x (fun σ => σ = o) V Z hL.2.1 (xs (i + 1)) (xs (i + 2)) hkV.1 (fun r V1 => hm_lesson S (xs (i + 1)) (xs (i + 2)) (fun r2 S2 => r2 = r ∧ RLw S2 V1)) q.1 q.2) pI.ret (ci := 0) (T := TX0) hA.c0 rfl 2 q952 q953 q954 q66 q955 (by decide +kernel) rfl (by rw [hhe]; omega) (by rw [hhe]; omega) (Nat.le_of_ble_eq_true rfl) rfl dL_law_435 (by omega) (by omega) (pI.k (fun r w1 h5 => ?_))
  obtain ⟨V1, Z1, hf1, hP⟩ := h5
  refine j_aload_n C dL_law_438 rfl 2 rfl ?_
  refine j_aload_n C dL_law_439 rfl 0 rfl ?_
  refine j_iload_n C dL_law_440 rfl 3 rfl ?_
  refine j_iconst (v := nI 1) C dL_law_441 rfl ?_
  refine j_iaddN C dL_law_442 ?_
  refine j_sld C hB hL5 (i + 1) rfl (by omega) dL_law_443 ?_
  refine j_aload_n C dL_law_444 rfl 0 rfl ?_
  refine j_iload_n C dL_law_445 rfl 3 rfl ?_
  refine j_iconst (v := nI 2) C dL_law_446 rfl ?_
  refine j_iaddN C dL_law_447 ?_
  refine j_sld C hB hL5 (i + 2) rfl (by omega) dL_law_448 ?_
  have e1 := (hL.2.2.kept hf1).eq
  rw [e1]
  refine j_callV (w := (mset G w1.1 o S, w1.2)) C (mX4_lesson G w1.1 w1.2 o S (xs (i + 1)) (xs (i + 2)) hkS.1 hw.2.2.2.2.2.2.2.2.1 (fun r2 S2 => r2 = r ∧ RLw S2 V1) hP.1 hP.2) pI.ret (ci := 4) (T := TX4) mset_o rfl 2 q1703 q1704 q1705 q73 q1706 (by decide +kernel) rfl (by rw [hhe]; omega) (by rw [hhe]; omega) (Nat.le_of_ble_eq_true rfl) rfl dL_law_449 (by omega) (by omega) (pM.k (fun r2 S2 hP2 => ?_))
  obtain ⟨hr2, hrl⟩ := hP2
  subst hr2
  refine j_icmp_eq C 1265 dL_law_452 (by decide) (fun c452 => ?_) (fun c452 => ?_)
  · exact ih _ _ _ _ _ _ (hL.next hf1 hrl) (by omega) (by omega)
  · exact absurd rfl c452
set_option maxHeartbeats 1000000 in
theorem lc_reset (C : Cx G k cL_law "MoodFareLaw" "law" 4 (some .boolean) hh mc ms post) (hG : GH G) (hE : GE G) (hM : GM G) (hD : GD G) (hS : GS G) {L : Nat} {xs : Nat → Int32} (hB : GB G L xs) (hL5 : L ≤ 512) (hhe : hh = 1390) (hL : LI G w x o S V Z) (hi : i + 8 ≤ L) (b1 : ce + 10752 ≤ mc) (b2 : sl + 77056 ≤ ms) (ih : ∀ w2 S2 V2 Z2 ce2 sl2, LI G w2 x o S2 V2 Z2 → ce2 ≤ ce + 10752 → sl2 ≤ sl + 77056 → J G k w2 [(0, .ref (gl_z G 3)), (1, .ref x), (2, .ref o), (3, .int (nI i))] 1265 [] ce2 sl2) : J G k w [(0, .ref (gl_z G 3)), (1, .ref x), (2, .ref o), (3, .int (nI i))] 457 [] ce sl := by
  have hw := hL.1.2
  have hT := hL.1.1
  have hkV : okT V.2.1 := hw.2.1.2
  have hkS : okT (S.2.2.2 6) := by rw [← hT]; exact hkV
  have h120 : V.1 0 ≤ 120 := by rw [hw.1.1]; exact hw.2.2.2.2.2.2.2.1.1
  obtain ⟨W, hA, hv⟩ := id hL.2.1
  refine j_aload_n C dL_law_457 rfl 1 rfl ?_
  have q := lw_reset hL.1
  refine j_callV (w := w) C (kX0_reset G hG w w x (fun σ => σ = o) V Z hL.2.1 hkV.1 (fun r V1 => hm_reset S (fun r2 S2 => r2 = r ∧ RLw S2 V1)) q.1 q.2) pI.ret (ci := 0) (T := TX0) hA.c0 rfl 0 q962 q963 q964 q66 q965 (by decide +kernel) rfl (by rw [hhe]; omega) (by rw [hhe]; omega) (Nat.le_of_ble_eq_true rfl) rfl dL_law_458 (by omega) (by omega) (pI.k (fun r w1 h5 => ?_))
  obtain ⟨V1, Z1, hf1, hP⟩ := h5
  refine j_aload_n C dL_law_461 rfl 2 rfl ?_
  have e1 := (hL.2.2.kept hf1).eq
  rw [e1]
  refine j_callV (w := (mset G w1.1 o S, w1.2)) C (mX4_reset G w1.1 w1.2 o S hkS.1 hw.2.2.2.2.2.2.2.2.1 (fun r2 S2 => r2 = r ∧ RLw S2 V1) hP.1 hP.2) pI.ret (ci := 4) (T := TX4) mset_o rfl 0 q1711 q1712 q1713 q73 q1714 (by decide +kernel) rfl (by rw [hhe]; omega) (by rw [hhe]; omega) (Nat.le_of_ble_eq_true rfl) rfl dL_law_462 (by omega) (by omega) (pM.k (fun r2 S2 hP2 => ?_))
  obtain ⟨hr2, hrl⟩ := hP2
  subst hr2
  refine j_icmp_eq C 1265 dL_law_465 (by decide) (fun c465 => ?_) (fun c465 => ?_)
  · exact ih _ _ _ _ _ _ (hL.next hf1 hrl) (by omega) (by omega)
  · exact absurd rfl c465
set_option maxHeartbeats 1000000 in
theorem lc_street (C : Cx G k cL_law "MoodFareLaw" "law" 4 (some .boolean) hh mc ms post) (hG : GH G) (hE : GE G) (hM : GM G) (hD : GD G) (hS : GS G) {L : Nat} {xs : Nat → Int32} (hB : GB G L xs) (hL5 : L ≤ 512) (hhe : hh = 1390) (hL : LI G w x o S V Z) (hi : i + 8 ≤ L) (b1 : ce + 10752 ≤ mc) (b2 : sl + 77056 ≤ ms) (ih : ∀ w2 S2 V2 Z2 ce2 sl2, LI G w2 x o S2 V2 Z2 → ce2 ≤ ce + 10752 → sl2 ≤ sl + 77056 → J G k w2 [(0, .ref (gl_z G 3)), (1, .ref x), (2, .ref o), (3, .int (nI i))] 1265 [] ce2 sl2) : J G k w [(0, .ref (gl_z G 3)), (1, .ref x), (2, .ref o), (3, .int (nI i))] 470 [] ce sl := by
  have hw := hL.1.2
  have hT := hL.1.1
  have hkV : okT V.2.1 := hw.2.1.2
  have hkS : okT (S.2.2.2 6) := by rw [← hT]; exact hkV
  have h120 : V.1 0 ≤ 120 := by rw [hw.1.1]; exact hw.2.2.2.2.2.2.2.1.1
  obtain ⟨W, hA, hv⟩ := id hL.2.1
  refine j_aload_n C dL_law_470 rfl 1 rfl ?_
  refine j_aload_n C dL_law_471 rfl 0 rfl ?_
  refine j_iload_n C dL_law_472 rfl 3 rfl ?_
  refine j_iconst (v := nI 1) C dL_law_473 rfl ?_
  refine j_iaddN C dL_law_474 ?_
  refine j_sld C hB hL5 (i + 1) rfl (by omega) dL_law_475 ?_
  refine j_aload_n C dL_law_476 rfl 0 rfl ?_
  refine j_iload_n C dL_law_477 rfl 3 rfl ?_
  refine j_iconst (v := nI 2) C dL_law_478 rfl ?_
  refine j_iaddN C dL_law_479 ?_
  refine j_sld C hB hL5 (i + 2) rfl (by omega) dL_law_480 ?_
  have q := lw_street hL.1 (xs (i + 1)) (xs (i + 2))
  refine j_callV (w := w) C (kX0_street G hG w w x (fun σ => σ = o) V Z hL.2.1 (xs (i + 1)) (xs (i + 2)) hkV.1 (fun r V1 => hm_street S (xs (i + 1)) (xs (i + 2)) (fun r2 S2 => r2 = r ∧ RLw S2 V1)) q.1 q.2.1 q.2.2) pI.ret (ci := 0) (T := TX0) hA.c0 rfl 2 q970 q971 q972 q66 q973 (by decide +kernel) rfl (by rw [hhe]; omega) (by rw [hhe]; omega) (Nat.le_of_ble_eq_true rfl) rfl dL_law_481 (by omega) (by omega) (pI.k (fun r w1 h5 => ?_))
  obtain ⟨V1, Z1, hf1, hP⟩ := h5
  refine j_aload_n C dL_law_484 rfl 2 rfl ?_
  refine j_aload_n C dL_law_485 rfl 0 rfl ?_
  refine j_iload_n C dL_law_486 rfl 3 rfl ?_
  refine j_iconst (v := nI 1) C dL_law_487 rfl ?_
  refine j_iaddN C dL_law_488 ?_
  refine j_sld C hB hL5 (i + 1) rfl (by omega) dL_law_489 ?_
  refine j_aload_n C dL_law_490 rfl 0 rfl ?_
  refine j_iload_n C dL_law_491 rfl 3 rfl ?_
  refine j_iconst (v := nI 2) C dL_law_492 rfl ?_
  refine j_iaddN C dL_law_493 ?_
  refine j_sld C hB hL5 (i + 2) rfl (by omega) dL_law_494 ?_
  have e1 := (hL.2.2.kept hf1).eq
  rw [e1]
  refine j_callV (w := (mset G w1.1 o S, w1.2)) C (mX4_street G w1.1 w1.2 o S (xs (i + 1)) (xs (i + 2)) hkS.1 hw.2.2.2.2.2.2.2.2.1 (fun r2 S2 => r2 = r ∧ RLw S2 V1) hP.1 hP.2.1 hP.2.2) pI.ret (ci := 4) (T := TX4) mset_o rfl 2 q1719 q1720 q1721 q73 q1722 (by decide +kernel) rfl (by rw [hhe]; omega) (by rw [hhe]; omega) (Nat.le_of_ble_eq_true rfl) rfl dL_law_495 (by omega) (by omega) (pM.k (fun r2 S2 hP2 => ?_))
  obtain ⟨hr2, hrl⟩ := hP2
  subst hr2
  refine j_icmp_eq C 1265 dL_law_498 (by decide) (fun c498 => ?_) (fun c498 => ?_)
  · exact ih _ _ _ _ _ _ (hL.next hf1 hrl) (by omega) (by omega)
  · exact absurd rfl c498
set_option maxHeartbeats 1000000 in
theorem lc_undo (C : Cx G k cL_law "MoodFareLaw" "law" 4 (some .boolean) hh mc ms post) (hG : GH G) (hE : GE G) (hM : GM G) (hD : GD G) (hS : GS G) {L : Nat} {xs : Nat → Int32} (hB : GB G L xs) (hL5 : L ≤ 512) (hhe : hh = 1390) (hL : LI G w x o S V Z) (hi : i + 8 ≤ L) (b1 : ce + 10752 ≤ mc) (b2 : sl + 77056 ≤ ms) (ih : ∀ w2 S2 V2 Z2 ce2 sl2, LI G w2 x o S2 V2 Z2 → ce2 ≤ ce + 10752 → sl2 ≤ sl + 77056 → J G k w2 [(0, .ref (gl_z G 3)), (1, .ref x), (2, .ref o), (3, .int (nI i))] 1265 [] ce2 sl2) : J G k w [(0, .ref (gl_z G 3)), (1, .ref x), (2, .ref o), (3, .int (nI i))] 503 [] ce sl := by
  have hw := hL.1.2
  have hT := hL.1.1
  have hkV : okT V.2.1 := hw.2.1.2
  have hkS : okT (S.2.2.2 6) := by rw [← hT]; exact hkV
  have h120 : V.1 0 ≤ 120 := by rw [hw.1.1]; exact hw.2.2.2.2.2.2.2.1.1
  obtain ⟨W, hA, hv⟩ := id hL.2.1
  refine j_aload_n C dL_law_503 rfl 1 rfl ?_
  have q := lw_undo hL.1
  refine j_callV (w := w) C (kX0_undo G hG w w x (fun σ => σ = o) V Z hL.2.1 (fun r V1 => hm_undo S (fun r2 S2 => r2 = r ∧ RLw S2 V1)) q.1 q.2) pI.ret (ci := 0) (T := TX0) hA.c0 rfl 0 q978 q979 q980 q66 q981 (by decide +kernel) rfl (by rw [hhe]; omega) (by rw [hhe]; omega) (Nat.le_of_ble_eq_true rfl) rfl dL_law_504 (by omega) (by omega) (pI.k (fun r w1 h5 => ?_))
  obtain ⟨V1, Z1, hf1, hP⟩ := h5
  refine j_aload_n C dL_law_507 rfl 2 rfl ?_
  have e1 := (hL.2.2.kept hf1).eq
  rw [e1]
  refine j_callV (w := (mset G w1.1 o S, w1.2)) C (mX4_undo G w1.1 w1.2 o S hw.2.2.2.2.2.2.2.2.1 (fun r2 S2 => r2 = r ∧ RLw S2 V1) hP.1 hP.2) pI.ret (ci := 4) (T := TX4) mset_o rfl 0 q1723 q1724 q1725 q73 q1726 (by decide +kernel) rfl (by rw [hhe]; omega) (by rw [hhe]; omega) (Nat.le_of_ble_eq_true rfl) rfl dL_law_508 (by omega) (by omega) (pM.k (fun r2 S2 hP2 => ?_))
  obtain ⟨hr2, hrl⟩ := hP2
  subst hr2
  refine j_icmp_eq C 1265 dL_law_511 (by decide) (fun c511 => ?_) (fun c511 => ?_)
  · exact ih _ _ _ _ _ _ (hL.next hf1 hrl) (by omega) (by omega)
  · exact absurd rfl c511
set_option maxHeartbeats 1000000 in
theorem lc_corner (C : Cx G k cL_law "MoodFareLaw" "law" 4 (some .boolean) hh mc ms post) (hG : GH G) (hE : GE G) (hM : GM G) (hD : GD G) (hS : GS G) {L : Nat} {xs : Nat → Int32} (hB : GB G L xs) (hL5 : L ≤ 512) (hhe : hh = 1390) (hL : LI G w x o S V Z) (hi : i + 8 ≤ L) (b1 : ce + 10752 ≤ mc) (b2 : sl + 77056 ≤ ms) (ih : ∀ w2 S2 V2 Z2 ce2 sl2, LI G w2 x o S2 V2 Z2 → ce2 ≤ ce + 10752 → sl2 ≤ sl + 77056 → J G k w2 [(0, .ref (gl_z G 3)), (1, .ref x), (2, .ref o), (3, .int (nI i))] 1265 [] ce2 sl2) : J G k w [(0, .ref (gl_z G 3)), (1, .ref x), (2, .ref o), (3, .int (nI i))] 516 [] ce sl := by
  have hw := hL.1.2
  have hT := hL.1.1
  have hkV : okT V.2.1 := hw.2.1.2
  have hkS : okT (S.2.2.2 6) := by rw [← hT]; exact hkV
  have h120 : V.1 0 ≤ 120 := by rw [hw.1.1]; exact hw.2.2.2.2.2.2.2.1.1
  obtain ⟨W, hA, hv⟩ := id hL.2.1
  refine j_aload_n C dL_law_516 rfl 1 rfl ?_
  refine j_aload_n C dL_law_517 rfl 0 rfl ?_
  refine j_iload_n C dL_law_518 rfl 3 rfl ?_
  refine j_iconst (v := nI 1) C dL_law_519 rfl ?_
  refine j_iaddN C dL_law_520 ?_
  refine j_sld C hB hL5 (i + 1) rfl (by omega) dL_law_521 ?_
  refine j_aload_n C dL_law_522 rfl 0 rfl ?_
  refine j_iload_n C dL_law_523 rfl 3 rfl ?_
  refine j_iconst (v := nI 2) C dL_law_524 rfl ?_
  refine j_iaddN C dL_law_525 ?_
  refine j_sld C hB hL5 (i + 2) rfl (by omega) dL_law_526 ?_
  have q := lw_corner hL.1 (xs (i + 1)) (xs (i + 2))
  refine j_callV (w := w) C (kX0_corner G hG w w x (fun σ => σ = o) V Z hL.2.1 (xs (i + 1)) (xs (i + 2)) hkV.1 (fun r V1 => hm_corner S (xs (i + 1)) (xs (i + 2)) (fun r2 S2 => r2 = r ∧ RLw S2 V1)) q.1 q.2.1 q.2.2.1 q.2.2.2.1 q.2.2.2.2.1 q.2.2.2.2.2) pI.ret (ci := 0) (T := TX0) hA.c0 rfl 2 q982 q983 q984 q66 q985 (by decide +kernel) rfl (by rw [hhe]; omega) (by rw [hhe]; omega) (Nat.le_of_ble_eq_true rfl) rfl dL_law_527 (by omega) (by omega) (pI.k (fun r w1 h5 => ?_))
  obtain ⟨V1, Z1, hf1, hP⟩ := h5
  refine j_aload_n C dL_law_530 rfl 2 rfl ?_
  refine j_aload_n C dL_law_531 rfl 0 rfl ?_
  refine j_iload_n C dL_law_532 rfl 3 rfl ?_
  refine j_iconst (v := nI 1) C dL_law_533 rfl ?_
  refine j_iaddN C dL_law_534 ?_
  refine j_sld C hB hL5 (i + 1) rfl (by omega) dL_law_535 ?_
  refine j_aload_n C dL_law_536 rfl 0 rfl ?_
  refine j_iload_n C dL_law_537 rfl 3 rfl ?_
  refine j_iconst (v := nI 2) C dL_law_538 rfl ?_
  refine j_iaddN C dL_law_539 ?_
  refine j_sld C hB hL5 (i + 2) rfl (by omega) dL_law_540 ?_
  have e1 := (hL.2.2.kept hf1).eq
  rw [e1]
  refine j_callV (w := (mset G w1.1 o S, w1.2)) C (mX4_corner G w1.1 w1.2 o S (xs (i + 1)) (xs (i + 2)) hkS.1 (fun r2 S2 => r2 = r ∧ RLw S2 V1) hP.1 hP.2.1 hP.2.2.1 hP.2.2.2.1 hP.2.2.2.2.1 hP.2.2.2.2.2) pI.ret (ci := 4) (T := TX4) mset_o rfl 2 q1727 q1728 q1729 q73 q1730 (by decide +kernel) rfl (by rw [hhe]; omega) (by rw [hhe]; omega) (Nat.le_of_ble_eq_true rfl) rfl dL_law_541 (by omega) (by omega) (pM.k (fun r2 S2 hP2 => ?_))
  obtain ⟨hr2, hrl⟩ := hP2
  subst hr2
  refine j_icmp_eq C 1265 dL_law_544 (by decide) (fun c544 => ?_) (fun c544 => ?_)
  · exact ih _ _ _ _ _ _ (hL.next hf1 hrl) (by omega) (by omega)
  · exact absurd rfl c544
set_option maxHeartbeats 1000000 in
theorem lc_way (C : Cx G k cL_law "MoodFareLaw" "law" 4 (some .boolean) hh mc ms post) (hG : GH G) (hE : GE G) (hM : GM G) (hD : GD G) (hS : GS G) {L : Nat} {xs : Nat → Int32} (hB : GB G L xs) (hL5 : L ≤ 512) (hhe : hh = 1390) (hL : LI G w x o S V Z) (hi : i + 8 ≤ L) (b1 : ce + 10752 ≤ mc) (b2 : sl + 77056 ≤ ms) (ih : ∀ w2 S2 V2 Z2 ce2 sl2, LI G w2 x o S2 V2 Z2 → ce2 ≤ ce + 10752 → sl2 ≤ sl + 77056 → J G k w2 [(0, .ref (gl_z G 3)), (1, .ref x), (2, .ref o), (3, .int (nI i))] 1265 [] ce2 sl2) : J G k w [(0, .ref (gl_z G 3)), (1, .ref x), (2, .ref o), (3, .int (nI i))] 549 [] ce sl := by
  have hw := hL.1.2
  have hT := hL.1.1
  have hkV : okT V.2.1 := hw.2.1.2
  have hkS : okT (S.2.2.2 6) := by rw [← hT]; exact hkV
  have h120 : V.1 0 ≤ 120 := by rw [hw.1.1]; exact hw.2.2.2.2.2.2.2.1.1
  obtain ⟨W, hA, hv⟩ := id hL.2.1
  refine j_aload_n C dL_law_549 rfl 1 rfl ?_
  refine j_aload_n C dL_law_550 rfl 0 rfl ?_
  refine j_iload_n C dL_law_551 rfl 3 rfl ?_
  refine j_iconst (v := nI 1) C dL_law_552 rfl ?_
  refine j_iaddN C dL_law_553 ?_
  refine j_sld C hB hL5 (i + 1) rfl (by omega) dL_law_554 ?_
  refine j_aload_n C dL_law_555 rfl 0 rfl ?_
  refine j_iload_n C dL_law_556 rfl 3 rfl ?_
  refine j_iconst (v := nI 2) C dL_law_557 rfl ?_
  refine j_iaddN C dL_law_558 ?_
  refine j_sld C hB hL5 (i + 2) rfl (by omega) dL_law_559 ?_
  have q := lw_way hL.1 (xs (i + 1)) (xs (i + 2))
  refine j_callV (w := w) C (kX0_way G hG w w x (fun σ => σ = o) V Z hL.2.1 (xs (i + 1)) (xs (i + 2)) hkV.1 (fun r V1 => hm_way S (xs (i + 1)) (xs (i + 2)) (fun r2 S2 => r2 = r ∧ RLw S2 V1)) q.1 q.2.1 q.2.2) pI.ret (ci := 0) (T := TX0) hA.c0 rfl 2 q995 q996 q997 q66 q998 (by decide +kernel) rfl (by rw [hhe]; omega) (by rw [hhe]; omega) (Nat.le_of_ble_eq_true rfl) rfl dL_law_560 (by omega) (by omega) (pI.k (fun r w1 h5 => ?_))
  obtain ⟨V1, Z1, hf1, hP⟩ := h5
  refine j_aload_n C dL_law_563 rfl 2 rfl ?_
  refine j_aload_n C dL_law_564 rfl 0 rfl ?_
  refine j_iload_n C dL_law_565 rfl 3 rfl ?_
  refine j_iconst (v := nI 1) C dL_law_566 rfl ?_
  refine j_iaddN C dL_law_567 ?_
  refine j_sld C hB hL5 (i + 1) rfl (by omega) dL_law_568 ?_
  refine j_aload_n C dL_law_569 rfl 0 rfl ?_
  refine j_iload_n C dL_law_570 rfl 3 rfl ?_
  refine j_iconst (v := nI 2) C dL_law_571 rfl ?_
  refine j_iaddN C dL_law_572 ?_
  refine j_sld C hB hL5 (i + 2) rfl (by omega) dL_law_573 ?_
  have e1 := (hL.2.2.kept hf1).eq
  rw [e1]
  refine j_callV (w := (mset G w1.1 o S, w1.2)) C (mX4_way G w1.1 w1.2 o S (xs (i + 1)) (xs (i + 2)) hkS.1 (fun r2 S2 => r2 = r ∧ RLw S2 V1) hP.1 hP.2.1 hP.2.2) pI.ret (ci := 4) (T := TX4) mset_o rfl 2 q1735 q1736 q1737 q73 q1738 (by decide +kernel) rfl (by rw [hhe]; omega) (by rw [hhe]; omega) (Nat.le_of_ble_eq_true rfl) rfl dL_law_574 (by omega) (by omega) (pM.k (fun r2 S2 hP2 => ?_))
  obtain ⟨hr2, hrl⟩ := hP2
  subst hr2
  refine j_icmp_eq C 1265 dL_law_577 (by decide) (fun c577 => ?_) (fun c577 => ?_)
  · exact ih _ _ _ _ _ _ (hL.next hf1 hrl) (by omega) (by omega)
  · exact absurd rfl c577
set_option maxHeartbeats 1000000 in
theorem lc_would (C : Cx G k cL_law "MoodFareLaw" "law" 4 (some .boolean) hh mc ms post) (hG : GH G) (hE : GE G) (hM : GM G) (hD : GD G) (hS : GS G) {L : Nat} {xs : Nat → Int32} (hB : GB G L xs) (hL5 : L ≤ 512) (hhe : hh = 1390) (hL : LI G w x o S V Z) (hi : i + 8 ≤ L) (b1 : ce + 10752 ≤ mc) (b2 : sl + 77056 ≤ ms) (ih : ∀ w2 S2 V2 Z2 ce2 sl2, LI G w2 x o S2 V2 Z2 → ce2 ≤ ce + 10752 → sl2 ≤ sl + 77056 → J G k w2 [(0, .ref (gl_z G 3)), (1, .ref x), (2, .ref o), (3, .int (nI i))] 1265 [] ce2 sl2) : J G k w [(0, .ref (gl_z G 3)), (1, .ref x), (2, .ref o), (3, .int (nI i))] 582 [] ce sl := by
  have hw := hL.1.2
  have hT := hL.1.1
  have hkV : okT V.2.1 := hw.2.1.2
  have hkS : okT (S.2.2.2 6) := by rw [← hT]; exact hkV
  have h120 : V.1 0 ≤ 120 := by rw [hw.1.1]; exact hw.2.2.2.2.2.2.2.1.1
  obtain ⟨W, hA, hv⟩ := id hL.2.1
  refine j_aload_n C dL_law_582 rfl 1 rfl ?_
  refine j_aload_n C dL_law_583 rfl 0 rfl ?_
  refine j_iload_n C dL_law_584 rfl 3 rfl ?_
  refine j_iconst (v := nI 1) C dL_law_585 rfl ?_
  refine j_iaddN C dL_law_586 ?_
  refine j_sld C hB hL5 (i + 1) rfl (by omega) dL_law_587 ?_
  refine j_aload_n C dL_law_588 rfl 0 rfl ?_
  refine j_iload_n C dL_law_589 rfl 3 rfl ?_
  refine j_iconst (v := nI 2) C dL_law_590 rfl ?_
  refine j_iaddN C dL_law_591 ?_
  refine j_sld C hB hL5 (i + 2) rfl (by omega) dL_law_592 ?_
  have q := lw_would hL.1 (xs (i + 1)) (xs (i + 2))
  refine j_callV (w := w) C (kX0_would G hG w w x (fun σ => σ = o) V Z hL.2.1 (xs (i + 1)) (xs (i + 2)) hkV.1 (fun y hy => (hkV.2.1 y hy).2) (fun r V1 => hm_would S (xs (i + 1)) (xs (i + 2)) (fun r2 S2 => r2 = r ∧ RLw S2 V1)) q.1 q.2.1 q.2.2.1 q.2.2.2) pI.ret (ci := 0) (T := TX0) hA.c0 rfl 2 q999 q1000 q1001 q66 q1002 (by decide +kernel) rfl (by rw [hhe]; omega) (by rw [hhe]; omega) (Nat.le_of_ble_eq_true rfl) rfl dL_law_593 (by omega) (by omega) (pI.k (fun r w1 h5 => ?_))
  obtain ⟨V1, Z1, hf1, hP⟩ := h5
  refine j_aload_n C dL_law_596 rfl 2 rfl ?_
  refine j_aload_n C dL_law_597 rfl 0 rfl ?_
  refine j_iload_n C dL_law_598 rfl 3 rfl ?_
  refine j_iconst (v := nI 1) C dL_law_599 rfl ?_
  refine j_iaddN C dL_law_600 ?_
  refine j_sld C hB hL5 (i + 1) rfl (by omega) dL_law_601 ?_
  refine j_aload_n C dL_law_602 rfl 0 rfl ?_
  refine j_iload_n C dL_law_603 rfl 3 rfl ?_
  refine j_iconst (v := nI 2) C dL_law_604 rfl ?_
  refine j_iaddN C dL_law_605 ?_
  refine j_sld C hB hL5 (i + 2) rfl (by omega) dL_law_606 ?_
  have e1 := (hL.2.2.kept hf1).eq
  rw [e1]
  refine j_callV (w := (mset G w1.1 o S, w1.2)) C (mX4_would G w1.1 w1.2 o S (xs (i + 1)) (xs (i + 2)) hkS.1 (fun r2 S2 => r2 = r ∧ RLw S2 V1) hP.1 hP.2.1 hP.2.2.1 hP.2.2.2) pI.ret (ci := 4) (T := TX4) mset_o rfl 2 q1739 q1740 q1741 q73 q1742 (by decide +kernel) rfl (by rw [hhe]; omega) (by rw [hhe]; omega) (Nat.le_of_ble_eq_true rfl) rfl dL_law_607 (by omega) (by omega) (pM.k (fun r2 S2 hP2 => ?_))
  obtain ⟨hr2, hrl⟩ := hP2
  subst hr2
  refine j_icmp_eq C 1265 dL_law_610 (by decide) (fun c610 => ?_) (fun c610 => ?_)
  · exact ih _ _ _ _ _ _ (hL.next hf1 hrl) (by omega) (by omega)
  · exact absurd rfl c610
set_option maxHeartbeats 1000000 in
theorem lc_reach (C : Cx G k cL_law "MoodFareLaw" "law" 4 (some .boolean) hh mc ms post) (hG : GH G) (hE : GE G) (hM : GM G) (hD : GD G) (hS : GS G) {L : Nat} {xs : Nat → Int32} (hB : GB G L xs) (hL5 : L ≤ 512) (hhe : hh = 1390) (hL : LI G w x o S V Z) (hi : i + 8 ≤ L) (b1 : ce + 10752 ≤ mc) (b2 : sl + 77056 ≤ ms) (ih : ∀ w2 S2 V2 Z2 ce2 sl2, LI G w2 x o S2 V2 Z2 → ce2 ≤ ce + 10752 → sl2 ≤ sl + 77056 → J G k w2 [(0, .ref (gl_z G 3)), (1, .ref x), (2, .ref o), (3, .int (nI i))] 1265 [] ce2 sl2) : J G k w [(0, .ref (gl_z G 3)), (1, .ref x), (2, .ref o), (3, .int (nI i))] 615 [] ce sl := by
  have hw := hL.1.2
  have hT := hL.1.1
  have hkV : okT V.2.1 := hw.2.1.2
  have hkS : okT (S.2.2.2 6) := by rw [← hT]; exact hkV
  have h120 : V.1 0 ≤ 120 := by rw [hw.1.1]; exact hw.2.2.2.2.2.2.2.1.1
  obtain ⟨W, hA, hv⟩ := id hL.2.1
  refine j_aload_n C dL_law_615 rfl 1 rfl ?_
  have q := lw_reach hL.1
  refine j_callV (w := w) C (kX0_reach G hG w w x (fun σ => σ = o) V Z hL.2.1 hkV.1 (fun r V1 => hm_reach S (fun r2 S2 => r2 = r ∧ RLw S2 V1)) q.1 q.2) pI.ret (ci := 0) (T := TX0) hA.c0 rfl 0 q1005 q1006 q1007 q66 q1008 (by decide +kernel) rfl (by rw [hhe]; omega) (by rw [hhe]; omega) (Nat.le_of_ble_eq_true rfl) rfl dL_law_616 (by omega) (by omega) (pI.k (fun r w1 h5 => ?_))
  obtain ⟨V1, Z1, hf1, hP⟩ := h5
  refine j_aload_n C dL_law_619 rfl 2 rfl ?_
  have e1 := (hL.2.2.kept hf1).eq
  rw [e1]
  refine j_callV (w := (mset G w1.1 o S, w1.2)) C (mX4_reach G w1.1 w1.2 o S hkS.1 (fun r2 S2 => r2 = r ∧ RLw S2 V1) hP.1 hP.2) pI.ret (ci := 4) (T := TX4) mset_o rfl 0 q1743 q1744 q1745 q73 q1746 (by decide +kernel) rfl (by rw [hhe]; omega) (by rw [hhe]; omega) (Nat.le_of_ble_eq_true rfl) rfl dL_law_620 (by omega) (by omega) (pM.k (fun r2 S2 hP2 => ?_))
  obtain ⟨hr2, hrl⟩ := hP2
  subst hr2
  refine j_icmp_eq C 1265 dL_law_623 (by decide) (fun c623 => ?_) (fun c623 => ?_)
  · exact ih _ _ _ _ _ _ (hL.next hf1 hrl) (by omega) (by omega)
  · exact absurd rfl c623
set_option maxHeartbeats 1000000 in
theorem lc_cheapest (C : Cx G k cL_law "MoodFareLaw" "law" 4 (some .boolean) hh mc ms post) (hG : GH G) (hE : GE G) (hM : GM G) (hD : GD G) (hS : GS G) {L : Nat} {xs : Nat → Int32} (hB : GB G L xs) (hL5 : L ≤ 512) (hhe : hh = 1390) (hL : LI G w x o S V Z) (hi : i + 8 ≤ L) (b1 : ce + 10752 ≤ mc) (b2 : sl + 77056 ≤ ms) (ih : ∀ w2 S2 V2 Z2 ce2 sl2, LI G w2 x o S2 V2 Z2 → ce2 ≤ ce + 10752 → sl2 ≤ sl + 77056 → J G k w2 [(0, .ref (gl_z G 3)), (1, .ref x), (2, .ref o), (3, .int (nI i))] 1265 [] ce2 sl2) : J G k w [(0, .ref (gl_z G 3)), (1, .ref x), (2, .ref o), (3, .int (nI i))] 628 [] ce sl := by
  have hw := hL.1.2
  have hT := hL.1.1
  have hkV : okT V.2.1 := hw.2.1.2
  have hkS : okT (S.2.2.2 6) := by rw [← hT]; exact hkV
  have h120 : V.1 0 ≤ 120 := by rw [hw.1.1]; exact hw.2.2.2.2.2.2.2.1.1
  obtain ⟨W, hA, hv⟩ := id hL.2.1
  refine j_aload_n C dL_law_628 rfl 1 rfl ?_
  refine j_aload_n C dL_law_629 rfl 0 rfl ?_
  refine j_iload_n C dL_law_630 rfl 3 rfl ?_
  refine j_iconst (v := nI 1) C dL_law_631 rfl ?_
  refine j_iaddN C dL_law_632 ?_
  refine j_sld C hB hL5 (i + 1) rfl (by omega) dL_law_633 ?_
  refine j_aload_n C dL_law_634 rfl 0 rfl ?_
  refine j_iload_n C dL_law_635 rfl 3 rfl ?_
  refine j_iconst (v := nI 2) C dL_law_636 rfl ?_
  refine j_iaddN C dL_law_637 ?_
  refine j_sld C hB hL5 (i + 2) rfl (by omega) dL_law_638 ?_
  have q := lw_cheapest hL.1 (xs (i + 1)) (xs (i + 2))
  refine j_callV (w := w) C (kX0_cheapest G hG w w x (fun σ => σ = o) V Z hL.2.1 (xs (i + 1)) (xs (i + 2)) hkV.1 (by have := hkV.2.2.1; omega) (fun y hy => (hkV.2.1 y hy).2) (fun r V1 => hm_cheapest S (xs (i + 1)) (xs (i + 2)) (fun r2 S2 => r2 = r ∧ RLw S2 V1)) q.1 q.2) pI.ret (ci := 0) (T := TX0) hA.c0 rfl 2 q1009 q1010 q1011 q66 q1012 (by decide +kernel) rfl (by rw [hhe]; omega) (by rw [hhe]; omega) (Nat.le_of_ble_eq_true rfl) rfl dL_law_639 (by omega) (by omega) (pI.k (fun r w1 h5 => ?_))
  obtain ⟨V1, Z1, hf1, hP⟩ := h5
  refine j_aload_n C dL_law_642 rfl 2 rfl ?_
  refine j_aload_n C dL_law_643 rfl 0 rfl ?_
  refine j_iload_n C dL_law_644 rfl 3 rfl ?_
  refine j_iconst (v := nI 1) C dL_law_645 rfl ?_
  refine j_iaddN C dL_law_646 ?_
  refine j_sld C hB hL5 (i + 1) rfl (by omega) dL_law_647 ?_
  refine j_aload_n C dL_law_648 rfl 0 rfl ?_
  refine j_iload_n C dL_law_649 rfl 3 rfl ?_
  refine j_iconst (v := nI 2) C dL_law_650 rfl ?_
  refine j_iaddN C dL_law_651 ?_
  refine j_sld C hB hL5 (i + 2) rfl (by omega) dL_law_652 ?_
  have e1 := (hL.2.2.kept hf1).eq
  rw [e1]
  refine j_callV (w := (mset G w1.1 o S, w1.2)) C (mX4_cheapest G w1.1 w1.2 o S (xs (i + 1)) (xs (i + 2)) hkS.1 hkS.2.2.1 hw.2.2.2.2.2.2.2.2.2.1 (fun r2 S2 => r2 = r ∧ RLw S2 V1) hP.1 hP.2) pI.ret (ci := 4) (T := TX4) mset_o rfl 2 q1747 q1748 q1749 q73 q1750 (by decide +kernel) rfl (by rw [hhe]; omega) (by rw [hhe]; omega) (Nat.le_of_ble_eq_true rfl) rfl dL_law_653 (by omega) (by omega) (pM.k (fun r2 S2 hP2 => ?_))
  obtain ⟨hr2, hrl⟩ := hP2
  subst hr2
  refine j_icmp_eq C 1265 dL_law_656 (by decide) (fun c656 => ?_) (fun c656 => ?_)
  · exact ih _ _ _ _ _ _ (hL.next hf1 hrl) (by omega) (by omega)
  · exact absurd rfl c656
set_option maxHeartbeats 1000000 in
theorem lc_dearest (C : Cx G k cL_law "MoodFareLaw" "law" 4 (some .boolean) hh mc ms post) (hG : GH G) (hE : GE G) (hM : GM G) (hD : GD G) (hS : GS G) {L : Nat} {xs : Nat → Int32} (hB : GB G L xs) (hL5 : L ≤ 512) (hhe : hh = 1390) (hL : LI G w x o S V Z) (hi : i + 8 ≤ L) (b1 : ce + 10752 ≤ mc) (b2 : sl + 77056 ≤ ms) (ih : ∀ w2 S2 V2 Z2 ce2 sl2, LI G w2 x o S2 V2 Z2 → ce2 ≤ ce + 10752 → sl2 ≤ sl + 77056 → J G k w2 [(0, .ref (gl_z G 3)), (1, .ref x), (2, .ref o), (3, .int (nI i))] 1265 [] ce2 sl2) : J G k w [(0, .ref (gl_z G 3)), (1, .ref x), (2, .ref o), (3, .int (nI i))] 661 [] ce sl := by
  have hw := hL.1.2
  have hT := hL.1.1
  have hkV : okT V.2.1 := hw.2.1.2
  have hkS : okT (S.2.2.2 6) := by rw [← hT]; exact hkV
  have h120 : V.1 0 ≤ 120 := by rw [hw.1.1]; exact hw.2.2.2.2.2.2.2.1.1
  obtain ⟨W, hA, hv⟩ := id hL.2.1
  refine j_aload_n C dL_law_661 rfl 1 rfl ?_
  refine j_aload_n C dL_law_662 rfl 0 rfl ?_
  refine j_iload_n C dL_law_663 rfl 3 rfl ?_
  refine j_iconst (v := nI 1) C dL_law_664 rfl ?_
  refine j_iaddN C dL_law_665 ?_
  refine j_sld C hB hL5 (i + 1) rfl (by omega) dL_law_666 ?_
  refine j_aload_n C dL_law_667 rfl 0 rfl ?_
  refine j_iload_n C dL_law_668 rfl 3 rfl ?_
  refine j_iconst (v := nI 2) C dL_law_669 rfl ?_
  refine j_iaddN C dL_law_670 ?_
  refine j_sld C hB hL5 (i + 2) rfl (by omega) dL_law_671 ?_
  have q := lw_dearest hL.1 (xs (i + 1)) (xs (i + 2))
  refine j_callV (w := w) C (kX0_dearest G hG w w x (fun σ => σ = o) V Z hL.2.1 (xs (i + 1)) (xs (i + 2)) hkV.1 (by have := hkV.2.2.1; omega) (fun y hy => (hkV.2.1 y hy).2) (fun r V1 => hm_dearest S (xs (i + 1)) (xs (i + 2)) (fun r2 S2 => r2 = r ∧ RLw S2 V1)) q.1 q.2.1 q.2.2) pI.ret (ci := 0) (T := TX0) hA.c0 rfl 2 q1079 q1080 q1081 q66 q1082 (by decide +kernel) rfl (by rw [hhe]; omega) (by rw [hhe]; omega) (Nat.le_of_ble_eq_true rfl) rfl dL_law_672 (by omega) (by omega) (pI.k (fun r w1 h5 => ?_))
  obtain ⟨V1, Z1, hf1, hP⟩ := h5
  refine j_aload_n C dL_law_675 rfl 2 rfl ?_
  refine j_aload_n C dL_law_676 rfl 0 rfl ?_
  refine j_iload_n C dL_law_677 rfl 3 rfl ?_
  refine j_iconst (v := nI 1) C dL_law_678 rfl ?_
  refine j_iaddN C dL_law_679 ?_
  refine j_sld C hB hL5 (i + 1) rfl (by omega) dL_law_680 ?_
  refine j_aload_n C dL_law_681 rfl 0 rfl ?_
  refine j_iload_n C dL_law_682 rfl 3 rfl ?_
  refine j_iconst (v := nI 2) C dL_law_683 rfl ?_
  refine j_iaddN C dL_law_684 ?_
  refine j_sld C hB hL5 (i + 2) rfl (by omega) dL_law_685 ?_
  have e1 := (hL.2.2.kept hf1).eq
  rw [e1]
  refine j_callV (w := (mset G w1.1 o S, w1.2)) C (mX4_dearest G w1.1 w1.2 o S (xs (i + 1)) (xs (i + 2)) hkS.1 hkS.2.2.1 hw.2.2.2.2.2.2.2.2.2.1 (fun r2 S2 => r2 = r ∧ RLw S2 V1) hP.1 hP.2.1 hP.2.2) pI.ret (ci := 4) (T := TX4) mset_o rfl 2 q1775 q1776 q1777 q73 q1778 (by decide +kernel) rfl (by rw [hhe]; omega) (by rw [hhe]; omega) (Nat.le_of_ble_eq_true rfl) rfl dL_law_686 (by omega) (by omega) (pM.k (fun r2 S2 hP2 => ?_))
  obtain ⟨hr2, hrl⟩ := hP2
  subst hr2
  refine j_icmp_eq C 1265 dL_law_689 (by decide) (fun c689 => ?_) (fun c689 => ?_)
  · exact ih _ _ _ _ _ _ (hL.next hf1 hrl) (by omega) (by omega)
  · exact absurd rfl c689
set_option maxHeartbeats 1000000 in
theorem lc_moods (C : Cx G k cL_law "MoodFareLaw" "law" 4 (some .boolean) hh mc ms post) (hG : GH G) (hE : GE G) (hM : GM G) (hD : GD G) (hS : GS G) {L : Nat} {xs : Nat → Int32} (hB : GB G L xs) (hL5 : L ≤ 512) (hhe : hh = 1390) (hL : LI G w x o S V Z) (hi : i + 8 ≤ L) (b1 : ce + 10752 ≤ mc) (b2 : sl + 77056 ≤ ms) (ih : ∀ w2 S2 V2 Z2 ce2 sl2, LI G w2 x o S2 V2 Z2 → ce2 ≤ ce + 10752 → sl2 ≤ sl + 77056 → J G k w2 [(0, .ref (gl_z G 3)), (1, .ref x), (2, .ref o), (3, .int (nI i))] 1265 [] ce2 sl2) : J G k w [(0, .ref (gl_z G 3)), (1, .ref x), (2, .ref o), (3, .int (nI i))] 694 [] ce sl := by
  have hw := hL.1.2
  have hT := hL.1.1
  have hkV : okT V.2.1 := hw.2.1.2
  have hkS : okT (S.2.2.2 6) := by rw [← hT]; exact hkV
  have h120 : V.1 0 ≤ 120 := by rw [hw.1.1]; exact hw.2.2.2.2.2.2.2.1.1
  obtain ⟨W, hA, hv⟩ := id hL.2.1
  refine j_aload_n C dL_law_694 rfl 1 rfl ?_
  refine j_aload_n C dL_law_695 rfl 0 rfl ?_
  refine j_iload_n C dL_law_696 rfl 3 rfl ?_
  refine j_iconst (v := nI 1) C dL_law_697 rfl ?_
  refine j_iaddN C dL_law_698 ?_
  refine j_sld C hB hL5 (i + 1) rfl (by omega) dL_law_699 ?_
  refine j_aload_n C dL_law_700 rfl 0 rfl ?_
  refine j_iload_n C dL_law_701 rfl 3 rfl ?_
  refine j_iconst (v := nI 2) C dL_law_702 rfl ?_
  refine j_iaddN C dL_law_703 ?_
  refine j_sld C hB hL5 (i + 2) rfl (by omega) dL_law_704 ?_
  have q := lw_moods hL.1 (xs (i + 1)) (xs (i + 2))
  refine j_callV (w := w) C (kX0_moods G hG w w x (fun σ => σ = o) V Z hL.2.1 (xs (i + 1)) (xs (i + 2)) hkV.1 (by have := hkV.2.2.1; omega) (fun y hy => (hkV.2.1 y hy).2) (fun r V1 => hm_moods S (xs (i + 1)) (xs (i + 2)) (fun r2 S2 => r2 = r ∧ RLw S2 V1)) q.1 q.2) pI.ret (ci := 0) (T := TX0) hA.c0 rfl 2 q1103 q1104 q1105 q66 q1106 (by decide +kernel) rfl (by rw [hhe]; omega) (by rw [hhe]; omega) (Nat.le_of_ble_eq_true rfl) rfl dL_law_705 (by omega) (by omega) (pI.k (fun r w1 h5 => ?_))
  obtain ⟨V1, Z1, hf1, hP⟩ := h5
  refine j_aload_n C dL_law_708 rfl 2 rfl ?_
  refine j_aload_n C dL_law_709 rfl 0 rfl ?_
  refine j_iload_n C dL_law_710 rfl 3 rfl ?_
  refine j_iconst (v := nI 1) C dL_law_711 rfl ?_
  refine j_iaddN C dL_law_712 ?_
  refine j_sld C hB hL5 (i + 1) rfl (by omega) dL_law_713 ?_
  refine j_aload_n C dL_law_714 rfl 0 rfl ?_
  refine j_iload_n C dL_law_715 rfl 3 rfl ?_
  refine j_iconst (v := nI 2) C dL_law_716 rfl ?_
  refine j_iaddN C dL_law_717 ?_
  refine j_sld C hB hL5 (i + 2) rfl (by omega) dL_law_718 ?_
  have e1 := (hL.2.2.kept hf1).eq
  rw [e1]
  refine j_callV (w := (mset G w1.1 o S, w1.2)) C (mX4_moods G w1.1 w1.2 o S (xs (i + 1)) (xs (i + 2)) hkS.1 hkS.2.2.1 hw.2.2.2.2.2.2.2.2.2.1 (fun r2 S2 => r2 = r ∧ RLw S2 V1) hP.1 hP.2) pI.ret (ci := 4) (T := TX4) mset_o rfl 2 q1779 q1780 q1781 q73 q1782 (by decide +kernel) rfl (by rw [hhe]; omega) (by rw [hhe]; omega) (Nat.le_of_ble_eq_true rfl) rfl dL_law_719 (by omega) (by omega) (pM.k (fun r2 S2 hP2 => ?_))
  obtain ⟨hr2, hrl⟩ := hP2
  subst hr2
  refine j_icmp_eq C 1265 dL_law_722 (by decide) (fun c722 => ?_) (fun c722 => ?_)
  · exact ih _ _ _ _ _ _ (hL.next hf1 hrl) (by omega) (by omega)
  · exact absurd rfl c722
set_option maxHeartbeats 1000000 in
theorem lc_gets (C : Cx G k cL_law "MoodFareLaw" "law" 4 (some .boolean) hh mc ms post) (hG : GH G) (hE : GE G) (hM : GM G) (hD : GD G) (hS : GS G) {L : Nat} {xs : Nat → Int32} (hB : GB G L xs) (hL5 : L ≤ 512) (hhe : hh = 1390) (hL : LI G w x o S V Z) (hi : i + 8 ≤ L) (b1 : ce + 10752 ≤ mc) (b2 : sl + 77056 ≤ ms) (ih : ∀ w2 S2 V2 Z2 ce2 sl2, LI G w2 x o S2 V2 Z2 → ce2 ≤ ce + 10752 → sl2 ≤ sl + 77056 → J G k w2 [(0, .ref (gl_z G 3)), (1, .ref x), (2, .ref o), (3, .int (nI i))] 1265 [] ce2 sl2) : J G k w [(0, .ref (gl_z G 3)), (1, .ref x), (2, .ref o), (3, .int (nI i))] 727 [] ce sl := by
  have hw := hL.1.2
  have hT := hL.1.1
  have hkV : okT V.2.1 := hw.2.1.2
  have hkS : okT (S.2.2.2 6) := by rw [← hT]; exact hkV
  have h120 : V.1 0 ≤ 120 := by rw [hw.1.1]; exact hw.2.2.2.2.2.2.2.1.1
  obtain ⟨W, hA, hv⟩ := id hL.2.1
  refine j_aload_n C dL_law_727 rfl 1 rfl ?_
  refine j_aload_n C dL_law_728 rfl 0 rfl ?_
  refine j_iload_n C dL_law_729 rfl 3 rfl ?_
  refine j_iconst (v := nI 1) C dL_law_730 rfl ?_
  refine j_iaddN C dL_law_731 ?_
  refine j_sld C hB hL5 (i + 1) rfl (by omega) dL_law_732 ?_
  refine j_aload_n C dL_law_733 rfl 0 rfl ?_
  refine j_iload_n C dL_law_734 rfl 3 rfl ?_
  refine j_iconst (v := nI 2) C dL_law_735 rfl ?_
  refine j_iaddN C dL_law_736 ?_
  refine j_sld C hB hL5 (i + 2) rfl (by omega) dL_law_737 ?_
  have q := lw_gets hL.1 (xs (i + 1)) (xs (i + 2))
  refine j_callV (w := w) C (kX0_gets G hG w w x (fun σ => σ = o) V Z hL.2.1 (xs (i + 1)) (xs (i + 2)) hkV.1 (by have := hkV.2.2.1; omega) (fun y hy => (hkV.2.1 y hy).2) (fun r V1 => hm_gets S (xs (i + 1)) (xs (i + 2)) (fun r2 S2 => r2 = r ∧ RLw S2 V1)) q.1 q.2.1 q.2.2) pI.ret (ci := 0) (T := TX0) hA.c0 rfl 2 q1124 q1125 q1126 q66 q1127 (by decide +kernel) rfl (by rw [hhe]; omega) (by rw [hhe]; omega) (Nat.le_of_ble_eq_true rfl) rfl dL_law_738 (by omega) (by omega) (pI.k (fun r w1 h5 => ?_))
  obtain ⟨V1, Z1, hf1, hP⟩ := h5
  refine j_aload_n C dL_law_741 rfl 2 rfl ?_
  refine j_aload_n C dL_law_742 rfl 0 rfl ?_
  refine j_iload_n C dL_law_743 rfl 3 rfl ?_
  refine j_iconst (v := nI 1) C dL_law_744 rfl ?_
  refine j_iaddN C dL_law_745 ?_
  refine j_sld C hB hL5 (i + 1) rfl (by omega) dL_law_746 ?_
  refine j_aload_n C dL_law_747 rfl 0 rfl ?_
  refine j_iload_n C dL_law_748 rfl 3 rfl ?_
  refine j_iconst (v := nI 2) C dL_law_749 rfl ?_
  refine j_iaddN C dL_law_750 ?_
  refine j_sld C hB hL5 (i + 2) rfl (by omega) dL_law_751 ?_
  have e1 := (hL.2.2.kept hf1).eq
  rw [e1]
  refine j_callV (w := (mset G w1.1 o S, w1.2)) C (mX4_gets G w1.1 w1.2 o S (xs (i + 1)) (xs (i + 2)) hkS.1 hkS.2.2.1 hw.2.2.2.2.2.2.2.2.2.1 (fun r2 S2 => r2 = r ∧ RLw S2 V1) hP.1 hP.2.1 hP.2.2) pI.ret (ci := 4) (T := TX4) mset_o rfl 2 q1783 q1784 q1785 q73 q1786 (by decide +kernel) rfl (by rw [hhe]; omega) (by rw [hhe]; omega) (Nat.le_of_ble_eq_true rfl) rfl dL_law_752 (by omega) (by omega) (pM.k (fun r2 S2 hP2 => ?_))
  obtain ⟨hr2, hrl⟩ := hP2
  subst hr2
  refine j_icmp_eq C 1265 dL_law_755 (by decide) (fun c755 => ?_) (fun c755 => ?_)
  · exact ih _ _ _ _ _ _ (hL.next hf1 hrl) (by omega) (by omega)
  · exact absurd rfl c755
set_option maxHeartbeats 1000000 in
theorem lc_fits (C : Cx G k cL_law "MoodFareLaw" "law" 4 (some .boolean) hh mc ms post) (hG : GH G) (hE : GE G) (hM : GM G) (hD : GD G) (hS : GS G) {L : Nat} {xs : Nat → Int32} (hB : GB G L xs) (hL5 : L ≤ 512) (hhe : hh = 1390) (hL : LI G w x o S V Z) (hi : i + 8 ≤ L) (b1 : ce + 10752 ≤ mc) (b2 : sl + 77056 ≤ ms) (ih : ∀ w2 S2 V2 Z2 ce2 sl2, LI G w2 x o S2 V2 Z2 → ce2 ≤ ce + 10752 → sl2 ≤ sl + 77056 → J G k w2 [(0, .ref (gl_z G 3)), (1, .ref x), (2, .ref o), (3, .int (nI i))] 1265 [] ce2 sl2) : J G k w [(0, .ref (gl_z G 3)), (1, .ref x), (2, .ref o), (3, .int (nI i))] 760 [] ce sl := by
  have hw := hL.1.2
  have hT := hL.1.1
  have hkV : okT V.2.1 := hw.2.1.2
  have hkS : okT (S.2.2.2 6) := by rw [← hT]; exact hkV
  have h120 : V.1 0 ≤ 120 := by rw [hw.1.1]; exact hw.2.2.2.2.2.2.2.1.1
  obtain ⟨W, hA, hv⟩ := id hL.2.1
  refine j_aload_n C dL_law_760 rfl 1 rfl ?_
  refine j_aload_n C dL_law_761 rfl 0 rfl ?_
  refine j_iload_n C dL_law_762 rfl 3 rfl ?_
  refine j_iconst (v := nI 1) C dL_law_763 rfl ?_
  refine j_iaddN C dL_law_764 ?_
  refine j_sld C hB hL5 (i + 1) rfl (by omega) dL_law_765 ?_
  refine j_aload_n C dL_law_766 rfl 0 rfl ?_
  refine j_iload_n C dL_law_767 rfl 3 rfl ?_
  refine j_iconst (v := nI 2) C dL_law_768 rfl ?_
  refine j_iaddN C dL_law_769 ?_
  refine j_sld C hB hL5 (i + 2) rfl (by omega) dL_law_770 ?_
  refine j_aload_n C dL_law_771 rfl 0 rfl ?_
  refine j_iload_n C dL_law_772 rfl 3 rfl ?_
  refine j_iconst (v := nI 3) C dL_law_773 rfl ?_
  refine j_iaddN C dL_law_774 ?_
  refine j_sld C hB hL5 (i + 3) rfl (by omega) dL_law_775 ?_
  refine j_aload_n C dL_law_776 rfl 0 rfl ?_
  refine j_iload_n C dL_law_777 rfl 3 rfl ?_
  refine j_iconst (v := nI 4) C dL_law_778 rfl ?_
  refine j_iaddN C dL_law_779 ?_
  refine j_sld C hB hL5 (i + 4) rfl (by omega) dL_law_780 ?_
  refine j_aload_n C dL_law_781 rfl 0 rfl ?_
  refine j_iload_n C dL_law_782 rfl 3 rfl ?_
  refine j_iconst (v := nI 5) C dL_law_783 rfl ?_
  refine j_iaddN C dL_law_784 ?_
  refine j_sld C hB hL5 (i + 5) rfl (by omega) dL_law_785 ?_
  refine j_aload_n C dL_law_786 rfl 0 rfl ?_
  refine j_iload_n C dL_law_787 rfl 3 rfl ?_
  refine j_bipush (v := nI 6) C dL_law_788 rfl ?_
  refine j_iaddN C dL_law_790 ?_
  refine j_sld C hB hL5 (i + 6) rfl (by omega) dL_law_791 ?_
  have q := lw_fits hL.1 (xs (i + 1)) (xs (i + 2)) (xs (i + 3)) (xs (i + 4)) (xs (i + 5)) (xs (i + 6))
  refine j_callV (w := w) C (kX0_fits G hG w w x (fun σ => σ = o) V Z hL.2.1 hE (xs (i + 1)) (xs (i + 2)) (xs (i + 3)) (xs (i + 4)) (xs (i + 5)) (xs (i + 6)) hkV.1 (by have := hkV.2.2.1; omega) (fun y hy => (hkV.2.1 y hy).2) (fun r V1 => hm_fits S (xs (i + 1)) (xs (i + 2)) (xs (i + 3)) (xs (i + 4)) (xs (i + 5)) (xs (i + 6)) (fun r2 S2 => r2 = r ∧ RLw S2 V1)) q.1 q.2.1 q.2.2.1 q.2.2.2.1 q.2.2.2.2) pI.ret (ci := 0) (T := TX0) hA.c0 rfl 6 q1143 q1144 q1145 q66 q1146 (by decide +kernel) rfl (by rw [hhe]; omega) (by rw [hhe]; omega) (Nat.le_of_ble_eq_true rfl) rfl dL_law_792 (by omega) (by omega) (pI.k (fun r w1 h5 => ?_))
  obtain ⟨V1, Z1, hf1, hP⟩ := h5
  refine j_aload_n C dL_law_795 rfl 2 rfl ?_
  refine j_aload_n C dL_law_796 rfl 0 rfl ?_
  refine j_iload_n C dL_law_797 rfl 3 rfl ?_
  refine j_iconst (v := nI 1) C dL_law_798 rfl ?_
  refine j_iaddN C dL_law_799 ?_
  refine j_sld C hB hL5 (i + 1) rfl (by omega) dL_law_800 ?_
  refine j_aload_n C dL_law_801 rfl 0 rfl ?_
  refine j_iload_n C dL_law_802 rfl 3 rfl ?_
  refine j_iconst (v := nI 2) C dL_law_803 rfl ?_
  refine j_iaddN C dL_law_804 ?_
  refine j_sld C hB hL5 (i + 2) rfl (by omega) dL_law_805 ?_
  refine j_aload_n C dL_law_806 rfl 0 rfl ?_
  refine j_iload_n C dL_law_807 rfl 3 rfl ?_
  refine j_iconst (v := nI 3) C dL_law_808 rfl ?_
  refine j_iaddN C dL_law_809 ?_
  refine j_sld C hB hL5 (i + 3) rfl (by omega) dL_law_810 ?_
  refine j_aload_n C dL_law_811 rfl 0 rfl ?_
  refine j_iload_n C dL_law_812 rfl 3 rfl ?_
  refine j_iconst (v := nI 4) C dL_law_813 rfl ?_
  refine j_iaddN C dL_law_814 ?_
  refine j_sld C hB hL5 (i + 4) rfl (by omega) dL_law_815 ?_
  refine j_aload_n C dL_law_816 rfl 0 rfl ?_
  refine j_iload_n C dL_law_817 rfl 3 rfl ?_
  refine j_iconst (v := nI 5) C dL_law_818 rfl ?_
  refine j_iaddN C dL_law_819 ?_
  refine j_sld C hB hL5 (i + 5) rfl (by omega) dL_law_820 ?_
  refine j_aload_n C dL_law_821 rfl 0 rfl ?_
  refine j_iload_n C dL_law_822 rfl 3 rfl ?_
  refine j_bipush (v := nI 6) C dL_law_823 rfl ?_
  refine j_iaddN C dL_law_825 ?_
  refine j_sld C hB hL5 (i + 6) rfl (by omega) dL_law_826 ?_
  have e1 := (hL.2.2.kept hf1).eq
  rw [e1]
  refine j_callV (w := (mset G w1.1 o S, w1.2)) C (mX4_fits G w1.1 w1.2 o S (xs (i + 1)) (xs (i + 2)) (xs (i + 3)) (xs (i + 4)) (xs (i + 5)) (xs (i + 6)) hkS.1 hkS.2.2.1 hw.2.2.2.2.2.2.2.2.2.2.2.1 (fun r2 S2 => r2 = r ∧ RLw S2 V1) hP.1 hP.2.1 hP.2.2.1 hP.2.2.2.1 hP.2.2.2.2) pI.ret (ci := 4) (T := TX4) mset_o rfl 6 q1787 q1788 q1789 q73 q1790 (by decide +kernel) rfl (by rw [hhe]; omega) (by rw [hhe]; omega) (Nat.le_of_ble_eq_true rfl) rfl dL_law_827 (by omega) (by omega) (pM.k (fun r2 S2 hP2 => ?_))
  obtain ⟨hr2, hrl⟩ := hP2
  subst hr2
  refine j_icmp_eq C 1265 dL_law_830 (by decide) (fun c830 => ?_) (fun c830 => ?_)
  · exact ih _ _ _ _ _ _ (hL.next hf1 hrl) (by omega) (by omega)
  · exact absurd rfl c830
set_option maxHeartbeats 1000000 in
theorem lc_fitsOf (C : Cx G k cL_law "MoodFareLaw" "law" 4 (some .boolean) hh mc ms post) (hG : GH G) (hE : GE G) (hM : GM G) (hD : GD G) (hS : GS G) {L : Nat} {xs : Nat → Int32} (hB : GB G L xs) (hL5 : L ≤ 512) (hhe : hh = 1390) (hL : LI G w x o S V Z) (hi : i + 8 ≤ L) (b1 : ce + 10752 ≤ mc) (b2 : sl + 77056 ≤ ms) (ih : ∀ w2 S2 V2 Z2 ce2 sl2, LI G w2 x o S2 V2 Z2 → ce2 ≤ ce + 10752 → sl2 ≤ sl + 77056 → J G k w2 [(0, .ref (gl_z G 3)), (1, .ref x), (2, .ref o), (3, .int (nI i))] 1265 [] ce2 sl2) : J G k w [(0, .ref (gl_z G 3)), (1, .ref x), (2, .ref o), (3, .int (nI i))] 835 [] ce sl := by
  have hw := hL.1.2
  have hT := hL.1.1
  have hkV : okT V.2.1 := hw.2.1.2
  have hkS : okT (S.2.2.2 6) := by rw [← hT]; exact hkV
  have h120 : V.1 0 ≤ 120 := by rw [hw.1.1]; exact hw.2.2.2.2.2.2.2.1.1
  obtain ⟨W, hA, hv⟩ := id hL.2.1
  refine j_aload_n C dL_law_835 rfl 1 rfl ?_
  refine j_aload_n C dL_law_836 rfl 0 rfl ?_
  refine j_iload_n C dL_law_837 rfl 3 rfl ?_
  refine j_iconst (v := nI 1) C dL_law_838 rfl ?_
  refine j_iaddN C dL_law_839 ?_
  refine j_sld C hB hL5 (i + 1) rfl (by omega) dL_law_840 ?_
  refine j_aload_n C dL_law_841 rfl 0 rfl ?_
  refine j_iload_n C dL_law_842 rfl 3 rfl ?_
  refine j_iconst (v := nI 2) C dL_law_843 rfl ?_
  refine j_iaddN C dL_law_844 ?_
  refine j_sld C hB hL5 (i + 2) rfl (by omega) dL_law_845 ?_
  refine j_aload_n C dL_law_846 rfl 0 rfl ?_
  refine j_iload_n C dL_law_847 rfl 3 rfl ?_
  refine j_iconst (v := nI 3) C dL_law_848 rfl ?_
  refine j_iaddN C dL_law_849 ?_
  refine j_sld C hB hL5 (i + 3) rfl (by omega) dL_law_850 ?_
  refine j_aload_n C dL_law_851 rfl 0 rfl ?_
  refine j_iload_n C dL_law_852 rfl 3 rfl ?_
  refine j_iconst (v := nI 4) C dL_law_853 rfl ?_
  refine j_iaddN C dL_law_854 ?_
  refine j_sld C hB hL5 (i + 4) rfl (by omega) dL_law_855 ?_
  refine j_aload_n C dL_law_856 rfl 0 rfl ?_
  refine j_iload_n C dL_law_857 rfl 3 rfl ?_
  refine j_iconst (v := nI 5) C dL_law_858 rfl ?_
  refine j_iaddN C dL_law_859 ?_
  refine j_sld C hB hL5 (i + 5) rfl (by omega) dL_law_860 ?_
  refine j_aload_n C dL_law_861 rfl 0 rfl ?_
  refine j_iload_n C dL_law_862 rfl 3 rfl ?_
  refine j_bipush (v := nI 6) C dL_law_863 rfl ?_
  refine j_iaddN C dL_law_865 ?_
  refine j_sld C hB hL5 (i + 6) rfl (by omega) dL_law_866 ?_
  refine j_aload_n C dL_law_867 rfl 0 rfl ?_
  refine j_iload_n C dL_law_868 rfl 3 rfl ?_
  refine j_bipush (v := nI 7) C dL_law_869 rfl ?_
  refine j_iaddN C dL_law_871 ?_
  refine j_sld C hB hL5 (i + 7) rfl (by omega) dL_law_872 ?_
  have q := lw_fitsOf hL.1 (xs (i + 1)) (xs (i + 2)) (xs (i + 3)) (xs (i + 4)) (xs (i + 5)) (xs (i + 6)) (xs (i + 7))
  refine j_callV (w := w) C (kX0_fitsOf G hG w w x (fun σ => σ = o) V Z hL.2.1 hE (xs (i + 1)) (xs (i + 2)) (xs (i + 3)) (xs (i + 4)) (xs (i + 5)) (xs (i + 6)) (xs (i + 7)) hkV.1 (by have := hkV.2.2.1; omega) (fun y hy => (hkV.2.1 y hy).2) (fun r V1 => hm_fitsOf S (xs (i + 1)) (xs (i + 2)) (xs (i + 3)) (xs (i + 4)) (xs (i + 5)) (xs (i + 6)) (xs (i + 7)) (fun r2 S2 => r2 = r ∧ RLw S2 V1)) q.1 q.2.1 q.2.2.1 q.2.2.2) pI.ret (ci := 0) (T := TX0) hA.c0 rfl 7 q1226 q1227 q1228 q66 q1229 (by decide +kernel) rfl (by rw [hhe]; omega) (by rw [hhe]; omega) (Nat.le_of_ble_eq_true rfl) rfl dL_law_873 (by omega) (by omega) (pI.k (fun r w1 h5 => ?_))
  obtain ⟨V1, Z1, hf1, hP⟩ := h5
  refine j_aload_n C dL_law_876 rfl 2 rfl ?_
  refine j_aload_n C dL_law_877 rfl 0 rfl ?_
  refine j_iload_n C dL_law_878 rfl 3 rfl ?_
  refine j_iconst (v := nI 1) C dL_law_879 rfl ?_
  refine j_iaddN C dL_law_880 ?_
  refine j_sld C hB hL5 (i + 1) rfl (by omega) dL_law_881 ?_
  refine j_aload_n C dL_law_882 rfl 0 rfl ?_
  refine j_iload_n C dL_law_883 rfl 3 rfl ?_
  refine j_iconst (v := nI 2) C dL_law_884 rfl ?_
  refine j_iaddN C dL_law_885 ?_
  refine j_sld C hB hL5 (i + 2) rfl (by omega) dL_law_886 ?_
  refine j_aload_n C dL_law_887 rfl 0 rfl ?_
  refine j_iload_n C dL_law_888 rfl 3 rfl ?_
  refine j_iconst (v := nI 3) C dL_law_889 rfl ?_
  refine j_iaddN C dL_law_890 ?_
  refine j_sld C hB hL5 (i + 3) rfl (by omega) dL_law_891 ?_
  refine j_aload_n C dL_law_892 rfl 0 rfl ?_
  refine j_iload_n C dL_law_893 rfl 3 rfl ?_
  refine j_iconst (v := nI 4) C dL_law_894 rfl ?_
  refine j_iaddN C dL_law_895 ?_
  refine j_sld C hB hL5 (i + 4) rfl (by omega) dL_law_896 ?_
  refine j_aload_n C dL_law_897 rfl 0 rfl ?_
  refine j_iload_n C dL_law_898 rfl 3 rfl ?_
  refine j_iconst (v := nI 5) C dL_law_899 rfl ?_
  refine j_iaddN C dL_law_900 ?_
  refine j_sld C hB hL5 (i + 5) rfl (by omega) dL_law_901 ?_
  refine j_aload_n C dL_law_902 rfl 0 rfl ?_
  refine j_iload_n C dL_law_903 rfl 3 rfl ?_
  refine j_bipush (v := nI 6) C dL_law_904 rfl ?_
  refine j_iaddN C dL_law_906 ?_
  refine j_sld C hB hL5 (i + 6) rfl (by omega) dL_law_907 ?_
  refine j_aload_n C dL_law_908 rfl 0 rfl ?_
  refine j_iload_n C dL_law_909 rfl 3 rfl ?_
  refine j_bipush (v := nI 7) C dL_law_910 rfl ?_
  refine j_iaddN C dL_law_912 ?_
  refine j_sld C hB hL5 (i + 7) rfl (by omega) dL_law_913 ?_
  have e1 := (hL.2.2.kept hf1).eq
  rw [e1]
  refine j_callV (w := (mset G w1.1 o S, w1.2)) C (mX4_fitsOf G w1.1 w1.2 o S (xs (i + 1)) (xs (i + 2)) (xs (i + 3)) (xs (i + 4)) (xs (i + 5)) (xs (i + 6)) (xs (i + 7)) hkS.1 hkS.2.2.1 hw.2.2.2.2.2.2.2.2.2.2.2.1 (fun r2 S2 => r2 = r ∧ RLw S2 V1) hP.1 hP.2.1 hP.2.2.1 hP.2.2.2) pI.ret (ci := 4) (T := TX4) mset_o rfl 7 q1803 q1804 q1805 q73 q1806 (by decide +kernel) rfl (by rw [hhe]; omega) (by rw [hhe]; omega) (Nat.le_of_ble_eq_true rfl) rfl dL_law_914 (by omega) (by omega) (pM.k (fun r2 S2 hP2 => ?_))
  obtain ⟨hr2, hrl⟩ := hP2
  subst hr2
  refine j_icmp_eq C 1265 dL_law_917 (by decide) (fun c917 => ?_) (fun c917 => ?_)
  · exact ih _ _ _ _ _ _ (hL.next hf1 hrl) (by omega) (by omega)
  · exact absurd rfl c917
set_option maxHeartbeats 1000000 in
theorem lc_share (C : Cx G k cL_law "MoodFareLaw" "law" 4 (some .boolean) hh mc ms post) (hG : GH G) (hE : GE G) (hM : GM G) (hD : GD G) (hS : GS G) {L : Nat} {xs : Nat → Int32} (hB : GB G L xs) (hL5 : L ≤ 512) (hhe : hh = 1390) (hL : LI G w x o S V Z) (hi : i + 8 ≤ L) (b1 : ce + 10752 ≤ mc) (b2 : sl + 77056 ≤ ms) (ih : ∀ w2 S2 V2 Z2 ce2 sl2, LI G w2 x o S2 V2 Z2 → ce2 ≤ ce + 10752 → sl2 ≤ sl + 77056 → J G k w2 [(0, .ref (gl_z G 3)), (1, .ref x), (2, .ref o), (3, .int (nI i))] 1265 [] ce2 sl2) : J G k w [(0, .ref (gl_z G 3)), (1, .ref x), (2, .ref o), (3, .int (nI i))] 922 [] ce sl := by
  have hw := hL.1.2
  have hT := hL.1.1
  have hkV : okT V.2.1 := hw.2.1.2
  have hkS : okT (S.2.2.2 6) := by rw [← hT]; exact hkV
  have h120 : V.1 0 ≤ 120 := by rw [hw.1.1]; exact hw.2.2.2.2.2.2.2.1.1
  obtain ⟨W, hA, hv⟩ := id hL.2.1
  refine j_aload_n C dL_law_922 rfl 1 rfl ?_
  refine j_aload_n C dL_law_923 rfl 0 rfl ?_
  refine j_iload_n C dL_law_924 rfl 3 rfl ?_
  refine j_iconst (v := nI 1) C dL_law_925 rfl ?_
  refine j_iaddN C dL_law_926 ?_
  refine j_sld C hB hL5 (i + 1) rfl (by omega) dL_law_927 ?_
  refine j_aload_n C dL_law_928 rfl 0 rfl ?_
  refine j_iload_n C dL_law_929 rfl 3 rfl ?_
  refine j_iconst (v := nI 2) C dL_law_930 rfl ?_
  refine j_iaddN C dL_law_931 ?_
  refine j_sld C hB hL5 (i + 2) rfl (by omega) dL_law_932 ?_
  refine j_aload_n C dL_law_933 rfl 0 rfl ?_
  refine j_iload_n C dL_law_934 rfl 3 rfl ?_
  refine j_iconst (v := nI 3) C dL_law_935 rfl ?_
  refine j_iaddN C dL_law_936 ?_
  refine j_sld C hB hL5 (i + 3) rfl (by omega) dL_law_937 ?_
  refine j_aload_n C dL_law_938 rfl 0 rfl ?_
  refine j_iload_n C dL_law_939 rfl 3 rfl ?_
  refine j_iconst (v := nI 4) C dL_law_940 rfl ?_
  refine j_iaddN C dL_law_941 ?_
  refine j_sld C hB hL5 (i + 4) rfl (by omega) dL_law_942 ?_
  have q := lw_share hL.1 (xs (i + 1)) (xs (i + 2)) (xs (i + 3)) (xs (i + 4))
  refine j_callV (w := w) C (kX0_share G hG w w x (fun σ => σ = o) V Z hL.2.1 hE (xs (i + 1)) (xs (i + 2)) (xs (i + 3)) (xs (i + 4)) hkV.1 (by have := hkV.2.2.1; omega) (fun y hy => (hkV.2.1 y hy).2) (fun r V1 => hm_share S (xs (i + 1)) (xs (i + 2)) (xs (i + 3)) (xs (i + 4)) (fun r2 S2 => r2 = r ∧ RLw S2 V1)) q.1 q.2.1 q.2.2.1 q.2.2.2.1 q.2.2.2.2) pI.ret (ci := 0) (T := TX0) hA.c0 rfl 4 q1246 q1247 q1248 q66 q1249 (by decide +kernel) rfl (by rw [hhe]; omega) (by rw [hhe]; omega) (Nat.le_of_ble_eq_true rfl) rfl dL_law_943 (by omega) (by omega) (pI.k (fun r w1 h5 => ?_))
  obtain ⟨V1, Z1, hf1, hP⟩ := h5
  refine j_aload_n C dL_law_946 rfl 2 rfl ?_
  refine j_aload_n C dL_law_947 rfl 0 rfl ?_
  refine j_iload_n C dL_law_948 rfl 3 rfl ?_
  refine j_iconst (v := nI 1) C dL_law_949 rfl ?_
  refine j_iaddN C dL_law_950 ?_
  refine j_sld C hB hL5 (i + 1) rfl (by omega) dL_law_951 ?_
  refine j_aload_n C dL_law_952 rfl 0 rfl ?_
  refine j_iload_n C dL_law_953 rfl 3 rfl ?_
  refine j_iconst (v := nI 2) C dL_law_954 rfl ?_
  refine j_iaddN C dL_law_955 ?_
  refine j_sld C hB hL5 (i + 2) rfl (by omega) dL_law_956 ?_
  refine j_aload_n C dL_law_957 rfl 0 rfl ?_
  refine j_iload_n C dL_law_958 rfl 3 rfl ?_
  refine j_iconst (v := nI 3) C dL_law_959 rfl ?_
  refine j_iaddN C dL_law_960 ?_
  refine j_sld C hB hL5 (i + 3) rfl (by omega) dL_law_961 ?_
  refine j_aload_n C dL_law_962 rfl 0 rfl ?_
  refine j_iload_n C dL_law_963 rfl 3 rfl ?_
  refine j_iconst (v := nI 4) C dL_law_964 rfl ?_
  refine j_iaddN C dL_law_965 ?_
  refine j_sld C hB hL5 (i + 4) rfl (by omega) dL_law_966 ?_
  have e1 := (hL.2.2.kept hf1).eq
  rw [e1]
  refine j_callV (w := (mset G w1.1 o S, w1.2)) C (mX4_share G w1.1 w1.2 o S (xs (i + 1)) (xs (i + 2)) (xs (i + 3)) (xs (i + 4)) hkS.1 hkS.2.2.1 hw.2.2.2.2.2.2.2.2.2.2.2.1 (fun r2 S2 => r2 = r ∧ RLw S2 V1) hP.1 hP.2.1 hP.2.2.1 hP.2.2.2.1 hP.2.2.2.2.1 hP.2.2.2.2.2) pI.ret (ci := 4) (T := TX4) mset_o rfl 4 q1807 q1808 q1809 q73 q1810 (by decide +kernel) rfl (by rw [hhe]; omega) (by rw [hhe]; omega) (Nat.le_of_ble_eq_true rfl) rfl dL_law_967 (by omega) (by omega) (pM.k (fun r2 S2 hP2 => ?_))
  obtain ⟨hr2, hrl⟩ := hP2
  subst hr2
  refine j_icmp_eq C 1265 dL_law_970 (by decide) (fun c970 => ?_) (fun c970 => ?_)
  · exact ih _ _ _ _ _ _ (hL.next hf1 hrl) (by omega) (by omega)
  · exact absurd rfl c970
set_option maxHeartbeats 1000000 in
theorem lc_shut (C : Cx G k cL_law "MoodFareLaw" "law" 4 (some .boolean) hh mc ms post) (hG : GH G) (hE : GE G) (hM : GM G) (hD : GD G) (hS : GS G) {L : Nat} {xs : Nat → Int32} (hB : GB G L xs) (hL5 : L ≤ 512) (hhe : hh = 1390) (hL : LI G w x o S V Z) (hi : i + 8 ≤ L) (b1 : ce + 10752 ≤ mc) (b2 : sl + 77056 ≤ ms) (ih : ∀ w2 S2 V2 Z2 ce2 sl2, LI G w2 x o S2 V2 Z2 → ce2 ≤ ce + 10752 → sl2 ≤ sl + 77056 → J G k w2 [(0, .ref (gl_z G 3)), (1, .ref x), (2, .ref o), (3, .int (nI i))] 1265 [] ce2 sl2) : J G k w [(0, .ref (gl_z G 3)), (1, .ref x), (2, .ref o), (3, .int (nI i))] 975 [] ce sl := by
  have hw := hL.1.2
  have hT := hL.1.1
  have hkV : okT V.2.1 := hw.2.1.2
  have hkS : okT (S.2.2.2 6) := by rw [← hT]; exact hkV
  have h120 : V.1 0 ≤ 120 := by rw [hw.1.1]; exact hw.2.2.2.2.2.2.2.1.1
  obtain ⟨W, hA, hv⟩ := id hL.2.1
  refine j_aload_n C dL_law_975 rfl 1 rfl ?_
  refine j_aload_n C dL_law_976 rfl 0 rfl ?_
  refine j_iload_n C dL_law_977 rfl 3 rfl ?_
  refine j_iconst (v := nI 1) C dL_law_978 rfl ?_
  refine j_iaddN C dL_law_979 ?_
  refine j_sld C hB hL5 (i + 1) rfl (by omega) dL_law_980 ?_
  refine j_aload_n C dL_law_981 rfl 0 rfl ?_
  refine j_iload_n C dL_law_982 rfl 3 rfl ?_
  refine j_iconst (v := nI 2) C dL_law_983 rfl ?_
  refine j_iaddN C dL_law_984 ?_
  refine j_sld C hB hL5 (i + 2) rfl (by omega) dL_law_985 ?_
  refine j_aload_n C dL_law_986 rfl 0 rfl ?_
  refine j_iload_n C dL_law_987 rfl 3 rfl ?_
  refine j_iconst (v := nI 3) C dL_law_988 rfl ?_
  refine j_iaddN C dL_law_989 ?_
  refine j_sld C hB hL5 (i + 3) rfl (by omega) dL_law_990 ?_
  refine j_aload_n C dL_law_991 rfl 0 rfl ?_
  refine j_iload_n C dL_law_992 rfl 3 rfl ?_
  refine j_iconst (v := nI 4) C dL_law_993 rfl ?_
  refine j_iaddN C dL_law_994 ?_
  refine j_sld C hB hL5 (i + 4) rfl (by omega) dL_law_995 ?_
  have q := lw_shut_ hL.1 (xs (i + 1)) (xs (i + 2)) (xs (i + 3)) (xs (i + 4))
  refine j_callV (w := w) C (kX0_shut G hG w w x (fun σ => σ = o) V Z hL.2.1 (xs (i + 1)) (xs (i + 2)) (xs (i + 3)) (xs (i + 4)) hkV.1 (by have := hkV.2.2.1; omega) (fun y hy => (hkV.2.1 y hy).2) (fun c hc => blG_belF hc hkV.1.2.2.2.2.2.2.2.2.1 hkV.2.2.2) (fun r V1 => hm_shut S (xs (i + 1)) (xs (i + 2)) (xs (i + 3)) (xs (i + 4)) (fun r2 S2 => r2 = r ∧ RLw S2 V1)) q.1 q.2) pI.ret (ci := 0) (T := TX0) hA.c0 rfl 4 q1263 q1264 q1265 q66 q1266 (by decide +kernel) rfl (by rw [hhe]; omega) (by rw [hhe]; omega) (Nat.le_of_ble_eq_true rfl) rfl dL_law_996 (by omega) (by omega) (pI.k (fun r w1 h5 => ?_))
  obtain ⟨V1, Z1, hf1, hP⟩ := h5
  refine j_aload_n C dL_law_999 rfl 2 rfl ?_
  refine j_aload_n C dL_law_1000 rfl 0 rfl ?_
  refine j_iload_n C dL_law_1001 rfl 3 rfl ?_
  refine j_iconst (v := nI 1) C dL_law_1002 rfl ?_
  refine j_iaddN C dL_law_1003 ?_
  refine j_sld C hB hL5 (i + 1) rfl (by omega) dL_law_1004 ?_
  refine j_aload_n C dL_law_1005 rfl 0 rfl ?_
  refine j_iload_n C dL_law_1006 rfl 3 rfl ?_
  refine j_iconst (v := nI 2) C dL_law_1007 rfl ?_
  refine j_iaddN C dL_law_1008 ?_
  refine j_sld C hB hL5 (i + 2) rfl (by omega) dL_law_1009 ?_
  refine j_aload_n C dL_law_1010 rfl 0 rfl ?_
  refine j_iload_n C dL_law_1011 rfl 3 rfl ?_
  refine j_iconst (v := nI 3) C dL_law_1012 rfl ?_
  refine j_iaddN C dL_law_1013 ?_
  refine j_sld C hB hL5 (i + 3) rfl (by omega) dL_law_1014 ?_
  refine j_aload_n C dL_law_1015 rfl 0 rfl ?_
  refine j_iload_n C dL_law_1016 rfl 3 rfl ?_
  refine j_iconst (v := nI 4) C dL_law_1017 rfl ?_
  refine j_iaddN C dL_law_1018 ?_
  refine j_sld C hB hL5 (i + 4) rfl (by omega) dL_law_1019 ?_
  have e1 := (hL.2.2.kept hf1).eq
  rw [e1]
  refine j_callV (w := (mset G w1.1 o S, w1.2)) C (mX4_shut G w1.1 w1.2 o S (xs (i + 1)) (xs (i + 2)) (xs (i + 3)) (xs (i + 4)) hkS.1 hkS.2.2.1 (fun r2 S2 => r2 = r ∧ RLw S2 V1) hP.1 hP.2) pI.ret (ci := 4) (T := TX4) mset_o rfl 4 q1811 q1812 q1813 q73 q1814 (by decide +kernel) rfl (by rw [hhe]; omega) (by rw [hhe]; omega) (Nat.le_of_ble_eq_true rfl) rfl dL_law_1020 (by omega) (by omega) (pM.k (fun r2 S2 hP2 => ?_))
  obtain ⟨hr2, hrl⟩ := hP2
  subst hr2
  refine j_icmp_eq C 1265 dL_law_1023 (by decide) (fun c1023 => ?_) (fun c1023 => ?_)
  · exact ih _ _ _ _ _ _ (hL.next hf1 hrl) (by omega) (by omega)
  · exact absurd rfl c1023
set_option maxHeartbeats 1000000 in
theorem lc_drawn (C : Cx G k cL_law "MoodFareLaw" "law" 4 (some .boolean) hh mc ms post) (hG : GH G) (hE : GE G) (hM : GM G) (hD : GD G) (hS : GS G) {L : Nat} {xs : Nat → Int32} (hB : GB G L xs) (hL5 : L ≤ 512) (hhe : hh = 1390) (hL : LI G w x o S V Z) (hi : i + 8 ≤ L) (b1 : ce + 10752 ≤ mc) (b2 : sl + 77056 ≤ ms) (ih : ∀ w2 S2 V2 Z2 ce2 sl2, LI G w2 x o S2 V2 Z2 → ce2 ≤ ce + 10752 → sl2 ≤ sl + 77056 → J G k w2 [(0, .ref (gl_z G 3)), (1, .ref x), (2, .ref o), (3, .int (nI i))] 1265 [] ce2 sl2) : J G k w [(0, .ref (gl_z G 3)), (1, .ref x), (2, .ref o), (3, .int (nI i))] 1028 [] ce sl := by
  have hw := hL.1.2
  have hT := hL.1.1
  have hkV : okT V.2.1 := hw.2.1.2
  have hkS : okT (S.2.2.2 6) := by rw [← hT]; exact hkV
  have h120 : V.1 0 ≤ 120 := by rw [hw.1.1]; exact hw.2.2.2.2.2.2.2.1.1
  obtain ⟨W, hA, hv⟩ := id hL.2.1
  refine j_aload_n C dL_law_1028 rfl 1 rfl ?_
  refine j_aload_n C dL_law_1029 rfl 0 rfl ?_
  refine j_iload_n C dL_law_1030 rfl 3 rfl ?_
  refine j_iconst (v := nI 1) C dL_law_1031 rfl ?_
  refine j_iaddN C dL_law_1032 ?_
  refine j_sld C hB hL5 (i + 1) rfl (by omega) dL_law_1033 ?_
  refine j_aload_n C dL_law_1034 rfl 0 rfl ?_
  refine j_iload_n C dL_law_1035 rfl 3 rfl ?_
  refine j_iconst (v := nI 2) C dL_law_1036 rfl ?_
  refine j_iaddN C dL_law_1037 ?_
  refine j_sld C hB hL5 (i + 2) rfl (by omega) dL_law_1038 ?_
  refine j_aload_n C dL_law_1039 rfl 0 rfl ?_
  refine j_iload_n C dL_law_1040 rfl 3 rfl ?_
  refine j_iconst (v := nI 3) C dL_law_1041 rfl ?_
  refine j_iaddN C dL_law_1042 ?_
  refine j_sld C hB hL5 (i + 3) rfl (by omega) dL_law_1043 ?_
  have q := lw_drawn hL.1 (xs (i + 1)) (xs (i + 2)) (xs (i + 3))
  refine j_callV (w := w) C (kX0_drawn G hG w w x (fun σ => σ = o) V Z hL.2.1 (xs (i + 1)) (xs (i + 2)) (xs (i + 3)) hkV.1 (by have := hkV.2.2.1; omega) (fun y hy => (hkV.2.1 y hy).2) (fun r V1 => hm_drawn S (xs (i + 1)) (xs (i + 2)) (xs (i + 3)) (fun r2 S2 => r2 = r ∧ RLw S2 V1)) q.1 q.2.1 q.2.2.1 q.2.2.2) pI.ret (ci := 0) (T := TX0) hA.c0 rfl 3 q1272 q1273 q1274 q66 q1275 (by decide +kernel) rfl (by rw [hhe]; omega) (by rw [hhe]; omega) (Nat.le_of_ble_eq_true rfl) rfl dL_law_1044 (by omega) (by omega) (pI.k (fun r w1 h5 => ?_))
  obtain ⟨V1, Z1, hf1, hP⟩ := h5
  refine j_aload_n C dL_law_1047 rfl 2 rfl ?_
  refine j_aload_n C dL_law_1048 rfl 0 rfl ?_
  refine j_iload_n C dL_law_1049 rfl 3 rfl ?_
  refine j_iconst (v := nI 1) C dL_law_1050 rfl ?_
  refine j_iaddN C dL_law_1051 ?_
  refine j_sld C hB hL5 (i + 1) rfl (by omega) dL_law_1052 ?_
  refine j_aload_n C dL_law_1053 rfl 0 rfl ?_
  refine j_iload_n C dL_law_1054 rfl 3 rfl ?_
  refine j_iconst (v := nI 2) C dL_law_1055 rfl ?_
  refine j_iaddN C dL_law_1056 ?_
  refine j_sld C hB hL5 (i + 2) rfl (by omega) dL_law_1057 ?_
  refine j_aload_n C dL_law_1058 rfl 0 rfl ?_
  refine j_iload_n C dL_law_1059 rfl 3 rfl ?_
  refine j_iconst (v := nI 3) C dL_law_1060 rfl ?_
  refine j_iaddN C dL_law_1061 ?_
  refine j_sld C hB hL5 (i + 3) rfl (by omega) dL_law_1062 ?_
  have e1 := (hL.2.2.kept hf1).eq
  rw [e1]
  refine j_callV (w := (mset G w1.1 o S, w1.2)) C (mX4_drawn G w1.1 w1.2 o S (xs (i + 1)) (xs (i + 2)) (xs (i + 3)) hkS.1 hkS.2.2.1 (fun r2 S2 => r2 = r ∧ RLw S2 V1) hP.1 hP.2.1 hP.2.2.1 hP.2.2.2) pI.ret (ci := 4) (T := TX4) mset_o rfl 3 q1815 q1816 q1817 q73 q1818 (by decide +kernel) rfl (by rw [hhe]; omega) (by rw [hhe]; omega) (Nat.le_of_ble_eq_true rfl) rfl dL_law_1063 (by omega) (by omega) (pM.k (fun r2 S2 hP2 => ?_))
  obtain ⟨hr2, hrl⟩ := hP2
  subst hr2
  refine j_icmp_eq C 1265 dL_law_1066 (by decide) (fun c1066 => ?_) (fun c1066 => ?_)
  · exact ih _ _ _ _ _ _ (hL.next hf1 hrl) (by omega) (by omega)
  · exact absurd rfl c1066
set_option maxHeartbeats 1000000 in
theorem lc_image (C : Cx G k cL_law "MoodFareLaw" "law" 4 (some .boolean) hh mc ms post) (hG : GH G) (hE : GE G) (hM : GM G) (hD : GD G) (hS : GS G) {L : Nat} {xs : Nat → Int32} (hB : GB G L xs) (hL5 : L ≤ 512) (hhe : hh = 1390) (hL : LI G w x o S V Z) (hi : i + 8 ≤ L) (b1 : ce + 10752 ≤ mc) (b2 : sl + 77056 ≤ ms) (ih : ∀ w2 S2 V2 Z2 ce2 sl2, LI G w2 x o S2 V2 Z2 → ce2 ≤ ce + 10752 → sl2 ≤ sl + 77056 → J G k w2 [(0, .ref (gl_z G 3)), (1, .ref x), (2, .ref o), (3, .int (nI i))] 1265 [] ce2 sl2) : J G k w [(0, .ref (gl_z G 3)), (1, .ref x), (2, .ref o), (3, .int (nI i))] 1071 [] ce sl := by
  have hw := hL.1.2
  have hT := hL.1.1
  have hkV : okT V.2.1 := hw.2.1.2
  have hkS : okT (S.2.2.2 6) := by rw [← hT]; exact hkV
  have h120 : V.1 0 ≤ 120 := by rw [hw.1.1]; exact hw.2.2.2.2.2.2.2.1.1
  obtain ⟨W, hA, hv⟩ := id hL.2.1
  refine j_aload_n C dL_law_1071 rfl 1 rfl ?_
  refine j_aload_n C dL_law_1072 rfl 0 rfl ?_
  refine j_iload_n C dL_law_1073 rfl 3 rfl ?_
  refine j_iconst (v := nI 1) C dL_law_1074 rfl ?_
  refine j_iaddN C dL_law_1075 ?_
  refine j_sld C hB hL5 (i + 1) rfl (by omega) dL_law_1076 ?_
  have q := lw_image hL.1 (xs (i + 1))
  refine j_callV (w := w) C (kX0_image G hG w w x (fun σ => σ = o) V Z hL.2.1 (xs (i + 1)) hkV.1 (fun r V1 => hm_image S (xs (i + 1)) (fun r2 S2 => r2 = r ∧ RLw S2 V1)) q.1 q.2.1 q.2.2) pI.ret (ci := 0) (T := TX0) hA.c0 rfl 1 q1280 q1281 q1282 q66 q1283 (by decide +kernel) rfl (by rw [hhe]; omega) (by rw [hhe]; omega) (Nat.le_of_ble_eq_true rfl) rfl dL_law_1077 (by omega) (by omega) (pI.k (fun r w1 h5 => ?_))
  obtain ⟨V1, Z1, hf1, hP⟩ := h5
  refine j_aload_n C dL_law_1080 rfl 2 rfl ?_
  refine j_aload_n C dL_law_1081 rfl 0 rfl ?_
  refine j_iload_n C dL_law_1082 rfl 3 rfl ?_
  refine j_iconst (v := nI 1) C dL_law_1083 rfl ?_
  refine j_iaddN C dL_law_1084 ?_
  refine j_sld C hB hL5 (i + 1) rfl (by omega) dL_law_1085 ?_
  have e1 := (hL.2.2.kept hf1).eq
  rw [e1]
  refine j_callV (w := (mset G w1.1 o S, w1.2)) C (mX4_image G w1.1 w1.2 o S (xs (i + 1)) hkS.1 (fun r2 S2 => r2 = r ∧ RLw S2 V1) hP.1 hP.2.1 hP.2.2) pI.ret (ci := 4) (T := TX4) mset_o rfl 1 q1826 q1827 q1828 q73 q1829 (by decide +kernel) rfl (by rw [hhe]; omega) (by rw [hhe]; omega) (Nat.le_of_ble_eq_true rfl) rfl dL_law_1086 (by omega) (by omega) (pM.k (fun r2 S2 hP2 => ?_))
  obtain ⟨hr2, hrl⟩ := hP2
  subst hr2
  refine j_icmp_eq C 1265 dL_law_1089 (by decide) (fun c1089 => ?_) (fun c1089 => ?_)
  · exact ih _ _ _ _ _ _ (hL.next hf1 hrl) (by omega) (by omega)
  · exact absurd rfl c1089
set_option maxHeartbeats 1000000 in
theorem lc_restore (C : Cx G k cL_law "MoodFareLaw" "law" 4 (some .boolean) hh mc ms post) (hG : GH G) (hE : GE G) (hM : GM G) (hD : GD G) (hS : GS G) {L : Nat} {xs : Nat → Int32} (hB : GB G L xs) (hL5 : L ≤ 512) (hhe : hh = 1390) (hL : LI G w x o S V Z) (hi : i + 8 ≤ L) (b1 : ce + 10752 ≤ mc) (b2 : sl + 77056 ≤ ms) (ih : ∀ w2 S2 V2 Z2 ce2 sl2, LI G w2 x o S2 V2 Z2 → ce2 ≤ ce + 10752 → sl2 ≤ sl + 77056 → J G k w2 [(0, .ref (gl_z G 3)), (1, .ref x), (2, .ref o), (3, .int (nI i))] 1265 [] ce2 sl2) : J G k w [(0, .ref (gl_z G 3)), (1, .ref x), (2, .ref o), (3, .int (nI i))] 1094 [] ce sl := by
  have hw := hL.1.2
  have hT := hL.1.1
  have hkV : okT V.2.1 := hw.2.1.2
  have hkS : okT (S.2.2.2 6) := by rw [← hT]; exact hkV
  have h120 : V.1 0 ≤ 120 := by rw [hw.1.1]; exact hw.2.2.2.2.2.2.2.1.1
  obtain ⟨W, hA, hv⟩ := id hL.2.1
  refine j_aload_n C dL_law_1094 rfl 1 rfl ?_
  refine j_aload_n C dL_law_1095 rfl 0 rfl ?_
  refine j_iload_n C dL_law_1096 rfl 3 rfl ?_
  refine j_iconst (v := nI 1) C dL_law_1097 rfl ?_
  refine j_iaddN C dL_law_1098 ?_
  refine j_sld C hB hL5 (i + 1) rfl (by omega) dL_law_1099 ?_
  have q := lw_restore hL.1 (xs (i + 1))
  refine j_callV (w := w) C (kX0_restore G hG w w x (fun σ => σ = o) V Z hL.2.1 (xs (i + 1)) (fun r V1 => hm_restore S (xs (i + 1)) (fun r2 S2 => r2 = r ∧ RLw S2 V1)) q.1 q.2.1 q.2.2) pI.ret (ci := 0) (T := TX0) hA.c0 rfl 1 q1284 q1285 q1286 q66 q1287 (by decide +kernel) rfl (by rw [hhe]; omega) (by rw [hhe]; omega) (Nat.le_of_ble_eq_true rfl) rfl dL_law_1100 (by omega) (by omega) (pI.k (fun r w1 h5 => ?_))
  obtain ⟨V1, Z1, hf1, hP⟩ := h5
  refine j_aload_n C dL_law_1103 rfl 2 rfl ?_
  refine j_aload_n C dL_law_1104 rfl 0 rfl ?_
  refine j_iload_n C dL_law_1105 rfl 3 rfl ?_
  refine j_iconst (v := nI 1) C dL_law_1106 rfl ?_
  refine j_iaddN C dL_law_1107 ?_
  refine j_sld C hB hL5 (i + 1) rfl (by omega) dL_law_1108 ?_
  have e1 := (hL.2.2.kept hf1).eq
  rw [e1]
  refine j_callV (w := (mset G w1.1 o S, w1.2)) C (mX4_restore G w1.1 w1.2 o S (xs (i + 1)) hw.2.2.2.2.2.2.2.2.2.2.2.2 (fun r2 S2 => r2 = r ∧ RLw S2 V1) hP.1 hP.2.1 hP.2.2) pI.ret (ci := 4) (T := TX4) mset_o rfl 1 q1830 q1831 q1832 q73 q1833 (by decide +kernel) rfl (by rw [hhe]; omega) (by rw [hhe]; omega) (Nat.le_of_ble_eq_true rfl) rfl dL_law_1109 (by omega) (by omega) (pM.k (fun r2 S2 hP2 => ?_))
  obtain ⟨hr2, hrl⟩ := hP2
  subst hr2
  refine j_icmp_eq C 1265 dL_law_1112 (by decide) (fun c1112 => ?_) (fun c1112 => ?_)
  · exact ih _ _ _ _ _ _ (hL.next hf1 hrl) (by omega) (by omega)
  · exact absurd rfl c1112
set_option maxHeartbeats 1000000 in
theorem lc_kind (C : Cx G k cL_law "MoodFareLaw" "law" 4 (some .boolean) hh mc ms post) (hG : GH G) (hE : GE G) (hM : GM G) (hD : GD G) (hS : GS G) {L : Nat} {xs : Nat → Int32} (hB : GB G L xs) (hL5 : L ≤ 512) (hhe : hh = 1390) (hL : LI G w x o S V Z) (hi : i + 8 ≤ L) (b1 : ce + 10752 ≤ mc) (b2 : sl + 77056 ≤ ms) (ih : ∀ w2 S2 V2 Z2 ce2 sl2, LI G w2 x o S2 V2 Z2 → ce2 ≤ ce + 10752 → sl2 ≤ sl + 77056 → J G k w2 [(0, .ref (gl_z G 3)), (1, .ref x), (2, .ref o), (3, .int (nI i))] 1265 [] ce2 sl2) : J G k w [(0, .ref (gl_z G 3)), (1, .ref x), (2, .ref o), (3, .int (nI i))] 1117 [] ce sl := by
  have hw := hL.1.2
  have hT := hL.1.1
  have hkV : okT V.2.1 := hw.2.1.2
  have hkS : okT (S.2.2.2 6) := by rw [← hT]; exact hkV
  have h120 : V.1 0 ≤ 120 := by rw [hw.1.1]; exact hw.2.2.2.2.2.2.2.1.1
  obtain ⟨W, hA, hv⟩ := id hL.2.1
  refine j_aload_n C dL_law_1117 rfl 1 rfl ?_
  refine j_aload_n C dL_law_1118 rfl 0 rfl ?_
  refine j_iload_n C dL_law_1119 rfl 3 rfl ?_
  refine j_iconst (v := nI 1) C dL_law_1120 rfl ?_
  refine j_iaddN C dL_law_1121 ?_
  refine j_sld C hB hL5 (i + 1) rfl (by omega) dL_law_1122 ?_
  have q := lw_kind hL.1 (xs (i + 1))
  refine j_callV (w := w) C (kX0_kind G hG w w x (fun σ => σ = o) V Z hL.2.1 (xs (i + 1)) (fun r V1 => hm_kind S (xs (i + 1)) (fun r2 S2 => r2 = r ∧ RLw S2 V1)) hkV.1.2.2.2.2.2.2.1 q.1 q.2) pI.ret (ci := 0) (T := TX0) hA.c0 rfl 1 q1288 q1289 q1290 q66 q1291 (by decide +kernel) rfl (by rw [hhe]; omega) (by rw [hhe]; omega) (Nat.le_of_ble_eq_true rfl) rfl dL_law_1123 (by omega) (by omega) (pI.k (fun r w1 h5 => ?_))
  obtain ⟨V1, Z1, hf1, hP⟩ := h5
  refine j_aload_n C dL_law_1126 rfl 2 rfl ?_
  refine j_aload_n C dL_law_1127 rfl 0 rfl ?_
  refine j_iload_n C dL_law_1128 rfl 3 rfl ?_
  refine j_iconst (v := nI 1) C dL_law_1129 rfl ?_
  refine j_iaddN C dL_law_1130 ?_
  refine j_sld C hB hL5 (i + 1) rfl (by omega) dL_law_1131 ?_
  have e1 := (hL.2.2.kept hf1).eq
  rw [e1]
  refine j_callV (w := (mset G w1.1 o S, w1.2)) C (mX4_kind G w1.1 w1.2 o S (xs (i + 1)) hkS.1 (fun r2 S2 => r2 = r ∧ RLw S2 V1) hP.1 hP.2) pI.ret (ci := 4) (T := TX4) mset_o rfl 1 q1834 q1835 q1836 q73 q1837 (by decide +kernel) rfl (by rw [hhe]; omega) (by rw [hhe]; omega) (Nat.le_of_ble_eq_true rfl) rfl dL_law_1132 (by omega) (by omega) (pM.k (fun r2 S2 hP2 => ?_))
  obtain ⟨hr2, hrl⟩ := hP2
  subst hr2
  refine j_icmp_eq C 1265 dL_law_1135 (by decide) (fun c1135 => ?_) (fun c1135 => ?_)
  · exact ih _ _ _ _ _ _ (hL.next hf1 hrl) (by omega) (by omega)
  · exact absurd rfl c1135
set_option maxHeartbeats 1000000 in
theorem lc_as (C : Cx G k cL_law "MoodFareLaw" "law" 4 (some .boolean) hh mc ms post) (hG : GH G) (hE : GE G) (hM : GM G) (hD : GD G) (hS : GS G) {L : Nat} {xs : Nat → Int32} (hB : GB G L xs) (hL5 : L ≤ 512) (hhe : hh = 1390) (hL : LI G w x o S V Z) (hi : i + 8 ≤ L) (b1 : ce + 10752 ≤ mc) (b2 : sl + 77056 ≤ ms) (ih : ∀ w2 S2 V2 Z2 ce2 sl2, LI G w2 x o S2 V2 Z2 → ce2 ≤ ce + 10752 → sl2 ≤ sl + 77056 → J G k w2 [(0, .ref (gl_z G 3)), (1, .ref x), (2, .ref o), (3, .int (nI i))] 1265 [] ce2 sl2) : J G k w [(0, .ref (gl_z G 3)), (1, .ref x), (2, .ref o), (3, .int (nI i))] 1140 [] ce sl := by
  have hw := hL.1.2
  have hT := hL.1.1
  have hkV : okT V.2.1 := hw.2.1.2
  have hkS : okT (S.2.2.2 6) := by rw [← hT]; exact hkV
  have h120 : V.1 0 ≤ 120 := by rw [hw.1.1]; exact hw.2.2.2.2.2.2.2.1.1
  obtain ⟨W, hA, hv⟩ := id hL.2.1
  refine j_aload_n C dL_law_1140 rfl 1 rfl ?_
  refine j_aload_n C dL_law_1141 rfl 0 rfl ?_
  refine j_iload_n C dL_law_1142 rfl 3 rfl ?_
  refine j_iconst (v := nI 1) C dL_law_1143 rfl ?_
  refine j_iaddN C dL_law_1144 ?_
  refine j_sld C hB hL5 (i + 1) rfl (by omega) dL_law_1145 ?_
  refine j_aload_n C dL_law_1146 rfl 0 rfl ?_
  refine j_iload_n C dL_law_1147 rfl 3 rfl ?_
  refine j_iconst (v := nI 2) C dL_law_1148 rfl ?_
  refine j_iaddN C dL_law_1149 ?_
  refine j_sld C hB hL5 (i + 2) rfl (by omega) dL_law_1150 ?_
  have q := lw_as hL.1 (xs (i + 1)) (xs (i + 2))
  refine j_in (w := w) C (iv_V C (ci := 0) (Tt := TX0) hA.c0 rfl (Or.inl q1313) 2 q1310 q1311 q1312 (by decide +kernel) rfl rfl dL_law_1151) (kX0_as G hG w w x (fun σ => σ = o) V Z hL.2.1 hE hM (xs (i + 1)) (xs (i + 2)) hkV.1.2.2.2.2.2.2.1 (fun r V1 => hm_as S (xs (i + 1)) (xs (i + 2)) (fun r2 S2 => r2 = r ∧ RLw S2 V1)) q.1 q.2.1 q.2.2) (Or.inl q1313) (by decide +kernel) (by rw [hhe]; omega) (by rw [hhe]; omega) (Nat.le_of_ble_eq_true rfl) (by omega) (by omega) (fun v w1 h5 => ?_) (fun a w1 h5 => ?_)
  rotate_left
  · obtain ⟨r5, hr5, _⟩ := h5
    cases hr5
  obtain ⟨r, hr5, V1, Z1, hf1, hP⟩ := h5
  cases hr5
  refine j_aload_n C dL_law_1154 rfl 2 rfl ?_
  refine j_aload_n C dL_law_1155 rfl 0 rfl ?_
  refine j_iload_n C dL_law_1156 rfl 3 rfl ?_
  refine j_iconst (v := nI 1) C dL_law_1157 rfl ?_
  refine j_iaddN C dL_law_1158 ?_
  refine j_sld C hB hL5 (i + 1) rfl (by omega) dL_law_1159 ?_
  refine j_aload_n C dL_law_1160 rfl 0 rfl ?_
  refine j_iload_n C dL_law_1161 rfl 3 rfl ?_
  refine j_iconst (v := nI 2) C dL_law_1162 rfl ?_
  refine j_iaddN C dL_law_1163 ?_
  refine j_sld C hB hL5 (i + 2) rfl (by omega) dL_law_1164 ?_
  have e1 := (hL.2.2.kept hf1).eq
  rw [e1]
  refine j_callV (w := (mset G w1.1 o S, w1.2)) C (mX4_as G w1.1 w1.2 o S (xs (i + 1)) (xs (i + 2)) hkS.1 (fun r2 S2 => r2 = r ∧ RLw S2 V1) hP.1 hP.2.1 hP.2.2) pI.ret (ci := 4) (T := TX4) mset_o rfl 2 q1842 q1843 q1844 q73 q1845 (by decide +kernel) rfl (by rw [hhe]; omega) (by rw [hhe]; omega) (Nat.le_of_ble_eq_true rfl) rfl dL_law_1165 (by omega) (by omega) (pM.k (fun r2 S2 hP2 => ?_))
  obtain ⟨hr2, hrl⟩ := hP2
  subst hr2
  refine j_icmp_eq C 1265 dL_law_1168 (by decide) (fun c1168 => ?_) (fun c1168 => ?_)
  · exact ih _ _ _ _ _ _ (hL.next hf1 hrl) (by omega) (by omega)
  · exact absurd rfl c1168
set_option maxHeartbeats 1000000 in
theorem lc_ask (C : Cx G k cL_law "MoodFareLaw" "law" 4 (some .boolean) hh mc ms post) (hG : GH G) (hE : GE G) (hM : GM G) (hD : GD G) (hS : GS G) {L : Nat} {xs : Nat → Int32} (hB : GB G L xs) (hL5 : L ≤ 512) (hhe : hh = 1390) (hL : LI G w x o S V Z) (hi : i + 8 ≤ L) (b1 : ce + 10752 ≤ mc) (b2 : sl + 77056 ≤ ms) (ih : ∀ w2 S2 V2 Z2 ce2 sl2, LI G w2 x o S2 V2 Z2 → ce2 ≤ ce + 10752 → sl2 ≤ sl + 77056 → J G k w2 [(0, .ref (gl_z G 3)), (1, .ref x), (2, .ref o), (3, .int (nI i))] 1265 [] ce2 sl2) : J G k w [(0, .ref (gl_z G 3)), (1, .ref x), (2, .ref o), (3, .int (nI i))] 1173 [] ce sl := by
  have hw := hL.1.2
  have hT := hL.1.1
  have hkV : okT V.2.1 := hw.2.1.2
  have hkS : okT (S.2.2.2 6) := by rw [← hT]; exact hkV
  have h120 : V.1 0 ≤ 120 := by rw [hw.1.1]; exact hw.2.2.2.2.2.2.2.1.1
  obtain ⟨W, hA, hv⟩ := id hL.2.1
  refine j_aload_n C dL_law_1173 rfl 1 rfl ?_
  refine j_aload_n C dL_law_1174 rfl 0 rfl ?_
  refine j_iload_n C dL_law_1175 rfl 3 rfl ?_
  refine j_iconst (v := nI 1) C dL_law_1176 rfl ?_
  refine j_iaddN C dL_law_1177 ?_
  refine j_sld C hB hL5 (i + 1) rfl (by omega) dL_law_1178 ?_
  refine j_aload_n C dL_law_1179 rfl 0 rfl ?_
  refine j_iload_n C dL_law_1180 rfl 3 rfl ?_
  refine j_iconst (v := nI 2) C dL_law_1181 rfl ?_
  refine j_iaddN C dL_law_1182 ?_
  refine j_sld C hB hL5 (i + 2) rfl (by omega) dL_law_1183 ?_
  have q := lw_ask hL.1 (xs (i + 1)) (xs (i + 2))
  refine j_callV (w := w) C (kX0_ask G hG w w x (fun σ => σ = o) V Z hL.2.1 hD (xs (i + 1)) (xs (i + 2)) hkV.1.2.2.2.2.2.2.1 (fun r V1 => hm_ask S (xs (i + 1)) (xs (i + 2)) (fun r2 S2 => r2 = r ∧ RLw S2 V1)) q.1 q.2.1 q.2.2.1 q.2.2.2.1 q.2.2.2.2) pI.ret (ci := 0) (T := TX0) hA.c0 rfl 2 q1341 q1342 q1343 q66 q1344 (by decide +kernel) rfl (by rw [hhe]; omega) (by rw [hhe]; omega) (Nat.le_of_ble_eq_true rfl) rfl dL_law_1184 (by omega) (by omega) (pI.k (fun r w1 h5 => ?_))
  obtain ⟨V1, Z1, hf1, hP⟩ := h5
  refine j_aload_n C dL_law_1187 rfl 2 rfl ?_
  refine j_aload_n C dL_law_1188 rfl 0 rfl ?_
  refine j_iload_n C dL_law_1189 rfl 3 rfl ?_
  refine j_iconst (v := nI 1) C dL_law_1190 rfl ?_
  refine j_iaddN C dL_law_1191 ?_
  refine j_sld C hB hL5 (i + 1) rfl (by omega) dL_law_1192 ?_
  refine j_aload_n C dL_law_1193 rfl 0 rfl ?_
  refine j_iload_n C dL_law_1194 rfl 3 rfl ?_
  refine j_iconst (v := nI 2) C dL_law_1195 rfl ?_
  refine j_iaddN C dL_law_1196 ?_
  refine j_sld C hB hL5 (i + 2) rfl (by omega) dL_law_1197 ?_
  have e1 := (hL.2.2.kept hf1).eq
  rw [e1]
  refine j_callV (w := (mset G w1.1 o S, w1.2)) C (mX4_ask G w1.1 w1.2 o S (xs (i + 1)) (xs (i + 2)) hkS.1 (fun r2 S2 => r2 = r ∧ RLw S2 V1) hP.1 hP.2.1 hP.2.2.1 hP.2.2.2.1 hP.2.2.2.2) pI.ret (ci := 4) (T := TX4) mset_o rfl 2 q1846 q1847 q1848 q73 q1849 (by decide +kernel) rfl (by rw [hhe]; omega) (by rw [hhe]; omega) (Nat.le_of_ble_eq_true rfl) rfl dL_law_1198 (by omega) (by omega) (pM.k (fun r2 S2 hP2 => ?_))
  obtain ⟨hr2, hrl⟩ := hP2
  subst hr2
  refine j_icmp_eq C 1265 dL_law_1201 (by decide) (fun c1201 => ?_) (fun c1201 => ?_)
  · exact ih _ _ _ _ _ _ (hL.next hf1 hrl) (by omega) (by omega)
  · exact absurd rfl c1201
set_option maxHeartbeats 1000000 in
theorem lc_trace (C : Cx G k cL_law "MoodFareLaw" "law" 4 (some .boolean) hh mc ms post) (hG : GH G) (hE : GE G) (hM : GM G) (hD : GD G) (hS : GS G) {L : Nat} {xs : Nat → Int32} (hB : GB G L xs) (hL5 : L ≤ 512) (hhe : hh = 1390) (hL : LI G w x o S V Z) (hi : i + 8 ≤ L) (b1 : ce + 10752 ≤ mc) (b2 : sl + 77056 ≤ ms) (ih : ∀ w2 S2 V2 Z2 ce2 sl2, LI G w2 x o S2 V2 Z2 → ce2 ≤ ce + 10752 → sl2 ≤ sl + 77056 → J G k w2 [(0, .ref (gl_z G 3)), (1, .ref x), (2, .ref o), (3, .int (nI i))] 1265 [] ce2 sl2) : J G k w [(0, .ref (gl_z G 3)), (1, .ref x), (2, .ref o), (3, .int (nI i))] 1206 [] ce sl := by
  have hw := hL.1.2
  have hT := hL.1.1
  have hkV : okT V.2.1 := hw.2.1.2
  have hkS : okT (S.2.2.2 6) := by rw [← hT]; exact hkV
  have h120 : V.1 0 ≤ 120 := by rw [hw.1.1]; exact hw.2.2.2.2.2.2.2.1.1
  obtain ⟨W, hA, hv⟩ := id hL.2.1
  refine j_aload_n C dL_law_1206 rfl 1 rfl ?_
  refine j_aload_n C dL_law_1207 rfl 0 rfl ?_
  refine j_iload_n C dL_law_1208 rfl 3 rfl ?_
  refine j_iconst (v := nI 1) C dL_law_1209 rfl ?_
  refine j_iaddN C dL_law_1210 ?_
  refine j_sld C hB hL5 (i + 1) rfl (by omega) dL_law_1211 ?_
  have q := lw_trace hL.1 (xs (i + 1))
  refine j_callV (w := w) C (kX0_trace G hG w w x (fun σ => σ = o) V Z hL.2.1 (xs (i + 1)) (fun r V1 => hm_trace S (xs (i + 1)) (fun r2 S2 => r2 = r ∧ RLw S2 V1)) q.1 q.2) pI.ret (ci := 0) (T := TX0) hA.c0 rfl 1 q1455 q1456 q1457 q66 q1458 (by decide +kernel) rfl (by rw [hhe]; omega) (by rw [hhe]; omega) (Nat.le_of_ble_eq_true rfl) rfl dL_law_1212 (by omega) (by omega) (pI.k (fun r w1 h5 => ?_))
  obtain ⟨V1, Z1, hf1, hP⟩ := h5
  refine j_aload_n C dL_law_1215 rfl 2 rfl ?_
  refine j_aload_n C dL_law_1216 rfl 0 rfl ?_
  refine j_iload_n C dL_law_1217 rfl 3 rfl ?_
  refine j_iconst (v := nI 1) C dL_law_1218 rfl ?_
  refine j_iaddN C dL_law_1219 ?_
  refine j_sld C hB hL5 (i + 1) rfl (by omega) dL_law_1220 ?_
  have e1 := (hL.2.2.kept hf1).eq
  rw [e1]
  refine j_callV (w := (mset G w1.1 o S, w1.2)) C (mX4_trace G w1.1 w1.2 o S (xs (i + 1)) hw.2.2.2.2.2.2.2.2.2.2.1 (fun r2 S2 => r2 = r ∧ RLw S2 V1) hP.1 hP.2) pI.ret (ci := 4) (T := TX4) mset_o rfl 1 q1870 q1871 q1872 q73 q1873 (by decide +kernel) rfl (by rw [hhe]; omega) (by rw [hhe]; omega) (Nat.le_of_ble_eq_true rfl) rfl dL_law_1221 (by omega) (by omega) (pM.k (fun r2 S2 hP2 => ?_))
  obtain ⟨hr2, hrl⟩ := hP2
  subst hr2
  refine j_icmp_eq C 1265 dL_law_1224 (by decide) (fun c1224 => ?_) (fun c1224 => ?_)
  · exact ih _ _ _ _ _ _ (hL.next hf1 hrl) (by omega) (by omega)
  · exact absurd rfl c1224
set_option maxHeartbeats 1000000 in
theorem lc_count (C : Cx G k cL_law "MoodFareLaw" "law" 4 (some .boolean) hh mc ms post) (hG : GH G) (hE : GE G) (hM : GM G) (hD : GD G) (hS : GS G) {L : Nat} {xs : Nat → Int32} (hB : GB G L xs) (hL5 : L ≤ 512) (hhe : hh = 1390) (hL : LI G w x o S V Z) (hi : i + 8 ≤ L) (b1 : ce + 10752 ≤ mc) (b2 : sl + 77056 ≤ ms) (ih : ∀ w2 S2 V2 Z2 ce2 sl2, LI G w2 x o S2 V2 Z2 → ce2 ≤ ce + 10752 → sl2 ≤ sl + 77056 → J G k w2 [(0, .ref (gl_z G 3)), (1, .ref x), (2, .ref o), (3, .int (nI i))] 1265 [] ce2 sl2) : J G k w [(0, .ref (gl_z G 3)), (1, .ref x), (2, .ref o), (3, .int (nI i))] 1229 [] ce sl := by
  have hw := hL.1.2
  have hT := hL.1.1
  have hkV : okT V.2.1 := hw.2.1.2
  have hkS : okT (S.2.2.2 6) := by rw [← hT]; exact hkV
  have h120 : V.1 0 ≤ 120 := by rw [hw.1.1]; exact hw.2.2.2.2.2.2.2.1.1
  obtain ⟨W, hA, hv⟩ := id hL.2.1
  refine j_aload_n C dL_law_1229 rfl 1 rfl ?_
  refine j_aload_n C dL_law_1230 rfl 0 rfl ?_
  refine j_iload_n C dL_law_1231 rfl 3 rfl ?_
  refine j_iconst (v := nI 1) C dL_law_1232 rfl ?_
  refine j_iaddN C dL_law_1233 ?_
  refine j_sld C hB hL5 (i + 1) rfl (by omega) dL_law_1234 ?_
  have q := lw_count hL.1 (xs (i + 1))
  refine j_callV (w := w) C (kX0_count G hG w w x (fun σ => σ = o) V Z hL.2.1 (xs (i + 1)) (fun r V1 => hm_count S (xs (i + 1)) (fun r2 S2 => r2 = r ∧ RLw S2 V1)) q.1 q.2.1 q.2.2.1 q.2.2.2.1 q.2.2.2.2.1 q.2.2.2.2.2.1 q.2.2.2.2.2.2.1 q.2.2.2.2.2.2.2.1 q.2.2.2.2.2.2.2.2.1 q.2.2.2.2.2.2.2.2.2.1 q.2.2.2.2.2.2.2.2.2.2) pI.ret (ci := 0) (T := TX0) hA.c0 rfl 1 q1459 q1460 q1461 q66 q1462 (by decide +kernel) rfl (by rw [hhe]; omega) (by rw [hhe]; omega) (Nat.le_of_ble_eq_true rfl) rfl dL_law_1235 (by omega) (by omega) (pI.k (fun r w1 h5 => ?_))
  obtain ⟨V1, Z1, hf1, hP⟩ := h5
  refine j_aload_n C dL_law_1238 rfl 2 rfl ?_
  refine j_aload_n C dL_law_1239 rfl 0 rfl ?_
  refine j_iload_n C dL_law_1240 rfl 3 rfl ?_
  refine j_iconst (v := nI 1) C dL_law_1241 rfl ?_
  refine j_iaddN C dL_law_1242 ?_
  refine j_sld C hB hL5 (i + 1) rfl (by omega) dL_law_1243 ?_
  have e1 := (hL.2.2.kept hf1).eq
  rw [e1]
  refine j_callV (w := (mset G w1.1 o S, w1.2)) C (mX4_count G w1.1 w1.2 o S (xs (i + 1)) (fun r2 S2 => r2 = r ∧ RLw S2 V1) hP.1 hP.2.1 hP.2.2.1 hP.2.2.2.1 hP.2.2.2.2.1 hP.2.2.2.2.2.1 hP.2.2.2.2.2.2.1 hP.2.2.2.2.2.2.2.1 hP.2.2.2.2.2.2.2.2.1 hP.2.2.2.2.2.2.2.2.2.1 hP.2.2.2.2.2.2.2.2.2.2) pI.ret (ci := 4) (T := TX4) mset_o rfl 1 q1874 q1875 q1876 q73 q1877 (by decide +kernel) rfl (by rw [hhe]; omega) (by rw [hhe]; omega) (Nat.le_of_ble_eq_true rfl) rfl dL_law_1244 (by omega) (by omega) (pM.k (fun r2 S2 hP2 => ?_))
  obtain ⟨hr2, hrl⟩ := hP2
  subst hr2
  refine j_icmp_eq C 1265 dL_law_1247 (by decide) (fun c1247 => ?_) (fun c1247 => ?_)
  · exact ih _ _ _ _ _ _ (hL.next hf1 hrl) (by omega) (by omega)
  · exact absurd rfl c1247
set_option maxHeartbeats 1000000 in
theorem lc_status (C : Cx G k cL_law "MoodFareLaw" "law" 4 (some .boolean) hh mc ms post) (hG : GH G) (hE : GE G) (hM : GM G) (hD : GD G) (hS : GS G) {L : Nat} {xs : Nat → Int32} (hB : GB G L xs) (hL5 : L ≤ 512) (hhe : hh = 1390) (hL : LI G w x o S V Z) (hi : i + 8 ≤ L) (b1 : ce + 10752 ≤ mc) (b2 : sl + 77056 ≤ ms) (ih : ∀ w2 S2 V2 Z2 ce2 sl2, LI G w2 x o S2 V2 Z2 → ce2 ≤ ce + 10752 → sl2 ≤ sl + 77056 → J G k w2 [(0, .ref (gl_z G 3)), (1, .ref x), (2, .ref o), (3, .int (nI i))] 1265 [] ce2 sl2) : J G k w [(0, .ref (gl_z G 3)), (1, .ref x), (2, .ref o), (3, .int (nI i))] 1252 [] ce sl := by
  have hw := hL.1.2
  have hT := hL.1.1
  have hkV : okT V.2.1 := hw.2.1.2
  have hkS : okT (S.2.2.2 6) := by rw [← hT]; exact hkV
  have h120 : V.1 0 ≤ 120 := by rw [hw.1.1]; exact hw.2.2.2.2.2.2.2.1.1
  obtain ⟨W, hA, hv⟩ := id hL.2.1
  refine j_aload_n C dL_law_1252 rfl 1 rfl ?_
  have q := lw_status hL.1
  refine j_callV (w := w) C (kX0_status G hG w w x (fun σ => σ = o) V Z hL.2.1 (fun r V1 => hm_status S (fun r2 S2 => r2 = r ∧ RLw S2 V1)) q) pI.ret (ci := 0) (T := TX0) hA.c0 rfl 0 q1463 q1464 q1465 q66 q1466 (by decide +kernel) rfl (by rw [hhe]; omega) (by rw [hhe]; omega) (Nat.le_of_ble_eq_true rfl) rfl dL_law_1253 (by omega) (by omega) (pI.k (fun r w1 h5 => ?_))
  obtain ⟨V1, Z1, hf1, hP⟩ := h5
  refine j_aload_n C dL_law_1256 rfl 2 rfl ?_
  have e1 := (hL.2.2.kept hf1).eq
  rw [e1]
  refine j_callV (w := (mset G w1.1 o S, w1.2)) C (mX4_status G w1.1 w1.2 o S) pI.ret (ci := 4) (T := TX4) mset_o rfl 0 q1878 q1879 q1880 q73 q1881 (by decide +kernel) rfl (by rw [hhe]; omega) (by rw [hhe]; omega) (Nat.le_of_ble_eq_true rfl) rfl dL_law_1257 (by omega) (by omega) (qI.k ?_)
  obtain ⟨hr2, hrl⟩ := hP
  refine j_as hr2 ?_
  generalize hS2 : S = S2 at hrl
  refine j_icmp_eq C 1265 dL_law_1260 (by decide) (fun c1260 => ?_) (fun c1260 => ?_)
  · exact ih _ _ _ _ _ _ (hL.next hf1 hrl) (by omega) (by omega)
  · exact absurd rfl c1260
end LC
