set_option maxRecDepth 100000
section LC
variable {p : Program} {l : Launch} {e : Env} {s : State} {m : MethodId} {below : List Frame} {meth : Method} {c : Code} {b L : Nat} {xs : Nat → Int32} {i : Int32} {cells slots : Nat}
set_option maxHeartbeats 4000000 in
/-- island -/
theorem lc_0 (X : CallFix p m c cL_law 4 s #[Value.ref b] lw_all "LeftBehindLaw") (hX : va_X b L xs s s.heap) (hbl : b < s.heap.size) (hin : ∀ v : Int32, v = 1 ∨ v = 2 ∨ v = 3 ∨ v = 4 → vp_in (i + v) L) (hc : cells + 36 ≤ room_1.cells) (hs : slots + 240 ≤ room_1.slots) (K : Jl_ p l e s m below meth c b i (cells + 36) (slots + 240) 1239) : Jl_ p l e s m below meth c b i cells slots 196 := by
  intro G σ hz hG hI hR
  have hbA : ¬ AA_ G b := ba_ hz hbl
  obtain ⟨r, σ1, σ2, h1, h2, hR2, h3, h4⟩ := op_island_z hR
  refine jj_aload_n X dL_law_196 1 rfl ?_
  refine jl_ci (mc := 0) (ms := 0) (jr_V (rest := []) X hG (tg_0 hG) (by decide) ⟨_, rfl⟩ rfl (mt_X0_island l G σ _ h1) (cwV 0 X.2.2.2.2 (lw_V q311 q312 q313 q61 q314) rfl rfl rfl kd_X0_island ⟨by decide, by decide⟩) rfl rfl (Nat.le_of_ble_eq_true rfl) dL_law_197 ⟨Nat.le_trans (by omega) hc, Nat.le_trans (by omega) hs⟩) ?_
  refine jj_aload_n X dL_law_200 2 rfl ?_
  refine jl_ci (mc := 0) (ms := 0) (jr_V (rest := [.int r]) X hG (tg_90 hG) (by decide) ⟨_, rfl⟩ rfl (mt_X6_island l G σ1 _ h2) (cwV 0 X.2.2.2.2 (lw_V q1012 q1013 q1014 q67 q1015) rfl rfl rfl kd_X6_island ⟨by decide, by decide⟩) rfl rfl (Nat.le_of_ble_eq_true rfl) dL_law_201 ⟨Nat.le_trans (by omega) hc, Nat.le_trans (by omega) hs⟩) ?_
  refine jl_eq X 1239 dL_law_204 (by decide) ?_
  exact jj_widen (by omega) (by omega) (K G σ2 hz hG (by rw [h4, h3]; exact hI) hR2)
set_option maxHeartbeats 4000000 in
/-- ship -/
theorem lc_1 (X : CallFix p m c cL_law 4 s #[Value.ref b] lw_all "LeftBehindLaw") (hX : va_X b L xs s s.heap) (hbl : b < s.heap.size) (hin : ∀ v : Int32, v = 1 ∨ v = 2 ∨ v = 3 ∨ v = 4 → vp_in (i + v) L) (hc : cells + 36 ≤ room_1.cells) (hs : slots + 240 ≤ room_1.slots) (K : Jl_ p l e s m below meth c b i (cells + 36) (slots + 240) 1239) : Jl_ p l e s m below meth c b i cells slots 209 := by
  intro G σ hz hG hI hR
  have hbA : ¬ AA_ G b := ba_ hz hbl
  obtain ⟨r, σ1, σ2, h1, h2, hR2, h3, h4⟩ := op_ship_z hR (xs (i + 1).toNatClampNeg)
  refine jj_aload_n X dL_law_209 1 rfl ?_
  refine jl_arg X hX hbl hbA 1 0 3 rfl rfl (by decide) (hin 1 (by decide)) dL_law_210 dL_law_211 dL_law_212 dL_law_213 dL_law_214 ?_
  refine jl_ci (mc := 0) (ms := 0) (jr_V (rest := []) X hG (tg_0 hG) (by decide) ⟨_, rfl⟩ rfl (mt_X0_ship l G σ (xs (i + 1).toNatClampNeg) _ h1) (cwV 1 X.2.2.2.2 (lw_V q315 q316 q317 q61 q318) rfl rfl rfl kd_X0_ship ⟨by decide, by decide⟩) rfl rfl (Nat.le_of_ble_eq_true rfl) dL_law_215 ⟨Nat.le_trans (by omega) hc, Nat.le_trans (by omega) hs⟩) ?_
  refine jj_aload_n X dL_law_218 2 rfl ?_
  refine jl_arg X hX hbl hbA 1 0 3 rfl rfl (by decide) (hin 1 (by decide)) dL_law_219 dL_law_220 dL_law_221 dL_law_222 dL_law_223 ?_
  refine jl_ci (mc := 0) (ms := 0) (jr_V (rest := [.int r]) X hG (tg_90 hG) (by decide) ⟨_, rfl⟩ rfl (mt_X6_ship l G σ1 (xs (i + 1).toNatClampNeg) _ h2) (cwV 1 X.2.2.2.2 (lw_V q1020 q1021 q1022 q67 q1023) rfl rfl rfl kd_X6_ship ⟨by decide, by decide⟩) rfl rfl (Nat.le_of_ble_eq_true rfl) dL_law_224 ⟨Nat.le_trans (by omega) hc, Nat.le_trans (by omega) hs⟩) ?_
  refine jl_eq X 1239 dL_law_227 (by decide) ?_
  exact jj_widen (by omega) (by omega) (K G σ2 hz hG (by rw [h4, h3]; exact hI) hR2)
set_option maxHeartbeats 4000000 in
/-- man -/
theorem lc_2 (X : CallFix p m c cL_law 4 s #[Value.ref b] lw_all "LeftBehindLaw") (hX : va_X b L xs s s.heap) (hbl : b < s.heap.size) (hin : ∀ v : Int32, v = 1 ∨ v = 2 ∨ v = 3 ∨ v = 4 → vp_in (i + v) L) (hc : cells + 36 ≤ room_1.cells) (hs : slots + 240 ≤ room_1.slots) (K : Jl_ p l e s m below meth c b i (cells + 36) (slots + 240) 1239) : Jl_ p l e s m below meth c b i cells slots 232 := by
  intro G σ hz hG hI hR
  have hbA : ¬ AA_ G b := ba_ hz hbl
  obtain ⟨r, σ1, σ2, h1, h2, hR2, h3, h4⟩ := op_man_z hR (xs (i + 1).toNatClampNeg) (xs (i + 2).toNatClampNeg) (xs (i + 3).toNatClampNeg)
  refine jj_aload_n X dL_law_232 1 rfl ?_
  refine jl_arg X hX hbl hbA 1 0 3 rfl rfl (by decide) (hin 1 (by decide)) dL_law_233 dL_law_234 dL_law_235 dL_law_236 dL_law_237 ?_
  refine jl_arg X hX hbl hbA 2 0 3 rfl rfl (by decide) (hin 2 (by decide)) dL_law_238 dL_law_239 dL_law_240 dL_law_241 dL_law_242 ?_
  refine jl_arg X hX hbl hbA 3 0 3 rfl rfl (by decide) (hin 3 (by decide)) dL_law_243 dL_law_244 dL_law_245 dL_law_246 dL_law_247 ?_
  refine jl_ci (mc := 0) (ms := 0) (jr_V (rest := []) X hG (tg_0 hG) (by decide) ⟨_, rfl⟩ rfl (mt_X0_man l G σ (xs (i + 1).toNatClampNeg) (xs (i + 2).toNatClampNeg) (xs (i + 3).toNatClampNeg) _ h1) (cwV 3 X.2.2.2.2 (lw_V q344 q345 q346 q61 q347) rfl rfl rfl kd_X0_man ⟨by decide, by decide⟩) rfl rfl (Nat.le_of_ble_eq_true rfl) dL_law_248 ⟨Nat.le_trans (by omega) hc, Nat.le_trans (by omega) hs⟩) ?_
  refine jj_aload_n X dL_law_251 2 rfl ?_
  refine jl_arg X hX hbl hbA 1 0 3 rfl rfl (by decide) (hin 1 (by decide)) dL_law_252 dL_law_253 dL_law_254 dL_law_255 dL_law_256 ?_
  refine jl_arg X hX hbl hbA 2 0 3 rfl rfl (by decide) (hin 2 (by decide)) dL_law_257 dL_law_258 dL_law_259 dL_law_260 dL_law_261 ?_
  refine jl_arg X hX hbl hbA 3 0 3 rfl rfl (by decide) (hin 3 (by decide)) dL_law_262 dL_law_263 dL_law_264 dL_law_265 dL_law_266 ?_
  refine jl_ci (mc := 0) (ms := 0) (jr_V (rest := [.int r]) X hG (tg_90 hG) (by decide) ⟨_, rfl⟩ rfl (mt_X6_man l G σ1 (xs (i + 1).toNatClampNeg) (xs (i + 2).toNatClampNeg) (xs (i + 3).toNatClampNeg) _ h2) (cwV 3 X.2.2.2.2 (lw_V q1039 q1040 q1041 q67 q1042) rfl rfl rfl kd_X6_man ⟨by decide, by decide⟩) rfl rfl (Nat.le_of_ble_eq_true rfl) dL_law_267 ⟨Nat.le_trans (by omega) hc, Nat.le_trans (by omega) hs⟩) ?_
  refine jl_eq X 1239 dL_law_270 (by decide) ?_
  exact jj_widen (by omega) (by omega) (K G σ2 hz hG (by rw [h4, h3]; exact hI) hR2)
set_option maxHeartbeats 4000000 in
/-- type -/
theorem lc_3 (X : CallFix p m c cL_law 4 s #[Value.ref b] lw_all "LeftBehindLaw") (hX : va_X b L xs s s.heap) (hbl : b < s.heap.size) (hin : ∀ v : Int32, v = 1 ∨ v = 2 ∨ v = 3 ∨ v = 4 → vp_in (i + v) L) (hc : cells + 36 ≤ room_1.cells) (hs : slots + 240 ≤ room_1.slots) (K : Jl_ p l e s m below meth c b i (cells + 36) (slots + 240) 1239) : Jl_ p l e s m below meth c b i cells slots 275 := by
  intro G σ hz hG hI hR
  have hbA : ¬ AA_ G b := ba_ hz hbl
  obtain ⟨r, σ1, σ2, h1, h2, hR2, h3, h4⟩ := op_type_z hR (xs (i + 1).toNatClampNeg)
  refine jj_aload_n X dL_law_275 1 rfl ?_
  refine jl_arg X hX hbl hbA 1 0 3 rfl rfl (by decide) (hin 1 (by decide)) dL_law_276 dL_law_277 dL_law_278 dL_law_279 dL_law_280 ?_
  refine jl_ci (mc := 0) (ms := 0) (jr_V (rest := []) X hG (tg_0 hG) (by decide) ⟨_, rfl⟩ rfl (mt_X0_type l G σ (xs (i + 1).toNatClampNeg) _ h1) (cwV 1 X.2.2.2.2 (lw_V q362 q363 q364 q61 q365) rfl rfl rfl kd_X0_type ⟨by decide, by decide⟩) rfl rfl (Nat.le_of_ble_eq_true rfl) dL_law_281 ⟨Nat.le_trans (by omega) hc, Nat.le_trans (by omega) hs⟩) ?_
  refine jj_aload_n X dL_law_284 2 rfl ?_
  refine jl_arg X hX hbl hbA 1 0 3 rfl rfl (by decide) (hin 1 (by decide)) dL_law_285 dL_law_286 dL_law_287 dL_law_288 dL_law_289 ?_
  refine jl_ci (mc := 0) (ms := 0) (jr_V (rest := [.int r]) X hG (tg_90 hG) (by decide) ⟨_, rfl⟩ rfl (mt_X6_type l G σ1 (xs (i + 1).toNatClampNeg) _ h2) (cwV 1 X.2.2.2.2 (lw_V q1266 q1267 q1268 q67 q1269) rfl rfl rfl kd_X6_type ⟨by decide, by decide⟩) rfl rfl (Nat.le_of_ble_eq_true rfl) dL_law_290 ⟨Nat.le_trans (by omega) hc, Nat.le_trans (by omega) hs⟩) ?_
  refine jl_eq X 1239 dL_law_293 (by decide) ?_
  exact jj_widen (by omega) (by omega) (K G σ2 hz hG (by rw [h4, h3]; exact hI) hR2)
set_option maxHeartbeats 4000000 in
/-- clear -/
theorem lc_4 (X : CallFix p m c cL_law 4 s #[Value.ref b] lw_all "LeftBehindLaw") (hX : va_X b L xs s s.heap) (hbl : b < s.heap.size) (hin : ∀ v : Int32, v = 1 ∨ v = 2 ∨ v = 3 ∨ v = 4 → vp_in (i + v) L) (hc : cells + 36 ≤ room_1.cells) (hs : slots + 240 ≤ room_1.slots) (K : Jl_ p l e s m below meth c b i (cells + 36) (slots + 240) 1239) : Jl_ p l e s m below meth c b i cells slots 298 := by
  intro G σ hz hG hI hR
  have hbA : ¬ AA_ G b := ba_ hz hbl
  obtain ⟨r, σ1, σ2, h1, h2, hR2, h3, h4⟩ := op_clear_z hR
  refine jj_aload_n X dL_law_298 1 rfl ?_
  refine jl_ci (mc := 0) (ms := 0) (jr_V (rest := []) X hG (tg_0 hG) (by decide) ⟨_, rfl⟩ rfl (mt_X0_clear l G σ _ h1) (cwV 0 X.2.2.2.2 (lw_V q367 q368 q369 q61 q370) rfl rfl rfl kd_X0_clear ⟨by decide, by decide⟩) rfl rfl (Nat.le_of_ble_eq_true rfl) dL_law_299 ⟨Nat.le_trans (by omega) hc, Nat.le_trans (by omega) hs⟩) ?_
  refine jj_aload_n X dL_law_302 2 rfl ?_
  refine jl_ci (mc := 0) (ms := 0) (jr_V (rest := [.int r]) X hG (tg_90 hG) (by decide) ⟨_, rfl⟩ rfl (mt_X6_clear l G σ1 _ h2) (cwV 0 X.2.2.2.2 (lw_V q1271 q1272 q1273 q67 q1274) rfl rfl rfl kd_X6_clear ⟨by decide, by decide⟩) rfl rfl (Nat.le_of_ble_eq_true rfl) dL_law_303 ⟨Nat.le_trans (by omega) hc, Nat.le_trans (by omega) hs⟩) ?_
  refine jl_eq X 1239 dL_law_306 (by decide) ?_
  exact jj_widen (by omega) (by omega) (K G σ2 hz hG (by rw [h4, h3]; exact hI) hR2)
set_option maxHeartbeats 4000000 in
/-- read -/
theorem lc_5 (X : CallFix p m c cL_law 4 s #[Value.ref b] lw_all "LeftBehindLaw") (hX : va_X b L xs s s.heap) (hbl : b < s.heap.size) (hin : ∀ v : Int32, v = 1 ∨ v = 2 ∨ v = 3 ∨ v = 4 → vp_in (i + v) L) (hc : cells + 36 ≤ room_1.cells) (hs : slots + 240 ≤ room_1.slots) (K : Jl_ p l e s m below meth c b i (cells + 36) (slots + 240) 1239) : Jl_ p l e s m below meth c b i cells slots 311 := by
  intro G σ hz hG hI hR
  have hbA : ¬ AA_ G b := ba_ hz hbl
  obtain ⟨r, σ1, σ2, h1, h2, hR2, h3, h4⟩ := op_read_z hR
  refine jj_aload_n X dL_law_311 1 rfl ?_
  refine jl_ci (mc := 1) (ms := 7) (jr_VW (rest := []) X hG (tg_0 hG) (by decide) ⟨_, rfl⟩ rfl (mt_X0_read l G σ _ h1) q371 q372 q373 q61 q374 kd_X0_read rfl rfl ⟨by decide, by decide⟩ rfl rfl (Nat.le_of_ble_eq_true rfl) dL_law_312 ⟨Nat.le_trans (by omega) hc, Nat.le_trans (by omega) hs⟩) ?_
  refine jj_aload_n X dL_law_315 2 rfl ?_
  refine jl_ci (mc := 0) (ms := 0) (jr_V (rest := [.int r]) X hG (tg_90 hG) (by decide) ⟨_, rfl⟩ rfl (mt_X6_read l G σ1 _ h2) (cwV 0 X.2.2.2.2 (lw_V q1275 q1276 q1277 q67 q1278) rfl rfl rfl kd_X6_read ⟨by decide, by decide⟩) rfl rfl (Nat.le_of_ble_eq_true rfl) dL_law_316 ⟨Nat.le_trans (by omega) hc, Nat.le_trans (by omega) hs⟩) ?_
  refine jl_eq X 1239 dL_law_319 (by decide) ?_
  exact jj_widen (by omega) (by omega) (K G σ2 hz hG (by rw [h4, h3]; exact hI) hR2)
set_option maxHeartbeats 4000000 in
/-- calls -/
theorem lc_6 (X : CallFix p m c cL_law 4 s #[Value.ref b] lw_all "LeftBehindLaw") (hX : va_X b L xs s s.heap) (hbl : b < s.heap.size) (hin : ∀ v : Int32, v = 1 ∨ v = 2 ∨ v = 3 ∨ v = 4 → vp_in (i + v) L) (hc : cells + 36 ≤ room_1.cells) (hs : slots + 240 ≤ room_1.slots) (K : Jl_ p l e s m below meth c b i (cells + 36) (slots + 240) 1239) : Jl_ p l e s m below meth c b i cells slots 324 := by
  intro G σ hz hG hI hR
  have hbA : ¬ AA_ G b := ba_ hz hbl
  obtain ⟨r, σ1, σ2, h1, h2, hR2, h3, h4⟩ := op_calls_z hR (xs (i + 1).toNatClampNeg)
  refine jj_aload_n X dL_law_324 1 rfl ?_
  refine jl_arg X hX hbl hbA 1 0 3 rfl rfl (by decide) (hin 1 (by decide)) dL_law_325 dL_law_326 dL_law_327 dL_law_328 dL_law_329 ?_
  refine jl_ci (mc := 0) (ms := 0) (jr_V (rest := []) X hG (tg_0 hG) (by decide) ⟨_, rfl⟩ rfl (mt_X0_calls l G σ (xs (i + 1).toNatClampNeg) _ h1) (cwV 1 X.2.2.2.2 (lw_V q589 q590 q591 q61 q592) rfl rfl rfl kd_X0_calls ⟨by decide, by decide⟩) rfl rfl (Nat.le_of_ble_eq_true rfl) dL_law_330 ⟨Nat.le_trans (by omega) hc, Nat.le_trans (by omega) hs⟩) ?_
  refine jj_aload_n X dL_law_333 2 rfl ?_
  refine jl_arg X hX hbl hbA 1 0 3 rfl rfl (by decide) (hin 1 (by decide)) dL_law_334 dL_law_335 dL_law_336 dL_law_337 dL_law_338 ?_
  refine jl_ci (mc := 0) (ms := 0) (jr_V (rest := [.int r]) X hG (tg_90 hG) (by decide) ⟨_, rfl⟩ rfl (mt_X6_calls l G σ1 (xs (i + 1).toNatClampNeg) _ h2) (cwV 1 X.2.2.2.2 (lw_V q1054 q1055 q1056 q67 q1057) rfl rfl rfl kd_X6_calls ⟨by decide, by decide⟩) rfl rfl (Nat.le_of_ble_eq_true rfl) dL_law_339 ⟨Nat.le_trans (by omega) hc, Nat.le_trans (by omega) hs⟩) ?_
  refine jl_eq X 1239 dL_law_342 (by decide) ?_
  exact jj_widen (by omega) (by omega) (K G σ2 hz hG (by rw [h4, h3]; exact hI) hR2)
set_option maxHeartbeats 4000000 in
/-- boards -/
theorem lc_7 (X : CallFix p m c cL_law 4 s #[Value.ref b] lw_all "LeftBehindLaw") (hX : va_X b L xs s s.heap) (hbl : b < s.heap.size) (hin : ∀ v : Int32, v = 1 ∨ v = 2 ∨ v = 3 ∨ v = 4 → vp_in (i + v) L) (hc : cells + 36 ≤ room_1.cells) (hs : slots + 240 ≤ room_1.slots) (K : Jl_ p l e s m below meth c b i (cells + 36) (slots + 240) 1239) : Jl_ p l e s m below meth c b i cells slots 347 := by
  intro G σ hz hG hI hR
  have hbA : ¬ AA_ G b := ba_ hz hbl
  obtain ⟨r, σ1, σ2, h1, h2, hR2, h3, h4⟩ := op_boards_z hR (xs (i + 1).toNatClampNeg) (xs (i + 2).toNatClampNeg)
  refine jj_aload_n X dL_law_347 1 rfl ?_
  refine jl_arg X hX hbl hbA 1 0 3 rfl rfl (by decide) (hin 1 (by decide)) dL_law_348 dL_law_349 dL_law_350 dL_law_351 dL_law_352 ?_
  refine jl_arg X hX hbl hbA 2 0 3 rfl rfl (by decide) (hin 2 (by decide)) dL_law_353 dL_law_354 dL_law_355 dL_law_356 dL_law_357 ?_
  refine jl_ci (mc := 0) (ms := 0) (jr_V (rest := []) X hG (tg_0 hG) (by decide) ⟨_, rfl⟩ rfl (mt_X0_boards l G σ (xs (i + 1).toNatClampNeg) (xs (i + 2).toNatClampNeg) _ h1) (cwV 2 X.2.2.2.2 (lw_V q607 q608 q609 q61 q610) rfl rfl rfl kd_X0_boards ⟨by decide, by decide⟩) rfl rfl (Nat.le_of_ble_eq_true rfl) dL_law_358 ⟨Nat.le_trans (by omega) hc, Nat.le_trans (by omega) hs⟩) ?_
  refine jj_aload_n X dL_law_361 2 rfl ?_
  refine jl_arg X hX hbl hbA 1 0 3 rfl rfl (by decide) (hin 1 (by decide)) dL_law_362 dL_law_363 dL_law_364 dL_law_365 dL_law_366 ?_
  refine jl_arg X hX hbl hbA 2 0 3 rfl rfl (by decide) (hin 2 (by decide)) dL_law_367 dL_law_368 dL_law_369 dL_law_370 dL_law_371 ?_
  refine jl_ci (mc := 0) (ms := 0) (jr_V (rest := [.int r]) X hG (tg_90 hG) (by decide) ⟨_, rfl⟩ rfl (mt_X6_boards l G σ1 (xs (i + 1).toNatClampNeg) (xs (i + 2).toNatClampNeg) _ h2) (cwV 2 X.2.2.2.2 (lw_V q1081 q1082 q1083 q67 q1084) rfl rfl rfl kd_X6_boards ⟨by decide, by decide⟩) rfl rfl (Nat.le_of_ble_eq_true rfl) dL_law_372 ⟨Nat.le_trans (by omega) hc, Nat.le_trans (by omega) hs⟩) ?_
  refine jl_eq X 1239 dL_law_375 (by decide) ?_
  exact jj_widen (by omega) (by omega) (K G σ2 hz hG (by rw [h4, h3]; exact hI) hR2)
set_option maxHeartbeats 4000000 in
/-- undo -/
theorem lc_8 (X : CallFix p m c cL_law 4 s #[Value.ref b] lw_all "LeftBehindLaw") (hX : va_X b L xs s s.heap) (hbl : b < s.heap.size) (hin : ∀ v : Int32, v = 1 ∨ v = 2 ∨ v = 3 ∨ v = 4 → vp_in (i + v) L) (hc : cells + 36 ≤ room_1.cells) (hs : slots + 240 ≤ room_1.slots) (K : Jl_ p l e s m below meth c b i (cells + 36) (slots + 240) 1239) : Jl_ p l e s m below meth c b i cells slots 380 := by
  intro G σ hz hG hI hR
  have hbA : ¬ AA_ G b := ba_ hz hbl
  obtain ⟨r, σ1, σ2, h1, h2, hR2, h3, h4⟩ := op_undo_z hR
  refine jj_aload_n X dL_law_380 1 rfl ?_
  refine jl_ci (mc := 0) (ms := 0) (jr_V (rest := []) X hG (tg_0 hG) (by decide) ⟨_, rfl⟩ rfl (mt_X0_undo l G σ _ h1) (cwV 0 X.2.2.2.2 (lw_V q621 q622 q623 q61 q624) rfl rfl rfl kd_X0_undo ⟨by decide, by decide⟩) rfl rfl (Nat.le_of_ble_eq_true rfl) dL_law_381 ⟨Nat.le_trans (by omega) hc, Nat.le_trans (by omega) hs⟩) ?_
  refine jj_aload_n X dL_law_384 2 rfl ?_
  refine jl_ci (mc := 0) (ms := 0) (jr_V (rest := [.int r]) X hG (tg_90 hG) (by decide) ⟨_, rfl⟩ rfl (mt_X6_undo l G σ1 _ h2) (cwV 0 X.2.2.2.2 (lw_V q1089 q1090 q1091 q67 q1092) rfl rfl rfl kd_X6_undo ⟨by decide, by decide⟩) rfl rfl (Nat.le_of_ble_eq_true rfl) dL_law_385 ⟨Nat.le_trans (by omega) hc, Nat.le_trans (by omega) hs⟩) ?_
  refine jl_eq X 1239 dL_law_388 (by decide) ?_
  exact jj_widen (by omega) (by omega) (K G σ2 hz hG (by rw [h4, h3]; exact hI) hR2)
set_option maxHeartbeats 4000000 in
/-- of -/
theorem lc_9 (X : CallFix p m c cL_law 4 s #[Value.ref b] lw_all "LeftBehindLaw") (hX : va_X b L xs s s.heap) (hbl : b < s.heap.size) (hin : ∀ v : Int32, v = 1 ∨ v = 2 ∨ v = 3 ∨ v = 4 → vp_in (i + v) L) (hc : cells + 36 ≤ room_1.cells) (hs : slots + 240 ≤ room_1.slots) (K : Jl_ p l e s m below meth c b i (cells + 36) (slots + 240) 1239) : Jl_ p l e s m below meth c b i cells slots 393 := by
  intro G σ hz hG hI hR
  have hbA : ¬ AA_ G b := ba_ hz hbl
  obtain ⟨r, σ1, σ2, h1, h2, hR2, h3, h4⟩ := op_of_z hR (xs (i + 1).toNatClampNeg) (xs (i + 2).toNatClampNeg)
  refine jj_aload_n X dL_law_393 1 rfl ?_
  refine jl_arg X hX hbl hbA 1 0 3 rfl rfl (by decide) (hin 1 (by decide)) dL_law_394 dL_law_395 dL_law_396 dL_law_397 dL_law_398 ?_
  refine jl_arg X hX hbl hbA 2 0 3 rfl rfl (by decide) (hin 2 (by decide)) dL_law_399 dL_law_400 dL_law_401 dL_law_402 dL_law_403 ?_
  refine jl_ci (mc := 0) (ms := 0) (jr_V (rest := []) X hG (tg_0 hG) (by decide) ⟨_, rfl⟩ rfl (mt_X0_of l G σ (xs (i + 1).toNatClampNeg) (xs (i + 2).toNatClampNeg) _ h1) (cwV 2 X.2.2.2.2 (lw_V q630 q631 q632 q61 q633) rfl rfl rfl kd_X0_of ⟨by decide, by decide⟩) rfl rfl (Nat.le_of_ble_eq_true rfl) dL_law_404 ⟨Nat.le_trans (by omega) hc, Nat.le_trans (by omega) hs⟩) ?_
  refine jj_aload_n X dL_law_407 2 rfl ?_
  refine jl_arg X hX hbl hbA 1 0 3 rfl rfl (by decide) (hin 1 (by decide)) dL_law_408 dL_law_409 dL_law_410 dL_law_411 dL_law_412 ?_
  refine jl_arg X hX hbl hbA 2 0 3 rfl rfl (by decide) (hin 2 (by decide)) dL_law_413 dL_law_414 dL_law_415 dL_law_416 dL_law_417 ?_
  refine jl_ci (mc := 0) (ms := 0) (jr_V (rest := [.int r]) X hG (tg_90 hG) (by decide) ⟨_, rfl⟩ rfl (mt_X6_of l G σ1 (xs (i + 1).toNatClampNeg) (xs (i + 2).toNatClampNeg) _ h2) (cwV 2 X.2.2.2.2 (lw_V q1096 q1097 q1098 q67 q1099) rfl rfl rfl kd_X6_of ⟨by decide, by decide⟩) rfl rfl (Nat.le_of_ble_eq_true rfl) dL_law_418 ⟨Nat.le_trans (by omega) hc, Nat.le_trans (by omega) hs⟩) ?_
  refine jl_eq X 1239 dL_law_421 (by decide) ?_
  exact jj_widen (by omega) (by omega) (K G σ2 hz hG (by rw [h4, h3]; exact hI) hR2)
end LC
