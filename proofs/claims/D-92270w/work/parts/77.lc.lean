set_option maxRecDepth 100000
/-! ===== the law's cases ===== -/
set_option maxHeartbeats 4000000 in
theorem lc_0 {p : Program} {l : Launch} {e : Env} {s : State} {m : MethodId} {below : List Frame} {meth : Method} {c : Code} {H : Heap} {locs : List Loc} {cells slots : Nat} {Q : State → Prop} {ls : Array Slot} {D : va_G} {d : Nat → ClassId} {b L : Nat} {xs : Nat → Int32} {o mo i : Nat} {Aa : Nat → Nat} {G : xG} {S : xH} {M : xM} (C0 : lw_At p s m meth c b L xs) (hK : x_KK D d s) (hR : x_Rp D d (x_A s.heap.size) (x_mc d mo Aa M) S H) (hI : Inv G S o M) (hS : va_S (x_A s.heap.size) s.heap H locs) (hl : lv_has ls 4 [(3, .int (nI i)), (2, .ref mo), (1, .ref o), (0, .ref b)]) (hL : L ≤ 640) (hi : i + 9 < L) (hc : cells + 10000 ≤ 1200000) (hs : slots + 42000 ≤ 5502250) (kk : ∀ (G : xG) (S : xH) (M : xM) (H : Heap) (locs : List Loc), x_Rp D d (x_A s.heap.size) (x_mc d mo Aa M) S H → Inv G S o M → va_S (x_A s.heap.size) s.heap H locs → W p l e room_1 s m #[Value.ref b] below meth c H locs (cells + 10000) (slots + 42000) Q (F0 m 1901 ls [])) : W p l e room_1 s m #[Value.ref b] below meth c H locs cells slots Q (F0 m 244 ls []) := by
  obtain ⟨hx, hb, hr, hml, hown, hts0, hX, hbl, hlocks, hgv⟩ := id C0
  have hts : ∀ w ∈ lw_all, w.before #[Value.ref b] s = true := fun w h => hts0 w (lw_all_tbl h)
  have hw := e_streets (x := xs (i + 1)) (G := G) (S := S) (o := o) (M := M) hI
  refine lv_aload_n hx hb dL_law_244 rfl (lv_at hl 2 rfl) ?_
  refine lc_ld (k := 1) C0 hS hl hL (by omega) dL_law_245 dL_law_246 dL_law_247 (by decide) dL_law_248 dL_law_249 ?_
  refine x_ci (va_runV (As := [.int (xs (i + 1))]) (rest := []) ⟨hx, hb, hml, hown, hts⟩ (mt_X0_streets l hw) (cwV 1 hts (lw_V q174 q175 q176 q64 q177) rfl rfl rfl hd_X0_streets ⟨Nat.le_of_ble_eq_true rfl, Nat.le_of_ble_eq_true rfl⟩) ⟨x_Pc_blind, hR.recv hK (ci := 0) rfl (by decide) hI.O_t, x_Pc_pre hR (Nat.le_refl _) hS hK⟩ rfl rfl hl.1 rfl (lv_room (Nat.le_of_ble_eq_true rfl)) dL_law_250 ⟨by show cells + 0 ≤ 1200000; omega, by show slots + 0 ≤ 5502250; omega⟩) hS (fun r S1 H1 locs1 hp hR1 hS1 => ?_)
  have hp1 := hp
  refine lv_aload_n hx hb dL_law_253 rfl (lv_at hl 1 rfl) ?_
  refine lc_ld (k := 1) C0 hS1 hl hL (by omega) dL_law_254 dL_law_255 dL_law_256 (by decide) dL_law_257 dL_law_258 ?_
  refine xm_ci (va_runV (As := [.int (xs (i + 1))]) (rest := [.int r]) ⟨hx, hb, hml, hown, hts⟩ (mt_X1_streets l hp1) (cwV 1 hts (lw_V q1084 q1085 q1086 q65 q1087) rfl rfl rfl hd_X1_streets ⟨Nat.le_of_ble_eq_true rfl, Nat.le_of_ble_eq_true rfl⟩) ⟨x_Pc_blind, xm_recv hR1 hK, x_Pc_pre hR1 (Nat.le_refl _) hS1 hK⟩ rfl rfl hl.1 rfl (lv_room (Nat.le_of_ble_eq_true rfl)) dL_law_259 ⟨by show cells + 0 + 0 ≤ 1200000; omega, by show slots + 0 + 0 ≤ 5502250; omega⟩) hS1 (fun r' M2 H2 locs2 hp2 hR2 hS2 => ?_)
  obtain ⟨er, G2, hI2⟩ := hp2
  refine lv_icmp_eq (tgt := 1901) hx hb dL_law_262 (by decide) (fun _ => ?_) (fun z => absurd er z)
  refine W.widen (k := cells + 10000) (n := slots + 42000) (by omega) (by omega) ?_
  exact kk _ _ _ _ _ hR2 hI2 hS2
set_option maxHeartbeats 4000000 in
theorem lc_1 {p : Program} {l : Launch} {e : Env} {s : State} {m : MethodId} {below : List Frame} {meth : Method} {c : Code} {H : Heap} {locs : List Loc} {cells slots : Nat} {Q : State → Prop} {ls : Array Slot} {D : va_G} {d : Nat → ClassId} {b L : Nat} {xs : Nat → Int32} {o mo i : Nat} {Aa : Nat → Nat} {G : xG} {S : xH} {M : xM} (C0 : lw_At p s m meth c b L xs) (hK : x_KK D d s) (hR : x_Rp D d (x_A s.heap.size) (x_mc d mo Aa M) S H) (hI : Inv G S o M) (hS : va_S (x_A s.heap.size) s.heap H locs) (hl : lv_has ls 4 [(3, .int (nI i)), (2, .ref mo), (1, .ref o), (0, .ref b)]) (hL : L ≤ 640) (hi : i + 9 < L) (hc : cells + 10000 ≤ 1200000) (hs : slots + 42000 ≤ 5502250) (kk : ∀ (G : xG) (S : xH) (M : xM) (H : Heap) (locs : List Loc), x_Rp D d (x_A s.heap.size) (x_mc d mo Aa M) S H → Inv G S o M → va_S (x_A s.heap.size) s.heap H locs → W p l e room_1 s m #[Value.ref b] below meth c H locs (cells + 10000) (slots + 42000) Q (F0 m 1901 ls [])) : W p l e room_1 s m #[Value.ref b] below meth c H locs cells slots Q (F0 m 267 ls []) := by
  obtain ⟨hx, hb, hr, hml, hown, hts0, hX, hbl, hlocks, hgv⟩ := id C0
  have hts : ∀ w ∈ lw_all, w.before #[Value.ref b] s = true := fun w h => hts0 w (lw_all_tbl h)
  have hw := e_way (x := xs (i + 1)) (y := xs (i + 2)) (z := nz (xs (i + 3))) (G := G) (S := S) (o := o) (M := M) hI (nz_B _)
  refine lv_aload_n hx hb dL_law_267 rfl (lv_at hl 2 rfl) ?_
  refine lc_ld (k := 1) C0 hS hl hL (by omega) dL_law_268 dL_law_269 dL_law_270 (by decide) dL_law_271 dL_law_272 ?_
  refine lc_ld (k := 2) C0 hS hl hL (by omega) dL_law_273 dL_law_274 dL_law_275 (by decide) dL_law_276 dL_law_277 ?_
  refine lc_ld (k := 3) C0 hS hl hL (by omega) dL_law_278 dL_law_279 dL_law_280 (by decide) dL_law_281 dL_law_282 ?_
  refine lc_nz C0 dL_law_283 dL_law_286 dL_law_287 dL_law_290 ?_
  refine x_ci (va_runV (As := [.int (xs (i + 1)), .int (xs (i + 2)), .int (nz (xs (i + 3)))]) (rest := []) ⟨hx, hb, hml, hown, hts⟩ (mt_X0_way l hw) (cwV 3 hts (lw_V q185 q186 q187 q64 q188) rfl rfl rfl hd_X0_way ⟨Nat.le_of_ble_eq_true rfl, Nat.le_of_ble_eq_true rfl⟩) ⟨x_Pc_blind, hR.recv hK (ci := 0) rfl (by decide) hI.O_t, x_Pc_pre hR (Nat.le_refl _) hS hK⟩ rfl rfl hl.1 rfl (lv_room (Nat.le_of_ble_eq_true rfl)) dL_law_291 ⟨by show cells + 0 ≤ 1200000; omega, by show slots + 0 ≤ 5502250; omega⟩) hS (fun r S1 H1 locs1 hp hR1 hS1 => ?_)
  have hp1 := hp
  refine lv_aload_n hx hb dL_law_294 rfl (lv_at hl 1 rfl) ?_
  refine lc_ld (k := 1) C0 hS1 hl hL (by omega) dL_law_295 dL_law_296 dL_law_297 (by decide) dL_law_298 dL_law_299 ?_
  refine lc_ld (k := 2) C0 hS1 hl hL (by omega) dL_law_300 dL_law_301 dL_law_302 (by decide) dL_law_303 dL_law_304 ?_
  refine lc_ld (k := 3) C0 hS1 hl hL (by omega) dL_law_305 dL_law_306 dL_law_307 (by decide) dL_law_308 dL_law_309 ?_
  refine lc_nz C0 dL_law_310 dL_law_313 dL_law_314 dL_law_317 ?_
  refine xm_ci (va_runV (As := [.int (xs (i + 1)), .int (xs (i + 2)), .int (nz (xs (i + 3)))]) (rest := [.int r]) ⟨hx, hb, hml, hown, hts⟩ (mt_X1_way l hp1) (cwV 3 hts (lw_V q1092 q1093 q1094 q65 q1095) rfl rfl rfl hd_X1_way ⟨Nat.le_of_ble_eq_true rfl, Nat.le_of_ble_eq_true rfl⟩) ⟨x_Pc_blind, xm_recv hR1 hK, x_Pc_pre hR1 (Nat.le_refl _) hS1 hK⟩ rfl rfl hl.1 rfl (lv_room (Nat.le_of_ble_eq_true rfl)) dL_law_318 ⟨by show cells + 0 + 0 ≤ 1200000; omega, by show slots + 0 + 0 ≤ 5502250; omega⟩) hS1 (fun r' M2 H2 locs2 hp2 hR2 hS2 => ?_)
  obtain ⟨er, G2, hI2⟩ := hp2
  refine lv_icmp_eq (tgt := 1901) hx hb dL_law_321 (by decide) (fun _ => ?_) (fun z => absurd er z)
  refine W.widen (k := cells + 10000) (n := slots + 42000) (by omega) (by omega) ?_
  exact kk _ _ _ _ _ hR2 hI2 hS2
set_option maxHeartbeats 4000000 in
theorem lc_2 {p : Program} {l : Launch} {e : Env} {s : State} {m : MethodId} {below : List Frame} {meth : Method} {c : Code} {H : Heap} {locs : List Loc} {cells slots : Nat} {Q : State → Prop} {ls : Array Slot} {D : va_G} {d : Nat → ClassId} {b L : Nat} {xs : Nat → Int32} {o mo i : Nat} {Aa : Nat → Nat} {G : xG} {S : xH} {M : xM} (C0 : lw_At p s m meth c b L xs) (hK : x_KK D d s) (hR : x_Rp D d (x_A s.heap.size) (x_mc d mo Aa M) S H) (hI : Inv G S o M) (hS : va_S (x_A s.heap.size) s.heap H locs) (hl : lv_has ls 4 [(3, .int (nI i)), (2, .ref mo), (1, .ref o), (0, .ref b)]) (hL : L ≤ 640) (hi : i + 9 < L) (hc : cells + 10000 ≤ 1200000) (hs : slots + 42000 ≤ 5502250) (kk : ∀ (G : xG) (S : xH) (M : xM) (H : Heap) (locs : List Loc), x_Rp D d (x_A s.heap.size) (x_mc d mo Aa M) S H → Inv G S o M → va_S (x_A s.heap.size) s.heap H locs → W p l e room_1 s m #[Value.ref b] below meth c H locs (cells + 10000) (slots + 42000) Q (F0 m 1901 ls [])) : W p l e room_1 s m #[Value.ref b] below meth c H locs cells slots Q (F0 m 326 ls []) := by
  obtain ⟨hx, hb, hr, hml, hown, hts0, hX, hbl, hlocks, hgv⟩ := id C0
  have hts : ∀ w ∈ lw_all, w.before #[Value.ref b] s = true := fun w h => hts0 w (lw_all_tbl h)
  have hw := e_far (x := xs (i + 1)) (y := xs (i + 2)) (G := G) (S := S) (o := o) (M := M) (k := 1) (n := 8) hI (Nat.le_refl _) (Nat.le_refl _)
  refine lv_aload_n hx hb dL_law_326 rfl (lv_at hl 2 rfl) ?_
  refine lc_ld (k := 1) C0 hS hl hL (by omega) dL_law_327 dL_law_328 dL_law_329 (by decide) dL_law_330 dL_law_331 ?_
  refine lc_ld (k := 2) C0 hS hl hL (by omega) dL_law_332 dL_law_333 dL_law_334 (by decide) dL_law_335 dL_law_336 ?_
  refine x_ci (va_runV (As := [.int (xs (i + 1)), .int (xs (i + 2))]) (rest := []) ⟨hx, hb, hml, hown, hts⟩ (mt_X0_far l hw) (cwV 2 hts (lw_V q189 q190 q191 q64 q192) rfl rfl rfl hd_X0_far ⟨Nat.le_of_ble_eq_true rfl, Nat.le_of_ble_eq_true rfl⟩) ⟨x_Pc_blind, hR.recv hK (ci := 0) rfl (by decide) hI.O_t, x_Pc_pre hR (Nat.le_refl _) hS hK⟩ rfl rfl hl.1 rfl (lv_room (Nat.le_of_ble_eq_true rfl)) dL_law_337 ⟨by show cells + 1 ≤ 1200000; omega, by show slots + 8 ≤ 5502250; omega⟩) hS (fun r S1 H1 locs1 hp hR1 hS1 => ?_)
  have hp1 := hp
  refine lv_aload_n hx hb dL_law_340 rfl (lv_at hl 1 rfl) ?_
  refine lc_ld (k := 1) C0 hS1 hl hL (by omega) dL_law_341 dL_law_342 dL_law_343 (by decide) dL_law_344 dL_law_345 ?_
  refine lc_ld (k := 2) C0 hS1 hl hL (by omega) dL_law_346 dL_law_347 dL_law_348 (by decide) dL_law_349 dL_law_350 ?_
  refine xm_ci (va_runV (As := [.int (xs (i + 1)), .int (xs (i + 2))]) (rest := [.int r]) ⟨hx, hb, hml, hown, hts⟩ (mt_X1_far l hp1) (cwV 2 hts (lw_V q1100 q1101 q1102 q65 q1103) rfl rfl rfl hd_X1_far ⟨Nat.le_of_ble_eq_true rfl, Nat.le_of_ble_eq_true rfl⟩) ⟨x_Pc_blind, xm_recv hR1 hK, x_Pc_pre hR1 (Nat.le_refl _) hS1 hK⟩ rfl rfl hl.1 rfl (lv_room (Nat.le_of_ble_eq_true rfl)) dL_law_351 ⟨by show cells + 1 + 0 ≤ 1200000; omega, by show slots + 8 + 0 ≤ 5502250; omega⟩) hS1 (fun r' M2 H2 locs2 hp2 hR2 hS2 => ?_)
  obtain ⟨er, G2, hI2⟩ := hp2
  refine lv_icmp_eq (tgt := 1901) hx hb dL_law_354 (by decide) (fun _ => ?_) (fun z => absurd er z)
  refine W.widen (k := cells + 10000) (n := slots + 42000) (by omega) (by omega) ?_
  exact kk _ _ _ _ _ hR2 hI2 hS2
set_option maxHeartbeats 4000000 in
theorem lc_3 {p : Program} {l : Launch} {e : Env} {s : State} {m : MethodId} {below : List Frame} {meth : Method} {c : Code} {H : Heap} {locs : List Loc} {cells slots : Nat} {Q : State → Prop} {ls : Array Slot} {D : va_G} {d : Nat → ClassId} {b L : Nat} {xs : Nat → Int32} {o mo i : Nat} {Aa : Nat → Nat} {G : xG} {S : xH} {M : xM} (C0 : lw_At p s m meth c b L xs) (hK : x_KK D d s) (hR : x_Rp D d (x_A s.heap.size) (x_mc d mo Aa M) S H) (hI : Inv G S o M) (hS : va_S (x_A s.heap.size) s.heap H locs) (hl : lv_has ls 4 [(3, .int (nI i)), (2, .ref mo), (1, .ref o), (0, .ref b)]) (hL : L ≤ 640) (hi : i + 9 < L) (hc : cells + 10000 ≤ 1200000) (hs : slots + 42000 ≤ 5502250) (kk : ∀ (G : xG) (S : xH) (M : xM) (H : Heap) (locs : List Loc), x_Rp D d (x_A s.heap.size) (x_mc d mo Aa M) S H → Inv G S o M → va_S (x_A s.heap.size) s.heap H locs → W p l e room_1 s m #[Value.ref b] below meth c H locs (cells + 10000) (slots + 42000) Q (F0 m 1901 ls [])) : W p l e room_1 s m #[Value.ref b] below meth c H locs cells slots Q (F0 m 359 ls []) := by
  obtain ⟨hx, hb, hr, hml, hown, hts0, hX, hbl, hlocks, hgv⟩ := id C0
  have hts : ∀ w ∈ lw_all, w.before #[Value.ref b] s = true := fun w h => hts0 w (lw_all_tbl h)
  have hw := e_man (x1 := xs (i + 1)) (x2 := xs (i + 2)) (x3 := xs (i + 3)) (x4 := xs (i + 4)) (x5 := xs (i + 5)) (x6 := xs (i + 6)) (x7 := xs (i + 7)) (G := G) (S := S) (o := o) (M := M) (k := 3) (n := 15) hI (Nat.le_refl _) (Nat.le_refl _)
  refine lv_aload_n hx hb dL_law_359 rfl (lv_at hl 2 rfl) ?_
  refine lc_ld (k := 1) C0 hS hl hL (by omega) dL_law_360 dL_law_361 dL_law_362 (by decide) dL_law_363 dL_law_364 ?_
  refine lc_ld (k := 2) C0 hS hl hL (by omega) dL_law_365 dL_law_366 dL_law_367 (by decide) dL_law_368 dL_law_369 ?_
  refine lc_ld (k := 3) C0 hS hl hL (by omega) dL_law_370 dL_law_371 dL_law_372 (by decide) dL_law_373 dL_law_374 ?_
  refine lc_ld (k := 4) C0 hS hl hL (by omega) dL_law_375 dL_law_376 dL_law_377 (by decide) dL_law_378 dL_law_379 ?_
  refine lc_ld (k := 5) C0 hS hl hL (by omega) dL_law_380 dL_law_381 dL_law_382 (by decide) dL_law_383 dL_law_384 ?_
  refine lc_lb (k := 6) C0 hS hl hL (by omega) dL_law_385 dL_law_386 dL_law_387 (by decide) dL_law_389 dL_law_390 ?_
  refine lc_lb (k := 7) C0 hS hl hL (by omega) dL_law_391 dL_law_392 dL_law_393 (by decide) dL_law_395 dL_law_396 ?_
  refine x_ci (va_runV (As := [.int (xs (i + 1)), .int (xs (i + 2)), .int (xs (i + 3)), .int (xs (i + 4)), .int (xs (i + 5)), .int (xs (i + 6)), .int (xs (i + 7))]) (rest := []) ⟨hx, hb, hml, hown, hts⟩ (mt_X0_man l hw) (cwV 7 hts (lw_V q197 q198 q199 q64 q200) rfl rfl rfl hd_X0_man ⟨Nat.le_of_ble_eq_true rfl, Nat.le_of_ble_eq_true rfl⟩) ⟨x_Pc_blind, hR.recv hK (ci := 0) rfl (by decide) hI.O_t, x_Pc_pre hR (Nat.le_refl _) hS hK⟩ rfl rfl hl.1 rfl (lv_room (Nat.le_of_ble_eq_true rfl)) dL_law_397 ⟨by show cells + 3 ≤ 1200000; omega, by show slots + 15 ≤ 5502250; omega⟩) hS (fun r S1 H1 locs1 hp hR1 hS1 => ?_)
  have hp1 := hp
  refine lv_aload_n hx hb dL_law_400 rfl (lv_at hl 1 rfl) ?_
  refine lc_ld (k := 1) C0 hS1 hl hL (by omega) dL_law_401 dL_law_402 dL_law_403 (by decide) dL_law_404 dL_law_405 ?_
  refine lc_ld (k := 2) C0 hS1 hl hL (by omega) dL_law_406 dL_law_407 dL_law_408 (by decide) dL_law_409 dL_law_410 ?_
  refine lc_ld (k := 3) C0 hS1 hl hL (by omega) dL_law_411 dL_law_412 dL_law_413 (by decide) dL_law_414 dL_law_415 ?_
  refine lc_ld (k := 4) C0 hS1 hl hL (by omega) dL_law_416 dL_law_417 dL_law_418 (by decide) dL_law_419 dL_law_420 ?_
  refine lc_ld (k := 5) C0 hS1 hl hL (by omega) dL_law_421 dL_law_422 dL_law_423 (by decide) dL_law_424 dL_law_425 ?_
  refine lc_lb (k := 6) C0 hS1 hl hL (by omega) dL_law_426 dL_law_427 dL_law_428 (by decide) dL_law_430 dL_law_431 ?_
  refine lc_lb (k := 7) C0 hS1 hl hL (by omega) dL_law_432 dL_law_433 dL_law_434 (by decide) dL_law_436 dL_law_437 ?_
  refine xm_ci (va_runV (As := [.int (xs (i + 1)), .int (xs (i + 2)), .int (xs (i + 3)), .int (xs (i + 4)), .int (xs (i + 5)), .int (xs (i + 6)), .int (xs (i + 7))]) (rest := [.int r]) ⟨hx, hb, hml, hown, hts⟩ (mt_X1_man l hp1) (cwV 7 hts (lw_V q1108 q1109 q1110 q65 q1111) rfl rfl rfl hd_X1_man ⟨Nat.le_of_ble_eq_true rfl, Nat.le_of_ble_eq_true rfl⟩) ⟨x_Pc_blind, xm_recv hR1 hK, x_Pc_pre hR1 (Nat.le_refl _) hS1 hK⟩ rfl rfl hl.1 rfl (lv_room (Nat.le_of_ble_eq_true rfl)) dL_law_438 ⟨by show cells + 3 + 0 ≤ 1200000; omega, by show slots + 15 + 0 ≤ 5502250; omega⟩) hS1 (fun r' M2 H2 locs2 hp2 hR2 hS2 => ?_)
  obtain ⟨er, G2, hI2⟩ := hp2
  refine lv_icmp_eq (tgt := 1901) hx hb dL_law_441 (by decide) (fun _ => ?_) (fun z => absurd er z)
  refine W.widen (k := cells + 10000) (n := slots + 42000) (by omega) (by omega) ?_
  exact kk _ _ _ _ _ hR2 hI2 hS2
set_option maxHeartbeats 4000000 in
theorem lc_4 {p : Program} {l : Launch} {e : Env} {s : State} {m : MethodId} {below : List Frame} {meth : Method} {c : Code} {H : Heap} {locs : List Loc} {cells slots : Nat} {Q : State → Prop} {ls : Array Slot} {D : va_G} {d : Nat → ClassId} {b L : Nat} {xs : Nat → Int32} {o mo i : Nat} {Aa : Nat → Nat} {G : xG} {S : xH} {M : xM} (C0 : lw_At p s m meth c b L xs) (hK : x_KK D d s) (hR : x_Rp D d (x_A s.heap.size) (x_mc d mo Aa M) S H) (hI : Inv G S o M) (hS : va_S (x_A s.heap.size) s.heap H locs) (hl : lv_has ls 4 [(3, .int (nI i)), (2, .ref mo), (1, .ref o), (0, .ref b)]) (hL : L ≤ 640) (hi : i + 9 < L) (hc : cells + 10000 ≤ 1200000) (hs : slots + 42000 ≤ 5502250) (kk : ∀ (G : xG) (S : xH) (M : xM) (H : Heap) (locs : List Loc), x_Rp D d (x_A s.heap.size) (x_mc d mo Aa M) S H → Inv G S o M → va_S (x_A s.heap.size) s.heap H locs → W p l e room_1 s m #[Value.ref b] below meth c H locs (cells + 10000) (slots + 42000) Q (F0 m 1901 ls [])) : W p l e room_1 s m #[Value.ref b] below meth c H locs cells slots Q (F0 m 446 ls []) := by
  obtain ⟨hx, hb, hr, hml, hown, hts0, hX, hbl, hlocks, hgv⟩ := id C0
  have hts : ∀ w ∈ lw_all, w.before #[Value.ref b] s = true := fun w h => hts0 w (lw_all_tbl h)
  have hw := e_about (x := xs (i + 1)) (y := xs (i + 2)) (G := G) (S := S) (o := o) (M := M) hI
  refine lv_aload_n hx hb dL_law_446 rfl (lv_at hl 2 rfl) ?_
  refine lc_ld (k := 1) C0 hS hl hL (by omega) dL_law_447 dL_law_448 dL_law_449 (by decide) dL_law_450 dL_law_451 ?_
  refine lc_ld (k := 2) C0 hS hl hL (by omega) dL_law_452 dL_law_453 dL_law_454 (by decide) dL_law_455 dL_law_456 ?_
  refine x_ci (va_runV (As := [.int (xs (i + 1)), .int (xs (i + 2))]) (rest := []) ⟨hx, hb, hml, hown, hts⟩ (mt_X0_about l hw) (cwV 2 hts (lw_V q248 q249 q250 q64 q251) rfl rfl rfl hd_X0_about ⟨Nat.le_of_ble_eq_true rfl, Nat.le_of_ble_eq_true rfl⟩) ⟨x_Pc_blind, hR.recv hK (ci := 0) rfl (by decide) hI.O_t, x_Pc_pre hR (Nat.le_refl _) hS hK⟩ rfl rfl hl.1 rfl (lv_room (Nat.le_of_ble_eq_true rfl)) dL_law_457 ⟨by show cells + 0 ≤ 1200000; omega, by show slots + 0 ≤ 5502250; omega⟩) hS (fun r S1 H1 locs1 hp hR1 hS1 => ?_)
  have hp1 := hp.2
  rw [hp.1] at hR1
  refine lv_aload_n hx hb dL_law_460 rfl (lv_at hl 1 rfl) ?_
  refine lc_ld (k := 1) C0 hS1 hl hL (by omega) dL_law_461 dL_law_462 dL_law_463 (by decide) dL_law_464 dL_law_465 ?_
  refine lc_ld (k := 2) C0 hS1 hl hL (by omega) dL_law_466 dL_law_467 dL_law_468 (by decide) dL_law_469 dL_law_470 ?_
  refine xm_ci (va_runV (As := [.int (xs (i + 1)), .int (xs (i + 2))]) (rest := [.int r]) ⟨hx, hb, hml, hown, hts⟩ (mt_X1_about l hp1) (cwV 2 hts (lw_V q1119 q1120 q1121 q65 q1122) rfl rfl rfl hd_X1_about ⟨Nat.le_of_ble_eq_true rfl, Nat.le_of_ble_eq_true rfl⟩) ⟨x_Pc_blind, xm_recv hR1 hK, x_Pc_pre hR1 (Nat.le_refl _) hS1 hK⟩ rfl rfl hl.1 rfl (lv_room (Nat.le_of_ble_eq_true rfl)) dL_law_471 ⟨by show cells + 0 + 0 ≤ 1200000; omega, by show slots + 0 + 0 ≤ 5502250; omega⟩) hS1 (fun r' M2 H2 locs2 hp2 hR2 hS2 => ?_)
  obtain ⟨er, G2, hI2⟩ := hp2
  refine lv_icmp_eq (tgt := 1901) hx hb dL_law_474 (by decide) (fun _ => ?_) (fun z => absurd er z)
  refine W.widen (k := cells + 10000) (n := slots + 42000) (by omega) (by omega) ?_
  exact kk _ _ _ _ _ hR2 hI2 hS2
set_option maxHeartbeats 4000000 in
theorem lc_5 {p : Program} {l : Launch} {e : Env} {s : State} {m : MethodId} {below : List Frame} {meth : Method} {c : Code} {H : Heap} {locs : List Loc} {cells slots : Nat} {Q : State → Prop} {ls : Array Slot} {D : va_G} {d : Nat → ClassId} {b L : Nat} {xs : Nat → Int32} {o mo i : Nat} {Aa : Nat → Nat} {G : xG} {S : xH} {M : xM} (C0 : lw_At p s m meth c b L xs) (hK : x_KK D d s) (hR : x_Rp D d (x_A s.heap.size) (x_mc d mo Aa M) S H) (hI : Inv G S o M) (hS : va_S (x_A s.heap.size) s.heap H locs) (hl : lv_has ls 4 [(3, .int (nI i)), (2, .ref mo), (1, .ref o), (0, .ref b)]) (hL : L ≤ 640) (hi : i + 9 < L) (hc : cells + 10000 ≤ 1200000) (hs : slots + 42000 ≤ 5502250) (kk : ∀ (G : xG) (S : xH) (M : xM) (H : Heap) (locs : List Loc), x_Rp D d (x_A s.heap.size) (x_mc d mo Aa M) S H → Inv G S o M → va_S (x_A s.heap.size) s.heap H locs → W p l e room_1 s m #[Value.ref b] below meth c H locs (cells + 10000) (slots + 42000) Q (F0 m 1901 ls [])) : W p l e room_1 s m #[Value.ref b] below meth c H locs cells slots Q (F0 m 479 ls []) := by
  obtain ⟨hx, hb, hr, hml, hown, hts0, hX, hbl, hlocks, hgv⟩ := id C0
  have hts : ∀ w ∈ lw_all, w.before #[Value.ref b] s = true := fun w h => hts0 w (lw_all_tbl h)
  have hw := e_shy (x := xs (i + 1)) (y := nz (xs (i + 2))) (G := G) (S := S) (o := o) (M := M) hI (nz_B _)
  refine lv_aload_n hx hb dL_law_479 rfl (lv_at hl 2 rfl) ?_
  refine lc_ld (k := 1) C0 hS hl hL (by omega) dL_law_480 dL_law_481 dL_law_482 (by decide) dL_law_483 dL_law_484 ?_
  refine lc_ld (k := 2) C0 hS hl hL (by omega) dL_law_485 dL_law_486 dL_law_487 (by decide) dL_law_488 dL_law_489 ?_
  refine lc_nz C0 dL_law_490 dL_law_493 dL_law_494 dL_law_497 ?_
  refine x_ci (va_runV (As := [.int (xs (i + 1)), .int (nz (xs (i + 2)))]) (rest := []) ⟨hx, hb, hml, hown, hts⟩ (mt_X0_shy l hw) (cwV 2 hts (lw_V q256 q257 q258 q64 q259) rfl rfl rfl hd_X0_shy ⟨Nat.le_of_ble_eq_true rfl, Nat.le_of_ble_eq_true rfl⟩) ⟨x_Pc_blind, hR.recv hK (ci := 0) rfl (by decide) hI.O_t, x_Pc_pre hR (Nat.le_refl _) hS hK⟩ rfl rfl hl.1 rfl (lv_room (Nat.le_of_ble_eq_true rfl)) dL_law_498 ⟨by show cells + 0 ≤ 1200000; omega, by show slots + 0 ≤ 5502250; omega⟩) hS (fun r S1 H1 locs1 hp hR1 hS1 => ?_)
  have hp1 := hp
  refine lv_aload_n hx hb dL_law_501 rfl (lv_at hl 1 rfl) ?_
  refine lc_ld (k := 1) C0 hS1 hl hL (by omega) dL_law_502 dL_law_503 dL_law_504 (by decide) dL_law_505 dL_law_506 ?_
  refine lc_ld (k := 2) C0 hS1 hl hL (by omega) dL_law_507 dL_law_508 dL_law_509 (by decide) dL_law_510 dL_law_511 ?_
  refine lc_nz C0 dL_law_512 dL_law_515 dL_law_516 dL_law_519 ?_
  refine xm_ci (va_runV (As := [.int (xs (i + 1)), .int (nz (xs (i + 2)))]) (rest := [.int r]) ⟨hx, hb, hml, hown, hts⟩ (mt_X1_shy l hp1) (cwV 2 hts (lw_V q1128 q1129 q1130 q65 q1131) rfl rfl rfl hd_X1_shy ⟨Nat.le_of_ble_eq_true rfl, Nat.le_of_ble_eq_true rfl⟩) ⟨x_Pc_blind, xm_recv hR1 hK, x_Pc_pre hR1 (Nat.le_refl _) hS1 hK⟩ rfl rfl hl.1 rfl (lv_room (Nat.le_of_ble_eq_true rfl)) dL_law_520 ⟨by show cells + 0 + 0 ≤ 1200000; omega, by show slots + 0 + 0 ≤ 5502250; omega⟩) hS1 (fun r' M2 H2 locs2 hp2 hR2 hS2 => ?_)
  obtain ⟨er, G2, hI2⟩ := hp2
  refine lv_icmp_eq (tgt := 1901) hx hb dL_law_523 (by decide) (fun _ => ?_) (fun z => absurd er z)
  refine W.widen (k := cells + 10000) (n := slots + 42000) (by omega) (by omega) ?_
  exact kk _ _ _ _ _ hR2 hI2 hS2
set_option maxHeartbeats 4000000 in
theorem lc_6 {p : Program} {l : Launch} {e : Env} {s : State} {m : MethodId} {below : List Frame} {meth : Method} {c : Code} {H : Heap} {locs : List Loc} {cells slots : Nat} {Q : State → Prop} {ls : Array Slot} {D : va_G} {d : Nat → ClassId} {b L : Nat} {xs : Nat → Int32} {o mo i : Nat} {Aa : Nat → Nat} {G : xG} {S : xH} {M : xM} (C0 : lw_At p s m meth c b L xs) (hK : x_KK D d s) (hR : x_Rp D d (x_A s.heap.size) (x_mc d mo Aa M) S H) (hI : Inv G S o M) (hS : va_S (x_A s.heap.size) s.heap H locs) (hl : lv_has ls 4 [(3, .int (nI i)), (2, .ref mo), (1, .ref o), (0, .ref b)]) (hL : L ≤ 640) (hi : i + 9 < L) (hc : cells + 10000 ≤ 1200000) (hs : slots + 42000 ≤ 5502250) (kk : ∀ (G : xG) (S : xH) (M : xM) (H : Heap) (locs : List Loc), x_Rp D d (x_A s.heap.size) (x_mc d mo Aa M) S H → Inv G S o M → va_S (x_A s.heap.size) s.heap H locs → W p l e room_1 s m #[Value.ref b] below meth c H locs (cells + 10000) (slots + 42000) Q (F0 m 1901 ls [])) : W p l e room_1 s m #[Value.ref b] below meth c H locs cells slots Q (F0 m 528 ls []) := by
  obtain ⟨hx, hb, hr, hml, hown, hts0, hX, hbl, hlocks, hgv⟩ := id C0
  have hts : ∀ w ∈ lw_all, w.before #[Value.ref b] s = true := fun w h => hts0 w (lw_all_tbl h)
  have hw := e_where (x := xs (i + 1)) (y := xs (i + 2)) (G := G) (S := S) (o := o) (M := M) hI
  refine lv_aload_n hx hb dL_law_528 rfl (lv_at hl 2 rfl) ?_
  refine lc_ld (k := 1) C0 hS hl hL (by omega) dL_law_529 dL_law_530 dL_law_531 (by decide) dL_law_532 dL_law_533 ?_
  refine lc_ld (k := 2) C0 hS hl hL (by omega) dL_law_534 dL_law_535 dL_law_536 (by decide) dL_law_537 dL_law_538 ?_
  refine x_ci (va_runV (As := [.int (xs (i + 1)), .int (xs (i + 2))]) (rest := []) ⟨hx, hb, hml, hown, hts⟩ (mt_X0_where l hw) (cwV 2 hts (lw_V q260 q261 q262 q64 q263) rfl rfl rfl hd_X0_where ⟨Nat.le_of_ble_eq_true rfl, Nat.le_of_ble_eq_true rfl⟩) ⟨x_Pc_blind, hR.recv hK (ci := 0) rfl (by decide) hI.O_t, x_Pc_pre hR (Nat.le_refl _) hS hK⟩ rfl rfl hl.1 rfl (lv_room (Nat.le_of_ble_eq_true rfl)) dL_law_539 ⟨by show cells + 0 ≤ 1200000; omega, by show slots + 0 ≤ 5502250; omega⟩) hS (fun r S1 H1 locs1 hp hR1 hS1 => ?_)
  have hp1 := hp.2
  rw [hp.1] at hR1
  refine lv_aload_n hx hb dL_law_542 rfl (lv_at hl 1 rfl) ?_
  refine lc_ld (k := 1) C0 hS1 hl hL (by omega) dL_law_543 dL_law_544 dL_law_545 (by decide) dL_law_546 dL_law_547 ?_
  refine lc_ld (k := 2) C0 hS1 hl hL (by omega) dL_law_548 dL_law_549 dL_law_550 (by decide) dL_law_551 dL_law_552 ?_
  refine xm_ci (va_runV (As := [.int (xs (i + 1)), .int (xs (i + 2))]) (rest := [.int r]) ⟨hx, hb, hml, hown, hts⟩ (mt_X1_where l hp1) (cwV 2 hts (lw_V q1132 q1133 q1134 q65 q1135) rfl rfl rfl hd_X1_where ⟨Nat.le_of_ble_eq_true rfl, Nat.le_of_ble_eq_true rfl⟩) ⟨x_Pc_blind, xm_recv hR1 hK, x_Pc_pre hR1 (Nat.le_refl _) hS1 hK⟩ rfl rfl hl.1 rfl (lv_room (Nat.le_of_ble_eq_true rfl)) dL_law_553 ⟨by show cells + 0 + 0 ≤ 1200000; omega, by show slots + 0 + 0 ≤ 5502250; omega⟩) hS1 (fun r' M2 H2 locs2 hp2 hR2 hS2 => ?_)
  obtain ⟨er, G2, hI2⟩ := hp2
  refine lv_icmp_eq (tgt := 1901) hx hb dL_law_556 (by decide) (fun _ => ?_) (fun z => absurd er z)
  refine W.widen (k := cells + 10000) (n := slots + 42000) (by omega) (by omega) ?_
  exact kk _ _ _ _ _ hR2 hI2 hS2
set_option maxHeartbeats 4000000 in
theorem lc_7 {p : Program} {l : Launch} {e : Env} {s : State} {m : MethodId} {below : List Frame} {meth : Method} {c : Code} {H : Heap} {locs : List Loc} {cells slots : Nat} {Q : State → Prop} {ls : Array Slot} {D : va_G} {d : Nat → ClassId} {b L : Nat} {xs : Nat → Int32} {o mo i : Nat} {Aa : Nat → Nat} {G : xG} {S : xH} {M : xM} (C0 : lw_At p s m meth c b L xs) (hK : x_KK D d s) (hR : x_Rp D d (x_A s.heap.size) (x_mc d mo Aa M) S H) (hI : Inv G S o M) (hS : va_S (x_A s.heap.size) s.heap H locs) (hl : lv_has ls 4 [(3, .int (nI i)), (2, .ref mo), (1, .ref o), (0, .ref b)]) (hL : L ≤ 640) (hi : i + 9 < L) (hc : cells + 10000 ≤ 1200000) (hs : slots + 42000 ≤ 5502250) (kk : ∀ (G : xG) (S : xH) (M : xM) (H : Heap) (locs : List Loc), x_Rp D d (x_A s.heap.size) (x_mc d mo Aa M) S H → Inv G S o M → va_S (x_A s.heap.size) s.heap H locs → W p l e room_1 s m #[Value.ref b] below meth c H locs (cells + 10000) (slots + 42000) Q (F0 m 1901 ls [])) : W p l e room_1 s m #[Value.ref b] below meth c H locs cells slots Q (F0 m 561 ls []) := by
  obtain ⟨hx, hb, hr, hml, hown, hts0, hX, hbl, hlocks, hgv⟩ := id C0
  have hts : ∀ w ∈ lw_all, w.before #[Value.ref b] s = true := fun w h => hts0 w (lw_all_tbl h)
  have hw := e_at (x := xs (i + 1)) (G := G) (S := S) (o := o) (M := M) hI
  refine lv_aload_n hx hb dL_law_561 rfl (lv_at hl 2 rfl) ?_
  refine lc_ld (k := 1) C0 hS hl hL (by omega) dL_law_562 dL_law_563 dL_law_564 (by decide) dL_law_565 dL_law_566 ?_
  refine x_ci (va_runV (As := [.int (xs (i + 1))]) (rest := []) ⟨hx, hb, hml, hown, hts⟩ (mt_X0_at l hw) (cwV 1 hts (lw_V q268 q269 q270 q64 q271) rfl rfl rfl hd_X0_at ⟨Nat.le_of_ble_eq_true rfl, Nat.le_of_ble_eq_true rfl⟩) ⟨x_Pc_blind, hR.recv hK (ci := 0) rfl (by decide) hI.O_t, x_Pc_pre hR (Nat.le_refl _) hS hK⟩ rfl rfl hl.1 rfl (lv_room (Nat.le_of_ble_eq_true rfl)) dL_law_567 ⟨by show cells + 0 ≤ 1200000; omega, by show slots + 0 ≤ 5502250; omega⟩) hS (fun r S1 H1 locs1 hp hR1 hS1 => ?_)
  have hp1 := hp.2
  rw [hp.1] at hR1
  refine lv_aload_n hx hb dL_law_570 rfl (lv_at hl 1 rfl) ?_
  refine lc_ld (k := 1) C0 hS1 hl hL (by omega) dL_law_571 dL_law_572 dL_law_573 (by decide) dL_law_574 dL_law_575 ?_
  refine xm_ci (va_runV (As := [.int (xs (i + 1))]) (rest := [.int r]) ⟨hx, hb, hml, hown, hts⟩ (mt_X1_at l hp1) (cwV 1 hts (lw_V q1136 q1137 q1138 q65 q1139) rfl rfl rfl hd_X1_at ⟨Nat.le_of_ble_eq_true rfl, Nat.le_of_ble_eq_true rfl⟩) ⟨x_Pc_blind, xm_recv hR1 hK, x_Pc_pre hR1 (Nat.le_refl _) hS1 hK⟩ rfl rfl hl.1 rfl (lv_room (Nat.le_of_ble_eq_true rfl)) dL_law_576 ⟨by show cells + 0 + 0 ≤ 1200000; omega, by show slots + 0 + 0 ≤ 5502250; omega⟩) hS1 (fun r' M2 H2 locs2 hp2 hR2 hS2 => ?_)
  obtain ⟨er, G2, hI2⟩ := hp2
  refine lv_icmp_eq (tgt := 1901) hx hb dL_law_579 (by decide) (fun _ => ?_) (fun z => absurd er z)
  refine W.widen (k := cells + 10000) (n := slots + 42000) (by omega) (by omega) ?_
  exact kk _ _ _ _ _ hR2 hI2 hS2
set_option maxHeartbeats 4000000 in
theorem lc_8 {p : Program} {l : Launch} {e : Env} {s : State} {m : MethodId} {below : List Frame} {meth : Method} {c : Code} {H : Heap} {locs : List Loc} {cells slots : Nat} {Q : State → Prop} {ls : Array Slot} {D : va_G} {d : Nat → ClassId} {b L : Nat} {xs : Nat → Int32} {o mo i : Nat} {Aa : Nat → Nat} {G : xG} {S : xH} {M : xM} (C0 : lw_At p s m meth c b L xs) (hK : x_KK D d s) (hR : x_Rp D d (x_A s.heap.size) (x_mc d mo Aa M) S H) (hI : Inv G S o M) (hS : va_S (x_A s.heap.size) s.heap H locs) (hl : lv_has ls 4 [(3, .int (nI i)), (2, .ref mo), (1, .ref o), (0, .ref b)]) (hL : L ≤ 640) (hi : i + 9 < L) (hc : cells + 10000 ≤ 1200000) (hs : slots + 42000 ≤ 5502250) (kk : ∀ (G : xG) (S : xH) (M : xM) (H : Heap) (locs : List Loc), x_Rp D d (x_A s.heap.size) (x_mc d mo Aa M) S H → Inv G S o M → va_S (x_A s.heap.size) s.heap H locs → W p l e room_1 s m #[Value.ref b] below meth c H locs (cells + 10000) (slots + 42000) Q (F0 m 1901 ls [])) : W p l e room_1 s m #[Value.ref b] below meth c H locs cells slots Q (F0 m 584 ls []) := by
  obtain ⟨hx, hb, hr, hml, hown, hts0, hX, hbl, hlocks, hgv⟩ := id C0
  have hts : ∀ w ∈ lw_all, w.before #[Value.ref b] s = true := fun w h => hts0 w (lw_all_tbl h)
  have hw := e_tide (G := G) (S := S) (o := o) (M := M) hI
  refine lv_aload_n hx hb dL_law_584 rfl (lv_at hl 2 rfl) ?_
  refine x_ci (va_runV (As := []) (rest := []) ⟨hx, hb, hml, hown, hts⟩ (mt_X0_tide l hw) (cwV 0 hts (lw_V q284 q285 q286 q64 q287) rfl rfl rfl hd_X0_tide ⟨Nat.le_of_ble_eq_true rfl, Nat.le_of_ble_eq_true rfl⟩) ⟨x_Pc_blind, hR.recv hK (ci := 0) rfl (by decide) hI.O_t, x_Pc_pre hR (Nat.le_refl _) hS hK⟩ rfl rfl hl.1 rfl (lv_room (Nat.le_of_ble_eq_true rfl)) dL_law_585 ⟨by show cells + 0 ≤ 1200000; omega, by show slots + 0 ≤ 5502250; omega⟩) hS (fun r S1 H1 locs1 hp hR1 hS1 => ?_)
  have hp1 := hp.2
  rw [hp.1] at hR1
  refine lv_aload_n hx hb dL_law_588 rfl (lv_at hl 1 rfl) ?_
  refine xm_ci (va_runV (As := []) (rest := [.int r]) ⟨hx, hb, hml, hown, hts⟩ (mt_X1_tide l hp1) (cwV 0 hts (lw_V q1150 q1151 q1152 q65 q1153) rfl rfl rfl hd_X1_tide ⟨Nat.le_of_ble_eq_true rfl, Nat.le_of_ble_eq_true rfl⟩) ⟨x_Pc_blind, xm_recv hR1 hK, x_Pc_pre hR1 (Nat.le_refl _) hS1 hK⟩ rfl rfl hl.1 rfl (lv_room (Nat.le_of_ble_eq_true rfl)) dL_law_589 ⟨by show cells + 0 + 0 ≤ 1200000; omega, by show slots + 0 + 0 ≤ 5502250; omega⟩) hS1 (fun r' M2 H2 locs2 hp2 hR2 hS2 => ?_)
  obtain ⟨er, G2, hI2⟩ := hp2
  refine lv_icmp_eq (tgt := 1901) hx hb dL_law_592 (by decide) (fun _ => ?_) (fun z => absurd er z)
  refine W.widen (k := cells + 10000) (n := slots + 42000) (by omega) (by omega) ?_
  exact kk _ _ _ _ _ hR2 hI2 hS2
set_option maxHeartbeats 4000000 in
theorem lc_9 {p : Program} {l : Launch} {e : Env} {s : State} {m : MethodId} {below : List Frame} {meth : Method} {c : Code} {H : Heap} {locs : List Loc} {cells slots : Nat} {Q : State → Prop} {ls : Array Slot} {D : va_G} {d : Nat → ClassId} {b L : Nat} {xs : Nat → Int32} {o mo i : Nat} {Aa : Nat → Nat} {G : xG} {S : xH} {M : xM} (C0 : lw_At p s m meth c b L xs) (hK : x_KK D d s) (hR : x_Rp D d (x_A s.heap.size) (x_mc d mo Aa M) S H) (hI : Inv G S o M) (hS : va_S (x_A s.heap.size) s.heap H locs) (hl : lv_has ls 4 [(3, .int (nI i)), (2, .ref mo), (1, .ref o), (0, .ref b)]) (hL : L ≤ 640) (hi : i + 9 < L) (hc : cells + 10000 ≤ 1200000) (hs : slots + 42000 ≤ 5502250) (kk : ∀ (G : xG) (S : xH) (M : xM) (H : Heap) (locs : List Loc), x_Rp D d (x_A s.heap.size) (x_mc d mo Aa M) S H → Inv G S o M → va_S (x_A s.heap.size) s.heap H locs → W p l e room_1 s m #[Value.ref b] below meth c H locs (cells + 10000) (slots + 42000) Q (F0 m 1901 ls [])) : W p l e room_1 s m #[Value.ref b] below meth c H locs cells slots Q (F0 m 597 ls []) := by
  obtain ⟨hx, hb, hr, hml, hown, hts0, hX, hbl, hlocks, hgv⟩ := id C0
  have hts : ∀ w ∈ lw_all, w.before #[Value.ref b] s = true := fun w h => hts0 w (lw_all_tbl h)
  have hw := e_pass (x := xs (i + 1)) (G := G) (S := S) (o := o) (M := M) (k := 9600) (n := 40800) hI (Nat.le_refl _) (Nat.le_refl _)
  refine lv_aload_n hx hb dL_law_597 rfl (lv_at hl 2 rfl) ?_
  refine lc_ld (k := 1) C0 hS hl hL (by omega) dL_law_598 dL_law_599 dL_law_600 (by decide) dL_law_601 dL_law_602 ?_
  refine x_ci (va_runV (As := [.int (xs (i + 1))]) (rest := []) ⟨hx, hb, hml, hown, hts⟩ (mt_X0_pass l hw) (cwV 1 hts (lw_V q288 q289 q290 q64 q291) rfl rfl rfl hd_X0_pass ⟨Nat.le_of_ble_eq_true rfl, Nat.le_of_ble_eq_true rfl⟩) ⟨x_Pc_blind, hR.recv hK (ci := 0) rfl (by decide) hI.O_t, x_Pc_pre hR (Nat.le_refl _) hS hK⟩ rfl rfl hl.1 rfl (lv_room (Nat.le_of_ble_eq_true rfl)) dL_law_603 ⟨by show cells + 9600 ≤ 1200000; omega, by show slots + 40800 ≤ 5502250; omega⟩) hS (fun r S1 H1 locs1 hp hR1 hS1 => ?_)
  have hp1 := hp
  refine lv_aload_n hx hb dL_law_606 rfl (lv_at hl 1 rfl) ?_
  refine lc_ld (k := 1) C0 hS1 hl hL (by omega) dL_law_607 dL_law_608 dL_law_609 (by decide) dL_law_610 dL_law_611 ?_
  refine xm_ci (va_runV (As := [.int (xs (i + 1))]) (rest := [.int r]) ⟨hx, hb, hml, hown, hts⟩ (mt_X1_pass l hp1) (cwV 1 hts (lw_V q1154 q1155 q1156 q65 q1157) rfl rfl rfl hd_X1_pass ⟨Nat.le_of_ble_eq_true rfl, Nat.le_of_ble_eq_true rfl⟩) ⟨x_Pc_blind, xm_recv hR1 hK, x_Pc_pre hR1 (Nat.le_refl _) hS1 hK⟩ rfl rfl hl.1 rfl (lv_room (Nat.le_of_ble_eq_true rfl)) dL_law_612 ⟨by show cells + 9600 + 0 ≤ 1200000; omega, by show slots + 40800 + 0 ≤ 5502250; omega⟩) hS1 (fun r' M2 H2 locs2 hp2 hR2 hS2 => ?_)
  obtain ⟨er, G2, hI2⟩ := hp2
  refine lv_icmp_eq (tgt := 1901) hx hb dL_law_615 (by decide) (fun _ => ?_) (fun z => absurd er z)
  refine W.widen (k := cells + 10000) (n := slots + 42000) (by omega) (by omega) ?_
  exact kk _ _ _ _ _ hR2 hI2 hS2
set_option maxHeartbeats 4000000 in
theorem lc_10 {p : Program} {l : Launch} {e : Env} {s : State} {m : MethodId} {below : List Frame} {meth : Method} {c : Code} {H : Heap} {locs : List Loc} {cells slots : Nat} {Q : State → Prop} {ls : Array Slot} {D : va_G} {d : Nat → ClassId} {b L : Nat} {xs : Nat → Int32} {o mo i : Nat} {Aa : Nat → Nat} {G : xG} {S : xH} {M : xM} (C0 : lw_At p s m meth c b L xs) (hK : x_KK D d s) (hR : x_Rp D d (x_A s.heap.size) (x_mc d mo Aa M) S H) (hI : Inv G S o M) (hS : va_S (x_A s.heap.size) s.heap H locs) (hl : lv_has ls 4 [(3, .int (nI i)), (2, .ref mo), (1, .ref o), (0, .ref b)]) (hL : L ≤ 640) (hi : i + 9 < L) (hc : cells + 10000 ≤ 1200000) (hs : slots + 42000 ≤ 5502250) (kk : ∀ (G : xG) (S : xH) (M : xM) (H : Heap) (locs : List Loc), x_Rp D d (x_A s.heap.size) (x_mc d mo Aa M) S H → Inv G S o M → va_S (x_A s.heap.size) s.heap H locs → W p l e room_1 s m #[Value.ref b] below meth c H locs (cells + 10000) (slots + 42000) Q (F0 m 1901 ls [])) : W p l e room_1 s m #[Value.ref b] below meth c H locs cells slots Q (F0 m 620 ls []) := by
  obtain ⟨hx, hb, hr, hml, hown, hts0, hX, hbl, hlocks, hgv⟩ := id C0
  have hts : ∀ w ∈ lw_all, w.before #[Value.ref b] s = true := fun w h => hts0 w (lw_all_tbl h)
  have hw := e_walk (x := xs (i + 1)) (y := xs (i + 2)) (G := G) (S := S) (o := o) (M := M) (k := 1) (n := 3) hI (Nat.le_refl _) (Nat.le_refl _)
  refine lv_aload_n hx hb dL_law_620 rfl (lv_at hl 2 rfl) ?_
  refine lc_ld (k := 1) C0 hS hl hL (by omega) dL_law_621 dL_law_622 dL_law_623 (by decide) dL_law_624 dL_law_625 ?_
  refine lc_ld (k := 2) C0 hS hl hL (by omega) dL_law_626 dL_law_627 dL_law_628 (by decide) dL_law_629 dL_law_630 ?_
  refine x_ci (va_runV (As := [.int (xs (i + 1)), .int (xs (i + 2))]) (rest := []) ⟨hx, hb, hml, hown, hts⟩ (mt_X0_walk l hw) (cwV 2 hts (lw_V q322 q323 q324 q64 q325) rfl rfl rfl hd_X0_walk ⟨Nat.le_of_ble_eq_true rfl, Nat.le_of_ble_eq_true rfl⟩) ⟨x_Pc_blind, hR.recv hK (ci := 0) rfl (by decide) hI.O_t, x_Pc_pre hR (Nat.le_refl _) hS hK⟩ rfl rfl hl.1 rfl (lv_room (Nat.le_of_ble_eq_true rfl)) dL_law_631 ⟨by show cells + 1 ≤ 1200000; omega, by show slots + 3 ≤ 5502250; omega⟩) hS (fun r S1 H1 locs1 hp hR1 hS1 => ?_)
  have hp1 := hp
  refine lv_aload_n hx hb dL_law_634 rfl (lv_at hl 1 rfl) ?_
  refine lc_ld (k := 1) C0 hS1 hl hL (by omega) dL_law_635 dL_law_636 dL_law_637 (by decide) dL_law_638 dL_law_639 ?_
  refine lc_ld (k := 2) C0 hS1 hl hL (by omega) dL_law_640 dL_law_641 dL_law_642 (by decide) dL_law_643 dL_law_644 ?_
  refine xm_ci (va_runV (As := [.int (xs (i + 1)), .int (xs (i + 2))]) (rest := [.int r]) ⟨hx, hb, hml, hown, hts⟩ (mt_X1_walk l hp1) (cwV 2 hts (lw_V q1173 q1174 q1175 q65 q1176) rfl rfl rfl hd_X1_walk ⟨Nat.le_of_ble_eq_true rfl, Nat.le_of_ble_eq_true rfl⟩) ⟨x_Pc_blind, xm_recv hR1 hK, x_Pc_pre hR1 (Nat.le_refl _) hS1 hK⟩ rfl rfl hl.1 rfl (lv_room (Nat.le_of_ble_eq_true rfl)) dL_law_645 ⟨by show cells + 1 + 0 ≤ 1200000; omega, by show slots + 3 + 0 ≤ 5502250; omega⟩) hS1 (fun r' M2 H2 locs2 hp2 hR2 hS2 => ?_)
  obtain ⟨er, G2, hI2⟩ := hp2
  refine lv_icmp_eq (tgt := 1901) hx hb dL_law_648 (by decide) (fun _ => ?_) (fun z => absurd er z)
  refine W.widen (k := cells + 10000) (n := slots + 42000) (by omega) (by omega) ?_
  exact kk _ _ _ _ _ hR2 hI2 hS2
set_option maxHeartbeats 4000000 in
theorem lc_11 {p : Program} {l : Launch} {e : Env} {s : State} {m : MethodId} {below : List Frame} {meth : Method} {c : Code} {H : Heap} {locs : List Loc} {cells slots : Nat} {Q : State → Prop} {ls : Array Slot} {D : va_G} {d : Nat → ClassId} {b L : Nat} {xs : Nat → Int32} {o mo i : Nat} {Aa : Nat → Nat} {G : xG} {S : xH} {M : xM} (C0 : lw_At p s m meth c b L xs) (hK : x_KK D d s) (hR : x_Rp D d (x_A s.heap.size) (x_mc d mo Aa M) S H) (hI : Inv G S o M) (hS : va_S (x_A s.heap.size) s.heap H locs) (hl : lv_has ls 4 [(3, .int (nI i)), (2, .ref mo), (1, .ref o), (0, .ref b)]) (hL : L ≤ 640) (hi : i + 9 < L) (hc : cells + 10000 ≤ 1200000) (hs : slots + 42000 ≤ 5502250) (kk : ∀ (G : xG) (S : xH) (M : xM) (H : Heap) (locs : List Loc), x_Rp D d (x_A s.heap.size) (x_mc d mo Aa M) S H → Inv G S o M → va_S (x_A s.heap.size) s.heap H locs → W p l e room_1 s m #[Value.ref b] below meth c H locs (cells + 10000) (slots + 42000) Q (F0 m 1901 ls [])) : W p l e room_1 s m #[Value.ref b] below meth c H locs cells slots Q (F0 m 653 ls []) := by
  obtain ⟨hx, hb, hr, hml, hown, hts0, hX, hbl, hlocks, hgv⟩ := id C0
  have hts : ∀ w ∈ lw_all, w.before #[Value.ref b] s = true := fun w h => hts0 w (lw_all_tbl h)
  have hw := e_run (x := xs (i + 1)) (G := G) (S := S) (o := o) (M := M) (k := 1) (n := 3) hI (Nat.le_refl _) (Nat.le_refl _)
  refine lv_aload_n hx hb dL_law_653 rfl (lv_at hl 2 rfl) ?_
  refine lc_ld (k := 1) C0 hS hl hL (by omega) dL_law_654 dL_law_655 dL_law_656 (by decide) dL_law_657 dL_law_658 ?_
  refine x_ci (va_runV (As := [.int (xs (i + 1))]) (rest := []) ⟨hx, hb, hml, hown, hts⟩ (mt_X0_run l hw) (cwV 1 hts (lw_V q334 q335 q336 q64 q337) rfl rfl rfl hd_X0_run ⟨Nat.le_of_ble_eq_true rfl, Nat.le_of_ble_eq_true rfl⟩) ⟨x_Pc_blind, hR.recv hK (ci := 0) rfl (by decide) hI.O_t, x_Pc_pre hR (Nat.le_refl _) hS hK⟩ rfl rfl hl.1 rfl (lv_room (Nat.le_of_ble_eq_true rfl)) dL_law_659 ⟨by show cells + 1 ≤ 1200000; omega, by show slots + 3 ≤ 5502250; omega⟩) hS (fun r S1 H1 locs1 hp hR1 hS1 => ?_)
  have hp1 := hp
  refine lv_aload_n hx hb dL_law_662 rfl (lv_at hl 1 rfl) ?_
  refine lc_ld (k := 1) C0 hS1 hl hL (by omega) dL_law_663 dL_law_664 dL_law_665 (by decide) dL_law_666 dL_law_667 ?_
  refine xm_ci (va_runV (As := [.int (xs (i + 1))]) (rest := [.int r]) ⟨hx, hb, hml, hown, hts⟩ (mt_X1_run l hp1) (cwV 1 hts (lw_V q1177 q1178 q1179 q65 q1180) rfl rfl rfl hd_X1_run ⟨Nat.le_of_ble_eq_true rfl, Nat.le_of_ble_eq_true rfl⟩) ⟨x_Pc_blind, xm_recv hR1 hK, x_Pc_pre hR1 (Nat.le_refl _) hS1 hK⟩ rfl rfl hl.1 rfl (lv_room (Nat.le_of_ble_eq_true rfl)) dL_law_668 ⟨by show cells + 1 + 0 ≤ 1200000; omega, by show slots + 3 + 0 ≤ 5502250; omega⟩) hS1 (fun r' M2 H2 locs2 hp2 hR2 hS2 => ?_)
  obtain ⟨er, G2, hI2⟩ := hp2
  refine lv_icmp_eq (tgt := 1901) hx hb dL_law_671 (by decide) (fun _ => ?_) (fun z => absurd er z)
  refine W.widen (k := cells + 10000) (n := slots + 42000) (by omega) (by omega) ?_
  exact kk _ _ _ _ _ hR2 hI2 hS2
set_option maxHeartbeats 4000000 in
theorem lc_12 {p : Program} {l : Launch} {e : Env} {s : State} {m : MethodId} {below : List Frame} {meth : Method} {c : Code} {H : Heap} {locs : List Loc} {cells slots : Nat} {Q : State → Prop} {ls : Array Slot} {D : va_G} {d : Nat → ClassId} {b L : Nat} {xs : Nat → Int32} {o mo i : Nat} {Aa : Nat → Nat} {G : xG} {S : xH} {M : xM} (C0 : lw_At p s m meth c b L xs) (hK : x_KK D d s) (hR : x_Rp D d (x_A s.heap.size) (x_mc d mo Aa M) S H) (hI : Inv G S o M) (hS : va_S (x_A s.heap.size) s.heap H locs) (hl : lv_has ls 4 [(3, .int (nI i)), (2, .ref mo), (1, .ref o), (0, .ref b)]) (hL : L ≤ 640) (hi : i + 9 < L) (hc : cells + 10000 ≤ 1200000) (hs : slots + 42000 ≤ 5502250) (kk : ∀ (G : xG) (S : xH) (M : xM) (H : Heap) (locs : List Loc), x_Rp D d (x_A s.heap.size) (x_mc d mo Aa M) S H → Inv G S o M → va_S (x_A s.heap.size) s.heap H locs → W p l e room_1 s m #[Value.ref b] below meth c H locs (cells + 10000) (slots + 42000) Q (F0 m 1901 ls [])) : W p l e room_1 s m #[Value.ref b] below meth c H locs cells slots Q (F0 m 676 ls []) := by
  obtain ⟨hx, hb, hr, hml, hown, hts0, hX, hbl, hlocks, hgv⟩ := id C0
  have hts : ∀ w ∈ lw_all, w.before #[Value.ref b] s = true := fun w h => hts0 w (lw_all_tbl h)
  have hw := e_paper (x1 := xs (i + 1)) (x2 := xs (i + 2)) (x3 := xs (i + 3)) (x4 := xs (i + 4)) (x5 := xs (i + 5)) (x6 := xs (i + 6)) (x7 := xs (i + 7)) (x8 := xs (i + 8)) (x9 := xs (i + 9)) (G := G) (S := S) (o := o) (M := M) (k := 2) (n := 10) hI (Nat.le_refl _) (Nat.le_refl _)
  refine lv_aload_n hx hb dL_law_676 rfl (lv_at hl 2 rfl) ?_
  refine lc_ld (k := 1) C0 hS hl hL (by omega) dL_law_677 dL_law_678 dL_law_679 (by decide) dL_law_680 dL_law_681 ?_
  refine lc_ld (k := 2) C0 hS hl hL (by omega) dL_law_682 dL_law_683 dL_law_684 (by decide) dL_law_685 dL_law_686 ?_
  refine lc_ld (k := 3) C0 hS hl hL (by omega) dL_law_687 dL_law_688 dL_law_689 (by decide) dL_law_690 dL_law_691 ?_
  refine lc_ld (k := 4) C0 hS hl hL (by omega) dL_law_692 dL_law_693 dL_law_694 (by decide) dL_law_695 dL_law_696 ?_
  refine lc_ld (k := 5) C0 hS hl hL (by omega) dL_law_697 dL_law_698 dL_law_699 (by decide) dL_law_700 dL_law_701 ?_
  refine lc_lb (k := 6) C0 hS hl hL (by omega) dL_law_702 dL_law_703 dL_law_704 (by decide) dL_law_706 dL_law_707 ?_
  refine lc_lb (k := 7) C0 hS hl hL (by omega) dL_law_708 dL_law_709 dL_law_710 (by decide) dL_law_712 dL_law_713 ?_
  refine lc_lb (k := 8) C0 hS hl hL (by omega) dL_law_714 dL_law_715 dL_law_716 (by decide) dL_law_718 dL_law_719 ?_
  refine lc_lb (k := 9) C0 hS hl hL (by omega) dL_law_720 dL_law_721 dL_law_722 (by decide) dL_law_724 dL_law_725 ?_
  refine x_ci (va_runV (As := [.int (xs (i + 1)), .int (xs (i + 2)), .int (xs (i + 3)), .int (xs (i + 4)), .int (xs (i + 5)), .int (xs (i + 6)), .int (xs (i + 7)), .int (xs (i + 8)), .int (xs (i + 9))]) (rest := []) ⟨hx, hb, hml, hown, hts⟩ (mt_X0_paper l hw) (cwV 9 hts (lw_V q338 q339 q340 q64 q341) rfl rfl rfl hd_X0_paper ⟨Nat.le_of_ble_eq_true rfl, Nat.le_of_ble_eq_true rfl⟩) ⟨x_Pc_blind, hR.recv hK (ci := 0) rfl (by decide) hI.O_t, x_Pc_pre hR (Nat.le_refl _) hS hK⟩ rfl rfl hl.1 rfl (lv_room (Nat.le_of_ble_eq_true rfl)) dL_law_726 ⟨by show cells + 2 ≤ 1200000; omega, by show slots + 10 ≤ 5502250; omega⟩) hS (fun r S1 H1 locs1 hp hR1 hS1 => ?_)
  have hp1 := hp
  refine lv_aload_n hx hb dL_law_729 rfl (lv_at hl 1 rfl) ?_
  refine lc_ld (k := 1) C0 hS1 hl hL (by omega) dL_law_730 dL_law_731 dL_law_732 (by decide) dL_law_733 dL_law_734 ?_
  refine lc_ld (k := 2) C0 hS1 hl hL (by omega) dL_law_735 dL_law_736 dL_law_737 (by decide) dL_law_738 dL_law_739 ?_
  refine lc_ld (k := 3) C0 hS1 hl hL (by omega) dL_law_740 dL_law_741 dL_law_742 (by decide) dL_law_743 dL_law_744 ?_
  refine lc_ld (k := 4) C0 hS1 hl hL (by omega) dL_law_745 dL_law_746 dL_law_747 (by decide) dL_law_748 dL_law_749 ?_
  refine lc_ld (k := 5) C0 hS1 hl hL (by omega) dL_law_750 dL_law_751 dL_law_752 (by decide) dL_law_753 dL_law_754 ?_
  refine lc_lb (k := 6) C0 hS1 hl hL (by omega) dL_law_755 dL_law_756 dL_law_757 (by decide) dL_law_759 dL_law_760 ?_
  refine lc_lb (k := 7) C0 hS1 hl hL (by omega) dL_law_761 dL_law_762 dL_law_763 (by decide) dL_law_765 dL_law_766 ?_
  refine lc_lb (k := 8) C0 hS1 hl hL (by omega) dL_law_767 dL_law_768 dL_law_769 (by decide) dL_law_771 dL_law_772 ?_
  refine lc_lb (k := 9) C0 hS1 hl hL (by omega) dL_law_773 dL_law_774 dL_law_775 (by decide) dL_law_777 dL_law_778 ?_
  refine xm_ci (va_runV (As := [.int (xs (i + 1)), .int (xs (i + 2)), .int (xs (i + 3)), .int (xs (i + 4)), .int (xs (i + 5)), .int (xs (i + 6)), .int (xs (i + 7)), .int (xs (i + 8)), .int (xs (i + 9))]) (rest := [.int r]) ⟨hx, hb, hml, hown, hts⟩ (mt_X1_paper l hp1) (cwV 9 hts (lw_V q1181 q1182 q1183 q65 q1184) rfl rfl rfl hd_X1_paper ⟨Nat.le_of_ble_eq_true rfl, Nat.le_of_ble_eq_true rfl⟩) ⟨x_Pc_blind, xm_recv hR1 hK, x_Pc_pre hR1 (Nat.le_refl _) hS1 hK⟩ rfl rfl hl.1 rfl (lv_room (Nat.le_of_ble_eq_true rfl)) dL_law_779 ⟨by show cells + 2 + 0 ≤ 1200000; omega, by show slots + 10 + 0 ≤ 5502250; omega⟩) hS1 (fun r' M2 H2 locs2 hp2 hR2 hS2 => ?_)
  obtain ⟨er, G2, hI2⟩ := hp2
  refine lv_icmp_eq (tgt := 1901) hx hb dL_law_782 (by decide) (fun _ => ?_) (fun z => absurd er z)
  refine W.widen (k := cells + 10000) (n := slots + 42000) (by omega) (by omega) ?_
  exact kk _ _ _ _ _ hR2 hI2 hS2
set_option maxHeartbeats 4000000 in
theorem lc_13 {p : Program} {l : Launch} {e : Env} {s : State} {m : MethodId} {below : List Frame} {meth : Method} {c : Code} {H : Heap} {locs : List Loc} {cells slots : Nat} {Q : State → Prop} {ls : Array Slot} {D : va_G} {d : Nat → ClassId} {b L : Nat} {xs : Nat → Int32} {o mo i : Nat} {Aa : Nat → Nat} {G : xG} {S : xH} {M : xM} (C0 : lw_At p s m meth c b L xs) (hK : x_KK D d s) (hR : x_Rp D d (x_A s.heap.size) (x_mc d mo Aa M) S H) (hI : Inv G S o M) (hS : va_S (x_A s.heap.size) s.heap H locs) (hl : lv_has ls 4 [(3, .int (nI i)), (2, .ref mo), (1, .ref o), (0, .ref b)]) (hL : L ≤ 640) (hi : i + 9 < L) (hc : cells + 10000 ≤ 1200000) (hs : slots + 42000 ≤ 5502250) (kk : ∀ (G : xG) (S : xH) (M : xM) (H : Heap) (locs : List Loc), x_Rp D d (x_A s.heap.size) (x_mc d mo Aa M) S H → Inv G S o M → va_S (x_A s.heap.size) s.heap H locs → W p l e room_1 s m #[Value.ref b] below meth c H locs (cells + 10000) (slots + 42000) Q (F0 m 1901 ls [])) : W p l e room_1 s m #[Value.ref b] below meth c H locs cells slots Q (F0 m 787 ls []) := by
  obtain ⟨hx, hb, hr, hml, hown, hts0, hX, hbl, hlocks, hgv⟩ := id C0
  have hts : ∀ w ∈ lw_all, w.before #[Value.ref b] s = true := fun w h => hts0 w (lw_all_tbl h)
  have hw := e_cover (x := xs (i + 1)) (y := xs (i + 2)) (z := xs (i + 3)) (G := G) (S := S) (o := o) (M := M) hI
  refine lv_aload_n hx hb dL_law_787 rfl (lv_at hl 2 rfl) ?_
  refine lc_ld (k := 1) C0 hS hl hL (by omega) dL_law_788 dL_law_789 dL_law_790 (by decide) dL_law_791 dL_law_792 ?_
  refine lc_ld (k := 2) C0 hS hl hL (by omega) dL_law_793 dL_law_794 dL_law_795 (by decide) dL_law_796 dL_law_797 ?_
  refine lc_ld (k := 3) C0 hS hl hL (by omega) dL_law_798 dL_law_799 dL_law_800 (by decide) dL_law_801 dL_law_802 ?_
  refine x_ci (va_runV (As := [.int (xs (i + 1)), .int (xs (i + 2)), .int (xs (i + 3))]) (rest := []) ⟨hx, hb, hml, hown, hts⟩ (mt_X0_cover l hw) (cwV 3 hts (lw_V q367 q368 q369 q64 q370) rfl rfl rfl hd_X0_cover ⟨Nat.le_of_ble_eq_true rfl, Nat.le_of_ble_eq_true rfl⟩) ⟨x_Pc_blind, hR.recv hK (ci := 0) rfl (by decide) hI.O_t, x_Pc_pre hR (Nat.le_refl _) hS hK⟩ rfl rfl hl.1 rfl (lv_room (Nat.le_of_ble_eq_true rfl)) dL_law_803 ⟨by show cells + 0 ≤ 1200000; omega, by show slots + 0 ≤ 5502250; omega⟩) hS (fun r S1 H1 locs1 hp hR1 hS1 => ?_)
  have hp1 := hp.2
  rw [hp.1] at hR1
  refine lv_aload_n hx hb dL_law_806 rfl (lv_at hl 1 rfl) ?_
  refine lc_ld (k := 1) C0 hS1 hl hL (by omega) dL_law_807 dL_law_808 dL_law_809 (by decide) dL_law_810 dL_law_811 ?_
  refine lc_ld (k := 2) C0 hS1 hl hL (by omega) dL_law_812 dL_law_813 dL_law_814 (by decide) dL_law_815 dL_law_816 ?_
  refine lc_ld (k := 3) C0 hS1 hl hL (by omega) dL_law_817 dL_law_818 dL_law_819 (by decide) dL_law_820 dL_law_821 ?_
  refine xm_ci (va_runV (As := [.int (xs (i + 1)), .int (xs (i + 2)), .int (xs (i + 3))]) (rest := [.int r]) ⟨hx, hb, hml, hown, hts⟩ (mt_X1_cover l hp1) (cwV 3 hts (lw_V q1191 q1192 q1193 q65 q1194) rfl rfl rfl hd_X1_cover ⟨Nat.le_of_ble_eq_true rfl, Nat.le_of_ble_eq_true rfl⟩) ⟨x_Pc_blind, xm_recv hR1 hK, x_Pc_pre hR1 (Nat.le_refl _) hS1 hK⟩ rfl rfl hl.1 rfl (lv_room (Nat.le_of_ble_eq_true rfl)) dL_law_822 ⟨by show cells + 0 + 0 ≤ 1200000; omega, by show slots + 0 + 0 ≤ 5502250; omega⟩) hS1 (fun r' M2 H2 locs2 hp2 hR2 hS2 => ?_)
  obtain ⟨er, G2, hI2⟩ := hp2
  refine lv_icmp_eq (tgt := 1901) hx hb dL_law_825 (by decide) (fun _ => ?_) (fun z => absurd er z)
  refine W.widen (k := cells + 10000) (n := slots + 42000) (by omega) (by omega) ?_
  exact kk _ _ _ _ _ hR2 hI2 hS2
set_option maxHeartbeats 4000000 in
theorem lc_14 {p : Program} {l : Launch} {e : Env} {s : State} {m : MethodId} {below : List Frame} {meth : Method} {c : Code} {H : Heap} {locs : List Loc} {cells slots : Nat} {Q : State → Prop} {ls : Array Slot} {D : va_G} {d : Nat → ClassId} {b L : Nat} {xs : Nat → Int32} {o mo i : Nat} {Aa : Nat → Nat} {G : xG} {S : xH} {M : xM} (C0 : lw_At p s m meth c b L xs) (hK : x_KK D d s) (hR : x_Rp D d (x_A s.heap.size) (x_mc d mo Aa M) S H) (hI : Inv G S o M) (hS : va_S (x_A s.heap.size) s.heap H locs) (hl : lv_has ls 4 [(3, .int (nI i)), (2, .ref mo), (1, .ref o), (0, .ref b)]) (hL : L ≤ 640) (hi : i + 9 < L) (hc : cells + 10000 ≤ 1200000) (hs : slots + 42000 ≤ 5502250) (kk : ∀ (G : xG) (S : xH) (M : xM) (H : Heap) (locs : List Loc), x_Rp D d (x_A s.heap.size) (x_mc d mo Aa M) S H → Inv G S o M → va_S (x_A s.heap.size) s.heap H locs → W p l e room_1 s m #[Value.ref b] below meth c H locs (cells + 10000) (slots + 42000) Q (F0 m 1901 ls [])) : W p l e room_1 s m #[Value.ref b] below meth c H locs cells slots Q (F0 m 830 ls []) := by
  obtain ⟨hx, hb, hr, hml, hown, hts0, hX, hbl, hlocks, hgv⟩ := id C0
  have hts : ∀ w ∈ lw_all, w.before #[Value.ref b] s = true := fun w h => hts0 w (lw_all_tbl h)
  have hw := e_same (x := xs (i + 1)) (y := xs (i + 2)) (G := G) (S := S) (o := o) (M := M) hI
  refine lv_aload_n hx hb dL_law_830 rfl (lv_at hl 2 rfl) ?_
  refine lc_ld (k := 1) C0 hS hl hL (by omega) dL_law_831 dL_law_832 dL_law_833 (by decide) dL_law_834 dL_law_835 ?_
  refine lc_ld (k := 2) C0 hS hl hL (by omega) dL_law_836 dL_law_837 dL_law_838 (by decide) dL_law_839 dL_law_840 ?_
  refine x_ci (va_runV (As := [.int (xs (i + 1)), .int (xs (i + 2))]) (rest := []) ⟨hx, hb, hml, hown, hts⟩ (mt_X0_same l hw) (cwV 2 hts (lw_V q391 q392 q393 q64 q394) rfl rfl rfl hd_X0_same ⟨Nat.le_of_ble_eq_true rfl, Nat.le_of_ble_eq_true rfl⟩) ⟨x_Pc_blind, hR.recv hK (ci := 0) rfl (by decide) hI.O_t, x_Pc_pre hR (Nat.le_refl _) hS hK⟩ rfl rfl hl.1 rfl (lv_room (Nat.le_of_ble_eq_true rfl)) dL_law_841 ⟨by show cells + 0 ≤ 1200000; omega, by show slots + 0 ≤ 5502250; omega⟩) hS (fun r S1 H1 locs1 hp hR1 hS1 => ?_)
  have hp1 := hp.2
  rw [hp.1] at hR1
  refine lv_aload_n hx hb dL_law_844 rfl (lv_at hl 1 rfl) ?_
  refine lc_ld (k := 1) C0 hS1 hl hL (by omega) dL_law_845 dL_law_846 dL_law_847 (by decide) dL_law_848 dL_law_849 ?_
  refine lc_ld (k := 2) C0 hS1 hl hL (by omega) dL_law_850 dL_law_851 dL_law_852 (by decide) dL_law_853 dL_law_854 ?_
  refine xm_ci (va_runV (As := [.int (xs (i + 1)), .int (xs (i + 2))]) (rest := [.int r]) ⟨hx, hb, hml, hown, hts⟩ (mt_X1_same l hp1) (cwV 2 hts (lw_V q1207 q1208 q1209 q65 q1210) rfl rfl rfl hd_X1_same ⟨Nat.le_of_ble_eq_true rfl, Nat.le_of_ble_eq_true rfl⟩) ⟨x_Pc_blind, xm_recv hR1 hK, x_Pc_pre hR1 (Nat.le_refl _) hS1 hK⟩ rfl rfl hl.1 rfl (lv_room (Nat.le_of_ble_eq_true rfl)) dL_law_855 ⟨by show cells + 0 + 0 ≤ 1200000; omega, by show slots + 0 + 0 ≤ 5502250; omega⟩) hS1 (fun r' M2 H2 locs2 hp2 hR2 hS2 => ?_)
  obtain ⟨er, G2, hI2⟩ := hp2
  refine lv_icmp_eq (tgt := 1901) hx hb dL_law_858 (by decide) (fun _ => ?_) (fun z => absurd er z)
  refine W.widen (k := cells + 10000) (n := slots + 42000) (by omega) (by omega) ?_
  exact kk _ _ _ _ _ hR2 hI2 hS2
set_option maxHeartbeats 4000000 in
theorem lc_15 {p : Program} {l : Launch} {e : Env} {s : State} {m : MethodId} {below : List Frame} {meth : Method} {c : Code} {H : Heap} {locs : List Loc} {cells slots : Nat} {Q : State → Prop} {ls : Array Slot} {D : va_G} {d : Nat → ClassId} {b L : Nat} {xs : Nat → Int32} {o mo i : Nat} {Aa : Nat → Nat} {G : xG} {S : xH} {M : xM} (C0 : lw_At p s m meth c b L xs) (hK : x_KK D d s) (hR : x_Rp D d (x_A s.heap.size) (x_mc d mo Aa M) S H) (hI : Inv G S o M) (hS : va_S (x_A s.heap.size) s.heap H locs) (hl : lv_has ls 4 [(3, .int (nI i)), (2, .ref mo), (1, .ref o), (0, .ref b)]) (hL : L ≤ 640) (hi : i + 9 < L) (hc : cells + 10000 ≤ 1200000) (hs : slots + 42000 ≤ 5502250) (kk : ∀ (G : xG) (S : xH) (M : xM) (H : Heap) (locs : List Loc), x_Rp D d (x_A s.heap.size) (x_mc d mo Aa M) S H → Inv G S o M → va_S (x_A s.heap.size) s.heap H locs → W p l e room_1 s m #[Value.ref b] below meth c H locs (cells + 10000) (slots + 42000) Q (F0 m 1901 ls [])) : W p l e room_1 s m #[Value.ref b] below meth c H locs cells slots Q (F0 m 863 ls []) := by
  obtain ⟨hx, hb, hr, hml, hown, hts0, hX, hbl, hlocks, hgv⟩ := id C0
  have hts : ∀ w ∈ lw_all, w.before #[Value.ref b] s = true := fun w h => hts0 w (lw_all_tbl h)
  have hw := e_shown (x := xs (i + 1)) (y := xs (i + 2)) (G := G) (S := S) (o := o) (M := M) (k := 1) (n := 40) hI (Nat.le_refl _) (Nat.le_refl _)
  refine lv_aload_n hx hb dL_law_863 rfl (lv_at hl 2 rfl) ?_
  refine lc_ld (k := 1) C0 hS hl hL (by omega) dL_law_864 dL_law_865 dL_law_866 (by decide) dL_law_867 dL_law_868 ?_
  refine lc_ld (k := 2) C0 hS hl hL (by omega) dL_law_869 dL_law_870 dL_law_871 (by decide) dL_law_872 dL_law_873 ?_
  refine x_ci (va_runV (As := [.int (xs (i + 1)), .int (xs (i + 2))]) (rest := []) ⟨hx, hb, hml, hown, hts⟩ (mt_X0_shown l hw) (cwV 2 hts (lw_V q395 q396 q397 q64 q398) rfl rfl rfl hd_X0_shown ⟨Nat.le_of_ble_eq_true rfl, Nat.le_of_ble_eq_true rfl⟩) ⟨x_Pc_blind, hR.recv hK (ci := 0) rfl (by decide) hI.O_t, x_Pc_pre hR (Nat.le_refl _) hS hK⟩ rfl rfl hl.1 rfl (lv_room (Nat.le_of_ble_eq_true rfl)) dL_law_874 ⟨by show cells + 1 ≤ 1200000; omega, by show slots + 40 ≤ 5502250; omega⟩) hS (fun r S1 H1 locs1 hp hR1 hS1 => ?_)
  have hp1 := hp
  refine lv_aload_n hx hb dL_law_877 rfl (lv_at hl 1 rfl) ?_
  refine lc_ld (k := 1) C0 hS1 hl hL (by omega) dL_law_878 dL_law_879 dL_law_880 (by decide) dL_law_881 dL_law_882 ?_
  refine lc_ld (k := 2) C0 hS1 hl hL (by omega) dL_law_883 dL_law_884 dL_law_885 (by decide) dL_law_886 dL_law_887 ?_
  refine xm_ci (va_runV (As := [.int (xs (i + 1)), .int (xs (i + 2))]) (rest := [.int r]) ⟨hx, hb, hml, hown, hts⟩ (mt_X1_shown l hp1) (cwV 2 hts (lw_V q1211 q1212 q1213 q65 q1214) rfl rfl rfl hd_X1_shown ⟨Nat.le_of_ble_eq_true rfl, Nat.le_of_ble_eq_true rfl⟩) ⟨x_Pc_blind, xm_recv hR1 hK, x_Pc_pre hR1 (Nat.le_refl _) hS1 hK⟩ rfl rfl hl.1 rfl (lv_room (Nat.le_of_ble_eq_true rfl)) dL_law_888 ⟨by show cells + 1 + 0 ≤ 1200000; omega, by show slots + 40 + 0 ≤ 5502250; omega⟩) hS1 (fun r' M2 H2 locs2 hp2 hR2 hS2 => ?_)
  obtain ⟨er, G2, hI2⟩ := hp2
  refine lv_icmp_eq (tgt := 1901) hx hb dL_law_891 (by decide) (fun _ => ?_) (fun z => absurd er z)
  refine W.widen (k := cells + 10000) (n := slots + 42000) (by omega) (by omega) ?_
  exact kk _ _ _ _ _ hR2 hI2 hS2
set_option maxHeartbeats 4000000 in
theorem lc_16 {p : Program} {l : Launch} {e : Env} {s : State} {m : MethodId} {below : List Frame} {meth : Method} {c : Code} {H : Heap} {locs : List Loc} {cells slots : Nat} {Q : State → Prop} {ls : Array Slot} {D : va_G} {d : Nat → ClassId} {b L : Nat} {xs : Nat → Int32} {o mo i : Nat} {Aa : Nat → Nat} {G : xG} {S : xH} {M : xM} (C0 : lw_At p s m meth c b L xs) (hK : x_KK D d s) (hR : x_Rp D d (x_A s.heap.size) (x_mc d mo Aa M) S H) (hI : Inv G S o M) (hS : va_S (x_A s.heap.size) s.heap H locs) (hl : lv_has ls 4 [(3, .int (nI i)), (2, .ref mo), (1, .ref o), (0, .ref b)]) (hL : L ≤ 640) (hi : i + 9 < L) (hc : cells + 10000 ≤ 1200000) (hs : slots + 42000 ≤ 5502250) (kk : ∀ (G : xG) (S : xH) (M : xM) (H : Heap) (locs : List Loc), x_Rp D d (x_A s.heap.size) (x_mc d mo Aa M) S H → Inv G S o M → va_S (x_A s.heap.size) s.heap H locs → W p l e room_1 s m #[Value.ref b] below meth c H locs (cells + 10000) (slots + 42000) Q (F0 m 1901 ls [])) : W p l e room_1 s m #[Value.ref b] below meth c H locs cells slots Q (F0 m 896 ls []) := by
  obtain ⟨hx, hb, hr, hml, hown, hts0, hX, hbl, hlocks, hgv⟩ := id C0
  have hts : ∀ w ∈ lw_all, w.before #[Value.ref b] s = true := fun w h => hts0 w (lw_all_tbl h)
  have hw := e_act (x := xs (i + 1)) (G := G) (S := S) (o := o) (M := M) (k := 2) (n := 66) hI (Nat.le_refl _) (Nat.le_refl _)
  refine lv_aload_n hx hb dL_law_896 rfl (lv_at hl 2 rfl) ?_
  refine lc_ld (k := 1) C0 hS hl hL (by omega) dL_law_897 dL_law_898 dL_law_899 (by decide) dL_law_900 dL_law_901 ?_
  refine x_ci (va_runV (As := [.int (xs (i + 1))]) (rest := []) ⟨hx, hb, hml, hown, hts⟩ (mt_X0_act l hw) (cwV 1 hts (lw_V q399 q400 q401 q64 q402) rfl rfl rfl hd_X0_act ⟨Nat.le_of_ble_eq_true rfl, Nat.le_of_ble_eq_true rfl⟩) ⟨x_Pc_blind, hR.recv hK (ci := 0) rfl (by decide) hI.O_t, x_Pc_pre hR (Nat.le_refl _) hS hK⟩ rfl rfl hl.1 rfl (lv_room (Nat.le_of_ble_eq_true rfl)) dL_law_902 ⟨by show cells + 2 ≤ 1200000; omega, by show slots + 66 ≤ 5502250; omega⟩) hS (fun r S1 H1 locs1 hp hR1 hS1 => ?_)
  have hp1 := hp
  refine lv_aload_n hx hb dL_law_905 rfl (lv_at hl 1 rfl) ?_
  refine lc_ld (k := 1) C0 hS1 hl hL (by omega) dL_law_906 dL_law_907 dL_law_908 (by decide) dL_law_909 dL_law_910 ?_
  refine xm_ci (va_runV (As := [.int (xs (i + 1))]) (rest := [.int r]) ⟨hx, hb, hml, hown, hts⟩ (mt_X1_act l hp1) (cwV 1 hts (lw_V q1215 q1216 q1217 q65 q1218) rfl rfl rfl hd_X1_act ⟨Nat.le_of_ble_eq_true rfl, Nat.le_of_ble_eq_true rfl⟩) ⟨x_Pc_blind, xm_recv hR1 hK, x_Pc_pre hR1 (Nat.le_refl _) hS1 hK⟩ rfl rfl hl.1 rfl (lv_room (Nat.le_of_ble_eq_true rfl)) dL_law_911 ⟨by show cells + 2 + 0 ≤ 1200000; omega, by show slots + 66 + 0 ≤ 5502250; omega⟩) hS1 (fun r' M2 H2 locs2 hp2 hR2 hS2 => ?_)
  obtain ⟨er, G2, hI2⟩ := hp2
  refine lv_icmp_eq (tgt := 1901) hx hb dL_law_914 (by decide) (fun _ => ?_) (fun z => absurd er z)
  refine W.widen (k := cells + 10000) (n := slots + 42000) (by omega) (by omega) ?_
  exact kk _ _ _ _ _ hR2 hI2 hS2
set_option maxHeartbeats 4000000 in
theorem lc_17 {p : Program} {l : Launch} {e : Env} {s : State} {m : MethodId} {below : List Frame} {meth : Method} {c : Code} {H : Heap} {locs : List Loc} {cells slots : Nat} {Q : State → Prop} {ls : Array Slot} {D : va_G} {d : Nat → ClassId} {b L : Nat} {xs : Nat → Int32} {o mo i : Nat} {Aa : Nat → Nat} {G : xG} {S : xH} {M : xM} (C0 : lw_At p s m meth c b L xs) (hK : x_KK D d s) (hR : x_Rp D d (x_A s.heap.size) (x_mc d mo Aa M) S H) (hI : Inv G S o M) (hS : va_S (x_A s.heap.size) s.heap H locs) (hl : lv_has ls 4 [(3, .int (nI i)), (2, .ref mo), (1, .ref o), (0, .ref b)]) (hL : L ≤ 640) (hi : i + 9 < L) (hc : cells + 10000 ≤ 1200000) (hs : slots + 42000 ≤ 5502250) (kk : ∀ (G : xG) (S : xH) (M : xM) (H : Heap) (locs : List Loc), x_Rp D d (x_A s.heap.size) (x_mc d mo Aa M) S H → Inv G S o M → va_S (x_A s.heap.size) s.heap H locs → W p l e room_1 s m #[Value.ref b] below meth c H locs (cells + 10000) (slots + 42000) Q (F0 m 1901 ls [])) : W p l e room_1 s m #[Value.ref b] below meth c H locs cells slots Q (F0 m 919 ls []) := by
  obtain ⟨hx, hb, hr, hml, hown, hts0, hX, hbl, hlocks, hgv⟩ := id C0
  have hts : ∀ w ∈ lw_all, w.before #[Value.ref b] s = true := fun w h => hts0 w (lw_all_tbl h)
  have hw := e_sign (x := xs (i + 1)) (y := xs (i + 2)) (G := G) (S := S) (o := o) (M := M) hI
  refine lv_aload_n hx hb dL_law_919 rfl (lv_at hl 2 rfl) ?_
  refine lc_ld (k := 1) C0 hS hl hL (by omega) dL_law_920 dL_law_921 dL_law_922 (by decide) dL_law_923 dL_law_924 ?_
  refine lc_ld (k := 2) C0 hS hl hL (by omega) dL_law_925 dL_law_926 dL_law_927 (by decide) dL_law_928 dL_law_929 ?_
  refine x_ci (va_runV (As := [.int (xs (i + 1)), .int (xs (i + 2))]) (rest := []) ⟨hx, hb, hml, hown, hts⟩ (mt_X0_sign l hw) (cwV 2 hts (lw_V q431 q432 q433 q64 q434) rfl rfl rfl hd_X0_sign ⟨Nat.le_of_ble_eq_true rfl, Nat.le_of_ble_eq_true rfl⟩) ⟨x_Pc_blind, hR.recv hK (ci := 0) rfl (by decide) hI.O_t, x_Pc_pre hR (Nat.le_refl _) hS hK⟩ rfl rfl hl.1 rfl (lv_room (Nat.le_of_ble_eq_true rfl)) dL_law_930 ⟨by show cells + 0 ≤ 1200000; omega, by show slots + 0 ≤ 5502250; omega⟩) hS (fun r S1 H1 locs1 hp hR1 hS1 => ?_)
  have hp1 := hp
  refine lv_aload_n hx hb dL_law_933 rfl (lv_at hl 1 rfl) ?_
  refine lc_ld (k := 1) C0 hS1 hl hL (by omega) dL_law_934 dL_law_935 dL_law_936 (by decide) dL_law_937 dL_law_938 ?_
  refine lc_ld (k := 2) C0 hS1 hl hL (by omega) dL_law_939 dL_law_940 dL_law_941 (by decide) dL_law_942 dL_law_943 ?_
  refine xm_ci (va_runV (As := [.int (xs (i + 1)), .int (xs (i + 2))]) (rest := [.int r]) ⟨hx, hb, hml, hown, hts⟩ (mt_X1_sign l hp1) (cwV 2 hts (lw_V q1219 q1220 q1221 q65 q1222) rfl rfl rfl hd_X1_sign ⟨Nat.le_of_ble_eq_true rfl, Nat.le_of_ble_eq_true rfl⟩) ⟨x_Pc_blind, xm_recv hR1 hK, x_Pc_pre hR1 (Nat.le_refl _) hS1 hK⟩ rfl rfl hl.1 rfl (lv_room (Nat.le_of_ble_eq_true rfl)) dL_law_944 ⟨by show cells + 0 + 0 ≤ 1200000; omega, by show slots + 0 + 0 ≤ 5502250; omega⟩) hS1 (fun r' M2 H2 locs2 hp2 hR2 hS2 => ?_)
  obtain ⟨er, G2, hI2⟩ := hp2
  refine lv_icmp_eq (tgt := 1901) hx hb dL_law_947 (by decide) (fun _ => ?_) (fun z => absurd er z)
  refine W.widen (k := cells + 10000) (n := slots + 42000) (by omega) (by omega) ?_
  exact kk _ _ _ _ _ hR2 hI2 hS2
set_option maxHeartbeats 4000000 in
theorem lc_18 {p : Program} {l : Launch} {e : Env} {s : State} {m : MethodId} {below : List Frame} {meth : Method} {c : Code} {H : Heap} {locs : List Loc} {cells slots : Nat} {Q : State → Prop} {ls : Array Slot} {D : va_G} {d : Nat → ClassId} {b L : Nat} {xs : Nat → Int32} {o mo i : Nat} {Aa : Nat → Nat} {G : xG} {S : xH} {M : xM} (C0 : lw_At p s m meth c b L xs) (hK : x_KK D d s) (hR : x_Rp D d (x_A s.heap.size) (x_mc d mo Aa M) S H) (hI : Inv G S o M) (hS : va_S (x_A s.heap.size) s.heap H locs) (hl : lv_has ls 4 [(3, .int (nI i)), (2, .ref mo), (1, .ref o), (0, .ref b)]) (hL : L ≤ 640) (hi : i + 9 < L) (hc : cells + 10000 ≤ 1200000) (hs : slots + 42000 ≤ 5502250) (kk : ∀ (G : xG) (S : xH) (M : xM) (H : Heap) (locs : List Loc), x_Rp D d (x_A s.heap.size) (x_mc d mo Aa M) S H → Inv G S o M → va_S (x_A s.heap.size) s.heap H locs → W p l e room_1 s m #[Value.ref b] below meth c H locs (cells + 10000) (slots + 42000) Q (F0 m 1901 ls [])) : W p l e room_1 s m #[Value.ref b] below meth c H locs cells slots Q (F0 m 952 ls []) := by
  obtain ⟨hx, hb, hr, hml, hown, hts0, hX, hbl, hlocks, hgv⟩ := id C0
  have hts : ∀ w ∈ lw_all, w.before #[Value.ref b] s = true := fun w h => hts0 w (lw_all_tbl h)
  have hw := e_fault (x := xs (i + 1)) (G := G) (S := S) (o := o) (M := M) (k := 60) (n := 120) hI (Nat.le_refl _) (Nat.le_refl _)
  refine lv_aload_n hx hb dL_law_952 rfl (lv_at hl 2 rfl) ?_
  refine lc_ld (k := 1) C0 hS hl hL (by omega) dL_law_953 dL_law_954 dL_law_955 (by decide) dL_law_956 dL_law_957 ?_
  refine x_ci (va_runV (As := [.int (xs (i + 1))]) (rest := []) ⟨hx, hb, hml, hown, hts⟩ (mt_X0_fault l hw) (cwV 1 hts (lw_V q439 q440 q441 q64 q442) rfl rfl rfl hd_X0_fault ⟨Nat.le_of_ble_eq_true rfl, Nat.le_of_ble_eq_true rfl⟩) ⟨x_Pc_blind, hR.recv hK (ci := 0) rfl (by decide) hI.O_t, x_Pc_pre hR (Nat.le_refl _) hS hK⟩ rfl rfl hl.1 rfl (lv_room (Nat.le_of_ble_eq_true rfl)) dL_law_958 ⟨by show cells + 60 ≤ 1200000; omega, by show slots + 120 ≤ 5502250; omega⟩) hS (fun r S1 H1 locs1 hp hR1 hS1 => ?_)
  have hp1 := hp
  refine lv_aload_n hx hb dL_law_961 rfl (lv_at hl 1 rfl) ?_
  refine lc_ld (k := 1) C0 hS1 hl hL (by omega) dL_law_962 dL_law_963 dL_law_964 (by decide) dL_law_965 dL_law_966 ?_
  refine xm_ci (va_runV (As := [.int (xs (i + 1))]) (rest := [.int r]) ⟨hx, hb, hml, hown, hts⟩ (mt_X1_fault l hp1) (cwV 1 hts (lw_V q1225 q1226 q1227 q65 q1228) rfl rfl rfl hd_X1_fault ⟨Nat.le_of_ble_eq_true rfl, Nat.le_of_ble_eq_true rfl⟩) ⟨x_Pc_blind, xm_recv hR1 hK, x_Pc_pre hR1 (Nat.le_refl _) hS1 hK⟩ rfl rfl hl.1 rfl (lv_room (Nat.le_of_ble_eq_true rfl)) dL_law_967 ⟨by show cells + 60 + 0 ≤ 1200000; omega, by show slots + 120 + 0 ≤ 5502250; omega⟩) hS1 (fun r' M2 H2 locs2 hp2 hR2 hS2 => ?_)
  obtain ⟨er, G2, hI2⟩ := hp2
  refine lv_icmp_eq (tgt := 1901) hx hb dL_law_970 (by decide) (fun _ => ?_) (fun z => absurd er z)
  refine W.widen (k := cells + 10000) (n := slots + 42000) (by omega) (by omega) ?_
  exact kk _ _ _ _ _ hR2 hI2 hS2
set_option maxHeartbeats 4000000 in
theorem lc_19 {p : Program} {l : Launch} {e : Env} {s : State} {m : MethodId} {below : List Frame} {meth : Method} {c : Code} {H : Heap} {locs : List Loc} {cells slots : Nat} {Q : State → Prop} {ls : Array Slot} {D : va_G} {d : Nat → ClassId} {b L : Nat} {xs : Nat → Int32} {o mo i : Nat} {Aa : Nat → Nat} {G : xG} {S : xH} {M : xM} (C0 : lw_At p s m meth c b L xs) (hK : x_KK D d s) (hR : x_Rp D d (x_A s.heap.size) (x_mc d mo Aa M) S H) (hI : Inv G S o M) (hS : va_S (x_A s.heap.size) s.heap H locs) (hl : lv_has ls 4 [(3, .int (nI i)), (2, .ref mo), (1, .ref o), (0, .ref b)]) (hL : L ≤ 640) (hi : i + 9 < L) (hc : cells + 10000 ≤ 1200000) (hs : slots + 42000 ≤ 5502250) (kk : ∀ (G : xG) (S : xH) (M : xM) (H : Heap) (locs : List Loc), x_Rp D d (x_A s.heap.size) (x_mc d mo Aa M) S H → Inv G S o M → va_S (x_A s.heap.size) s.heap H locs → W p l e room_1 s m #[Value.ref b] below meth c H locs (cells + 10000) (slots + 42000) Q (F0 m 1901 ls [])) : W p l e room_1 s m #[Value.ref b] below meth c H locs cells slots Q (F0 m 975 ls []) := by
  obtain ⟨hx, hb, hr, hml, hown, hts0, hX, hbl, hlocks, hgv⟩ := id C0
  have hts : ∀ w ∈ lw_all, w.before #[Value.ref b] s = true := fun w h => hts0 w (lw_all_tbl h)
  have hw := e_force (x := xs (i + 1)) (G := G) (S := S) (o := o) (M := M) (k := 480) (n := 960) hI (Nat.le_refl _) (Nat.le_refl _)
  refine lv_aload_n hx hb dL_law_975 rfl (lv_at hl 2 rfl) ?_
  refine lc_ld (k := 1) C0 hS hl hL (by omega) dL_law_976 dL_law_977 dL_law_978 (by decide) dL_law_979 dL_law_980 ?_
  refine x_ci (va_runV (As := [.int (xs (i + 1))]) (rest := []) ⟨hx, hb, hml, hown, hts⟩ (mt_X0_force l hw) (cwV 1 hts (lw_V q559 q560 q561 q64 q562) rfl rfl rfl hd_X0_force ⟨Nat.le_of_ble_eq_true rfl, Nat.le_of_ble_eq_true rfl⟩) ⟨x_Pc_blind, hR.recv hK (ci := 0) rfl (by decide) hI.O_t, x_Pc_pre hR (Nat.le_refl _) hS hK⟩ rfl rfl hl.1 rfl (lv_room (Nat.le_of_ble_eq_true rfl)) dL_law_981 ⟨by show cells + 480 ≤ 1200000; omega, by show slots + 960 ≤ 5502250; omega⟩) hS (fun r S1 H1 locs1 hp hR1 hS1 => ?_)
  have hp1 := hp
  refine lv_aload_n hx hb dL_law_984 rfl (lv_at hl 1 rfl) ?_
  refine lc_ld (k := 1) C0 hS1 hl hL (by omega) dL_law_985 dL_law_986 dL_law_987 (by decide) dL_law_988 dL_law_989 ?_
  refine xm_ci (va_runV (As := [.int (xs (i + 1))]) (rest := [.int r]) ⟨hx, hb, hml, hown, hts⟩ (mt_X1_force l hp1) (cwV 1 hts (lw_V q1238 q1239 q1240 q65 q1241) rfl rfl rfl hd_X1_force ⟨Nat.le_of_ble_eq_true rfl, Nat.le_of_ble_eq_true rfl⟩) ⟨x_Pc_blind, xm_recv hR1 hK, x_Pc_pre hR1 (Nat.le_refl _) hS1 hK⟩ rfl rfl hl.1 rfl (lv_room (Nat.le_of_ble_eq_true rfl)) dL_law_990 ⟨by show cells + 480 + 0 ≤ 1200000; omega, by show slots + 960 + 0 ≤ 5502250; omega⟩) hS1 (fun r' M2 H2 locs2 hp2 hR2 hS2 => ?_)
  obtain ⟨er, G2, hI2⟩ := hp2
  refine lv_icmp_eq (tgt := 1901) hx hb dL_law_993 (by decide) (fun _ => ?_) (fun z => absurd er z)
  refine W.widen (k := cells + 10000) (n := slots + 42000) (by omega) (by omega) ?_
  exact kk _ _ _ _ _ hR2 hI2 hS2
set_option maxHeartbeats 4000000 in
theorem lc_20 {p : Program} {l : Launch} {e : Env} {s : State} {m : MethodId} {below : List Frame} {meth : Method} {c : Code} {H : Heap} {locs : List Loc} {cells slots : Nat} {Q : State → Prop} {ls : Array Slot} {D : va_G} {d : Nat → ClassId} {b L : Nat} {xs : Nat → Int32} {o mo i : Nat} {Aa : Nat → Nat} {G : xG} {S : xH} {M : xM} (C0 : lw_At p s m meth c b L xs) (hK : x_KK D d s) (hR : x_Rp D d (x_A s.heap.size) (x_mc d mo Aa M) S H) (hI : Inv G S o M) (hS : va_S (x_A s.heap.size) s.heap H locs) (hl : lv_has ls 4 [(3, .int (nI i)), (2, .ref mo), (1, .ref o), (0, .ref b)]) (hL : L ≤ 640) (hi : i + 9 < L) (hc : cells + 10000 ≤ 1200000) (hs : slots + 42000 ≤ 5502250) (kk : ∀ (G : xG) (S : xH) (M : xM) (H : Heap) (locs : List Loc), x_Rp D d (x_A s.heap.size) (x_mc d mo Aa M) S H → Inv G S o M → va_S (x_A s.heap.size) s.heap H locs → W p l e room_1 s m #[Value.ref b] below meth c H locs (cells + 10000) (slots + 42000) Q (F0 m 1901 ls [])) : W p l e room_1 s m #[Value.ref b] below meth c H locs cells slots Q (F0 m 998 ls []) := by
  obtain ⟨hx, hb, hr, hml, hown, hts0, hX, hbl, hlocks, hgv⟩ := id C0
  have hts : ∀ w ∈ lw_all, w.before #[Value.ref b] s = true := fun w h => hts0 w (lw_all_tbl h)
  have hw := e_may (x := xs (i + 1)) (y := xs (i + 2)) (G := G) (S := S) (o := o) (M := M) (k := 540) (n := 1080) hI (Nat.le_refl _) (Nat.le_refl _)
  refine lv_aload_n hx hb dL_law_998 rfl (lv_at hl 2 rfl) ?_
  refine lc_ld (k := 1) C0 hS hl hL (by omega) dL_law_999 dL_law_1000 dL_law_1001 (by decide) dL_law_1002 dL_law_1003 ?_
  refine lc_ld (k := 2) C0 hS hl hL (by omega) dL_law_1004 dL_law_1005 dL_law_1006 (by decide) dL_law_1007 dL_law_1008 ?_
  refine x_ci (va_runV (As := [.int (xs (i + 1)), .int (xs (i + 2))]) (rest := []) ⟨hx, hb, hml, hown, hts⟩ (mt_X0_may l hw) (cwV 2 hts (lw_V q567 q568 q569 q64 q570) rfl rfl rfl hd_X0_may ⟨Nat.le_of_ble_eq_true rfl, Nat.le_of_ble_eq_true rfl⟩) ⟨x_Pc_blind, hR.recv hK (ci := 0) rfl (by decide) hI.O_t, x_Pc_pre hR (Nat.le_refl _) hS hK⟩ rfl rfl hl.1 rfl (lv_room (Nat.le_of_ble_eq_true rfl)) dL_law_1009 ⟨by show cells + 540 ≤ 1200000; omega, by show slots + 1080 ≤ 5502250; omega⟩) hS (fun r S1 H1 locs1 hp hR1 hS1 => ?_)
  have hp1 := hp
  refine lv_aload_n hx hb dL_law_1012 rfl (lv_at hl 1 rfl) ?_
  refine lc_ld (k := 1) C0 hS1 hl hL (by omega) dL_law_1013 dL_law_1014 dL_law_1015 (by decide) dL_law_1016 dL_law_1017 ?_
  refine lc_ld (k := 2) C0 hS1 hl hL (by omega) dL_law_1018 dL_law_1019 dL_law_1020 (by decide) dL_law_1021 dL_law_1022 ?_
  refine xm_ci (va_runV (As := [.int (xs (i + 1)), .int (xs (i + 2))]) (rest := [.int r]) ⟨hx, hb, hml, hown, hts⟩ (mt_X1_may l hp1) (cwV 2 hts (lw_V q1246 q1247 q1248 q65 q1249) rfl rfl rfl hd_X1_may ⟨Nat.le_of_ble_eq_true rfl, Nat.le_of_ble_eq_true rfl⟩) ⟨x_Pc_blind, xm_recv hR1 hK, x_Pc_pre hR1 (Nat.le_refl _) hS1 hK⟩ rfl rfl hl.1 rfl (lv_room (Nat.le_of_ble_eq_true rfl)) dL_law_1023 ⟨by show cells + 540 + 0 ≤ 1200000; omega, by show slots + 1080 + 0 ≤ 5502250; omega⟩) hS1 (fun r' M2 H2 locs2 hp2 hR2 hS2 => ?_)
  obtain ⟨er, G2, hI2⟩ := hp2
  refine lv_icmp_eq (tgt := 1901) hx hb dL_law_1026 (by decide) (fun _ => ?_) (fun z => absurd er z)
  refine W.widen (k := cells + 10000) (n := slots + 42000) (by omega) (by omega) ?_
  exact kk _ _ _ _ _ hR2 hI2 hS2
set_option maxHeartbeats 4000000 in
theorem lc_21 {p : Program} {l : Launch} {e : Env} {s : State} {m : MethodId} {below : List Frame} {meth : Method} {c : Code} {H : Heap} {locs : List Loc} {cells slots : Nat} {Q : State → Prop} {ls : Array Slot} {D : va_G} {d : Nat → ClassId} {b L : Nat} {xs : Nat → Int32} {o mo i : Nat} {Aa : Nat → Nat} {G : xG} {S : xH} {M : xM} (C0 : lw_At p s m meth c b L xs) (hK : x_KK D d s) (hR : x_Rp D d (x_A s.heap.size) (x_mc d mo Aa M) S H) (hI : Inv G S o M) (hS : va_S (x_A s.heap.size) s.heap H locs) (hl : lv_has ls 4 [(3, .int (nI i)), (2, .ref mo), (1, .ref o), (0, .ref b)]) (hL : L ≤ 640) (hi : i + 9 < L) (hc : cells + 10000 ≤ 1200000) (hs : slots + 42000 ≤ 5502250) (kk : ∀ (G : xG) (S : xH) (M : xM) (H : Heap) (locs : List Loc), x_Rp D d (x_A s.heap.size) (x_mc d mo Aa M) S H → Inv G S o M → va_S (x_A s.heap.size) s.heap H locs → W p l e room_1 s m #[Value.ref b] below meth c H locs (cells + 10000) (slots + 42000) Q (F0 m 1901 ls [])) : W p l e room_1 s m #[Value.ref b] below meth c H locs cells slots Q (F0 m 1031 ls []) := by
  obtain ⟨hx, hb, hr, hml, hown, hts0, hX, hbl, hlocks, hgv⟩ := id C0
  have hts : ∀ w ∈ lw_all, w.before #[Value.ref b] s = true := fun w h => hts0 w (lw_all_tbl h)
  have hw := e_mayTruly (x := xs (i + 1)) (G := G) (S := S) (o := o) (M := M) (k := 540) (n := 1080) hI (Nat.le_refl _) (Nat.le_refl _)
  refine lv_aload_n hx hb dL_law_1031 rfl (lv_at hl 2 rfl) ?_
  refine lc_ld (k := 1) C0 hS hl hL (by omega) dL_law_1032 dL_law_1033 dL_law_1034 (by decide) dL_law_1035 dL_law_1036 ?_
  refine x_ci (va_runV (As := [.int (xs (i + 1))]) (rest := []) ⟨hx, hb, hml, hown, hts⟩ (mt_X0_mayTruly l hw) (cwV 1 hts (lw_V q638 q639 q640 q64 q641) rfl rfl rfl hd_X0_mayTruly ⟨Nat.le_of_ble_eq_true rfl, Nat.le_of_ble_eq_true rfl⟩) ⟨x_Pc_blind, hR.recv hK (ci := 0) rfl (by decide) hI.O_t, x_Pc_pre hR (Nat.le_refl _) hS hK⟩ rfl rfl hl.1 rfl (lv_room (Nat.le_of_ble_eq_true rfl)) dL_law_1037 ⟨by show cells + 540 ≤ 1200000; omega, by show slots + 1080 ≤ 5502250; omega⟩) hS (fun r S1 H1 locs1 hp hR1 hS1 => ?_)
  have hp1 := hp
  refine lv_aload_n hx hb dL_law_1040 rfl (lv_at hl 1 rfl) ?_
  refine lc_ld (k := 1) C0 hS1 hl hL (by omega) dL_law_1041 dL_law_1042 dL_law_1043 (by decide) dL_law_1044 dL_law_1045 ?_
  refine xm_ci (va_runV (As := [.int (xs (i + 1))]) (rest := [.int r]) ⟨hx, hb, hml, hown, hts⟩ (mt_X1_mayTruly l hp1) (cwV 1 hts (lw_V q1266 q1267 q1268 q65 q1269) rfl rfl rfl hd_X1_mayTruly ⟨Nat.le_of_ble_eq_true rfl, Nat.le_of_ble_eq_true rfl⟩) ⟨x_Pc_blind, xm_recv hR1 hK, x_Pc_pre hR1 (Nat.le_refl _) hS1 hK⟩ rfl rfl hl.1 rfl (lv_room (Nat.le_of_ble_eq_true rfl)) dL_law_1046 ⟨by show cells + 540 + 0 ≤ 1200000; omega, by show slots + 1080 + 0 ≤ 5502250; omega⟩) hS1 (fun r' M2 H2 locs2 hp2 hR2 hS2 => ?_)
  obtain ⟨er, G2, hI2⟩ := hp2
  refine lv_icmp_eq (tgt := 1901) hx hb dL_law_1049 (by decide) (fun _ => ?_) (fun z => absurd er z)
  refine W.widen (k := cells + 10000) (n := slots + 42000) (by omega) (by omega) ?_
  exact kk _ _ _ _ _ hR2 hI2 hS2
set_option maxHeartbeats 4000000 in
theorem lc_22 {p : Program} {l : Launch} {e : Env} {s : State} {m : MethodId} {below : List Frame} {meth : Method} {c : Code} {H : Heap} {locs : List Loc} {cells slots : Nat} {Q : State → Prop} {ls : Array Slot} {D : va_G} {d : Nat → ClassId} {b L : Nat} {xs : Nat → Int32} {o mo i : Nat} {Aa : Nat → Nat} {G : xG} {S : xH} {M : xM} (C0 : lw_At p s m meth c b L xs) (hK : x_KK D d s) (hR : x_Rp D d (x_A s.heap.size) (x_mc d mo Aa M) S H) (hI : Inv G S o M) (hS : va_S (x_A s.heap.size) s.heap H locs) (hl : lv_has ls 4 [(3, .int (nI i)), (2, .ref mo), (1, .ref o), (0, .ref b)]) (hL : L ≤ 640) (hi : i + 9 < L) (hc : cells + 10000 ≤ 1200000) (hs : slots + 42000 ≤ 5502250) (kk : ∀ (G : xG) (S : xH) (M : xM) (H : Heap) (locs : List Loc), x_Rp D d (x_A s.heap.size) (x_mc d mo Aa M) S H → Inv G S o M → va_S (x_A s.heap.size) s.heap H locs → W p l e room_1 s m #[Value.ref b] below meth c H locs (cells + 10000) (slots + 42000) Q (F0 m 1901 ls [])) : W p l e room_1 s m #[Value.ref b] below meth c H locs cells slots Q (F0 m 1054 ls []) := by
  obtain ⟨hx, hb, hr, hml, hown, hts0, hX, hbl, hlocks, hgv⟩ := id C0
  have hts : ∀ w ∈ lw_all, w.before #[Value.ref b] s = true := fun w h => hts0 w (lw_all_tbl h)
  have hw := e_take (x := xs (i + 1)) (y := xs (i + 2)) (G := G) (S := S) (o := o) (M := M) (k := 542) (n := 1089) hI (Nat.le_refl _) (Nat.le_refl _)
  refine lv_aload_n hx hb dL_law_1054 rfl (lv_at hl 2 rfl) ?_
  refine lc_ld (k := 1) C0 hS hl hL (by omega) dL_law_1055 dL_law_1056 dL_law_1057 (by decide) dL_law_1058 dL_law_1059 ?_
  refine lc_ld (k := 2) C0 hS hl hL (by omega) dL_law_1060 dL_law_1061 dL_law_1062 (by decide) dL_law_1063 dL_law_1064 ?_
  refine x_ci (va_runV (As := [.int (xs (i + 1)), .int (xs (i + 2))]) (rest := []) ⟨hx, hb, hml, hown, hts⟩ (mt_X0_take l hw) (cwV 2 hts (lw_V q646 q647 q648 q64 q649) rfl rfl rfl hd_X0_take ⟨Nat.le_of_ble_eq_true rfl, Nat.le_of_ble_eq_true rfl⟩) ⟨x_Pc_blind, hR.recv hK (ci := 0) rfl (by decide) hI.O_t, x_Pc_pre hR (Nat.le_refl _) hS hK⟩ rfl rfl hl.1 rfl (lv_room (Nat.le_of_ble_eq_true rfl)) dL_law_1065 ⟨by show cells + 542 ≤ 1200000; omega, by show slots + 1089 ≤ 5502250; omega⟩) hS (fun r S1 H1 locs1 hp hR1 hS1 => ?_)
  have hp1 := hp
  refine lv_aload_n hx hb dL_law_1068 rfl (lv_at hl 1 rfl) ?_
  refine lc_ld (k := 1) C0 hS1 hl hL (by omega) dL_law_1069 dL_law_1070 dL_law_1071 (by decide) dL_law_1072 dL_law_1073 ?_
  refine lc_ld (k := 2) C0 hS1 hl hL (by omega) dL_law_1074 dL_law_1075 dL_law_1076 (by decide) dL_law_1077 dL_law_1078 ?_
  refine xm_ci (va_runV (As := [.int (xs (i + 1)), .int (xs (i + 2))]) (rest := [.int r]) ⟨hx, hb, hml, hown, hts⟩ (mt_X1_take l hp1) (cwV 2 hts (lw_V q1274 q1275 q1276 q65 q1277) rfl rfl rfl hd_X1_take ⟨Nat.le_of_ble_eq_true rfl, Nat.le_of_ble_eq_true rfl⟩) ⟨x_Pc_blind, xm_recv hR1 hK, x_Pc_pre hR1 (Nat.le_refl _) hS1 hK⟩ rfl rfl hl.1 rfl (lv_room (Nat.le_of_ble_eq_true rfl)) dL_law_1079 ⟨by show cells + 542 + 0 ≤ 1200000; omega, by show slots + 1089 + 0 ≤ 5502250; omega⟩) hS1 (fun r' M2 H2 locs2 hp2 hR2 hS2 => ?_)
  obtain ⟨er, G2, hI2⟩ := hp2
  refine lv_icmp_eq (tgt := 1901) hx hb dL_law_1082 (by decide) (fun _ => ?_) (fun z => absurd er z)
  refine W.widen (k := cells + 10000) (n := slots + 42000) (by omega) (by omega) ?_
  exact kk _ _ _ _ _ hR2 hI2 hS2
set_option maxHeartbeats 4000000 in
theorem lc_23 {p : Program} {l : Launch} {e : Env} {s : State} {m : MethodId} {below : List Frame} {meth : Method} {c : Code} {H : Heap} {locs : List Loc} {cells slots : Nat} {Q : State → Prop} {ls : Array Slot} {D : va_G} {d : Nat → ClassId} {b L : Nat} {xs : Nat → Int32} {o mo i : Nat} {Aa : Nat → Nat} {G : xG} {S : xH} {M : xM} (C0 : lw_At p s m meth c b L xs) (hK : x_KK D d s) (hR : x_Rp D d (x_A s.heap.size) (x_mc d mo Aa M) S H) (hI : Inv G S o M) (hS : va_S (x_A s.heap.size) s.heap H locs) (hl : lv_has ls 4 [(3, .int (nI i)), (2, .ref mo), (1, .ref o), (0, .ref b)]) (hL : L ≤ 640) (hi : i + 9 < L) (hc : cells + 10000 ≤ 1200000) (hs : slots + 42000 ≤ 5502250) (kk : ∀ (G : xG) (S : xH) (M : xM) (H : Heap) (locs : List Loc), x_Rp D d (x_A s.heap.size) (x_mc d mo Aa M) S H → Inv G S o M → va_S (x_A s.heap.size) s.heap H locs → W p l e room_1 s m #[Value.ref b] below meth c H locs (cells + 10000) (slots + 42000) Q (F0 m 1901 ls [])) : W p l e room_1 s m #[Value.ref b] below meth c H locs cells slots Q (F0 m 1087 ls []) := by
  obtain ⟨hx, hb, hr, hml, hown, hts0, hX, hbl, hlocks, hgv⟩ := id C0
  have hts : ∀ w ∈ lw_all, w.before #[Value.ref b] s = true := fun w h => hts0 w (lw_all_tbl h)
  have hw := e_taking (x := xs (i + 1)) (y := xs (i + 2)) (G := G) (S := S) (o := o) (M := M) hI
  refine lv_aload_n hx hb dL_law_1087 rfl (lv_at hl 2 rfl) ?_
  refine lc_ld (k := 1) C0 hS hl hL (by omega) dL_law_1088 dL_law_1089 dL_law_1090 (by decide) dL_law_1091 dL_law_1092 ?_
  refine lc_ld (k := 2) C0 hS hl hL (by omega) dL_law_1093 dL_law_1094 dL_law_1095 (by decide) dL_law_1096 dL_law_1097 ?_
  refine x_ci (va_runV (As := [.int (xs (i + 1)), .int (xs (i + 2))]) (rest := []) ⟨hx, hb, hml, hown, hts⟩ (mt_X0_taking l hw) (cwV 2 hts (lw_V q684 q685 q686 q64 q687) rfl rfl rfl hd_X0_taking ⟨Nat.le_of_ble_eq_true rfl, Nat.le_of_ble_eq_true rfl⟩) ⟨x_Pc_blind, hR.recv hK (ci := 0) rfl (by decide) hI.O_t, x_Pc_pre hR (Nat.le_refl _) hS hK⟩ rfl rfl hl.1 rfl (lv_room (Nat.le_of_ble_eq_true rfl)) dL_law_1098 ⟨by show cells + 0 ≤ 1200000; omega, by show slots + 0 ≤ 5502250; omega⟩) hS (fun r S1 H1 locs1 hp hR1 hS1 => ?_)
  have hp1 := hp.2
  rw [hp.1] at hR1
  refine lv_aload_n hx hb dL_law_1101 rfl (lv_at hl 1 rfl) ?_
  refine lc_ld (k := 1) C0 hS1 hl hL (by omega) dL_law_1102 dL_law_1103 dL_law_1104 (by decide) dL_law_1105 dL_law_1106 ?_
  refine lc_ld (k := 2) C0 hS1 hl hL (by omega) dL_law_1107 dL_law_1108 dL_law_1109 (by decide) dL_law_1110 dL_law_1111 ?_
  refine xm_ci (va_runV (As := [.int (xs (i + 1)), .int (xs (i + 2))]) (rest := [.int r]) ⟨hx, hb, hml, hown, hts⟩ (mt_X1_taking l hp1) (cwV 2 hts (lw_V q1282 q1283 q1284 q65 q1285) rfl rfl rfl hd_X1_taking ⟨Nat.le_of_ble_eq_true rfl, Nat.le_of_ble_eq_true rfl⟩) ⟨x_Pc_blind, xm_recv hR1 hK, x_Pc_pre hR1 (Nat.le_refl _) hS1 hK⟩ rfl rfl hl.1 rfl (lv_room (Nat.le_of_ble_eq_true rfl)) dL_law_1112 ⟨by show cells + 0 + 0 ≤ 1200000; omega, by show slots + 0 + 0 ≤ 5502250; omega⟩) hS1 (fun r' M2 H2 locs2 hp2 hR2 hS2 => ?_)
  obtain ⟨er, G2, hI2⟩ := hp2
  refine lv_icmp_eq (tgt := 1901) hx hb dL_law_1115 (by decide) (fun _ => ?_) (fun z => absurd er z)
  refine W.widen (k := cells + 10000) (n := slots + 42000) (by omega) (by omega) ?_
  exact kk _ _ _ _ _ hR2 hI2 hS2
set_option maxHeartbeats 4000000 in
theorem lc_24 {p : Program} {l : Launch} {e : Env} {s : State} {m : MethodId} {below : List Frame} {meth : Method} {c : Code} {H : Heap} {locs : List Loc} {cells slots : Nat} {Q : State → Prop} {ls : Array Slot} {D : va_G} {d : Nat → ClassId} {b L : Nat} {xs : Nat → Int32} {o mo i : Nat} {Aa : Nat → Nat} {G : xG} {S : xH} {M : xM} (C0 : lw_At p s m meth c b L xs) (hK : x_KK D d s) (hR : x_Rp D d (x_A s.heap.size) (x_mc d mo Aa M) S H) (hI : Inv G S o M) (hS : va_S (x_A s.heap.size) s.heap H locs) (hl : lv_has ls 4 [(3, .int (nI i)), (2, .ref mo), (1, .ref o), (0, .ref b)]) (hL : L ≤ 640) (hi : i + 9 < L) (hc : cells + 10000 ≤ 1200000) (hs : slots + 42000 ≤ 5502250) (kk : ∀ (G : xG) (S : xH) (M : xM) (H : Heap) (locs : List Loc), x_Rp D d (x_A s.heap.size) (x_mc d mo Aa M) S H → Inv G S o M → va_S (x_A s.heap.size) s.heap H locs → W p l e room_1 s m #[Value.ref b] below meth c H locs (cells + 10000) (slots + 42000) Q (F0 m 1901 ls [])) : W p l e room_1 s m #[Value.ref b] below meth c H locs cells slots Q (F0 m 1120 ls []) := by
  obtain ⟨hx, hb, hr, hml, hown, hts0, hX, hbl, hlocks, hgv⟩ := id C0
  have hts : ∀ w ∈ lw_all, w.before #[Value.ref b] s = true := fun w h => hts0 w (lw_all_tbl h)
  have hw := e_wronged (G := G) (S := S) (o := o) (M := M) hI
  refine lv_aload_n hx hb dL_law_1120 rfl (lv_at hl 2 rfl) ?_
  refine x_ci (va_runV (As := []) (rest := []) ⟨hx, hb, hml, hown, hts⟩ (mt_X0_wronged l hw) (cwV 0 hts (lw_V q688 q689 q690 q64 q691) rfl rfl rfl hd_X0_wronged ⟨Nat.le_of_ble_eq_true rfl, Nat.le_of_ble_eq_true rfl⟩) ⟨x_Pc_blind, hR.recv hK (ci := 0) rfl (by decide) hI.O_t, x_Pc_pre hR (Nat.le_refl _) hS hK⟩ rfl rfl hl.1 rfl (lv_room (Nat.le_of_ble_eq_true rfl)) dL_law_1121 ⟨by show cells + 0 ≤ 1200000; omega, by show slots + 0 ≤ 5502250; omega⟩) hS (fun r S1 H1 locs1 hp hR1 hS1 => ?_)
  have hp1 := hp.2
  rw [hp.1] at hR1
  refine lv_aload_n hx hb dL_law_1124 rfl (lv_at hl 1 rfl) ?_
  refine xm_ci (va_runV (As := []) (rest := [.int r]) ⟨hx, hb, hml, hown, hts⟩ (mt_X1_wronged l hp1) (cwV 0 hts (lw_V q1286 q1287 q1288 q65 q1289) rfl rfl rfl hd_X1_wronged ⟨Nat.le_of_ble_eq_true rfl, Nat.le_of_ble_eq_true rfl⟩) ⟨x_Pc_blind, xm_recv hR1 hK, x_Pc_pre hR1 (Nat.le_refl _) hS1 hK⟩ rfl rfl hl.1 rfl (lv_room (Nat.le_of_ble_eq_true rfl)) dL_law_1125 ⟨by show cells + 0 + 0 ≤ 1200000; omega, by show slots + 0 + 0 ≤ 5502250; omega⟩) hS1 (fun r' M2 H2 locs2 hp2 hR2 hS2 => ?_)
  obtain ⟨er, G2, hI2⟩ := hp2
  refine lv_icmp_eq (tgt := 1901) hx hb dL_law_1128 (by decide) (fun _ => ?_) (fun z => absurd er z)
  refine W.widen (k := cells + 10000) (n := slots + 42000) (by omega) (by omega) ?_
  exact kk _ _ _ _ _ hR2 hI2 hS2
